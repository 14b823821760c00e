set_option maxRecDepth 100000
abbrev cX2_isKey : ByteArray := prog_26_method_27_code
def yX2_isKey : MethodName := ⟨"TripleStoreModel", "isKey", "(I)Z"⟩
theorem dX2_isKey_0 : decode cX2_isKey 0 = .ok (.aload_n 0, 1) := by decide +kernel
theorem dX2_isKey_1 : decode cX2_isKey 1 = .ok (.getfield 181, 3) := by decide +kernel
theorem dX2_isKey_4 : decode cX2_isKey 4 = .ok (.iconst 1, 1) := by decide +kernel
theorem dX2_isKey_5 : decode cX2_isKey 5 = .ok (.if_icmp .eq 5, 3) := by decide +kernel
theorem dX2_isKey_8 : decode cX2_isKey 8 = .ok (.iconst 0, 1) := by decide +kernel
theorem dX2_isKey_9 : decode cX2_isKey 9 = .ok (.ireturn, 1) := by decide +kernel
theorem dX2_isKey_10 : decode cX2_isKey 10 = .ok (.iload_n 1, 1) := by decide +kernel
theorem dX2_isKey_11 : decode cX2_isKey 11 = .ok (.ifCond .ne 9, 3) := by decide +kernel
theorem dX2_isKey_14 : decode cX2_isKey 14 = .ok (.ldc2_w 195, 3) := by decide +kernel
theorem dX2_isKey_17 : decode cX2_isKey 17 = .ok (.goto 109, 3) := by decide +kernel
theorem dX2_isKey_20 : decode cX2_isKey 20 = .ok (.iload_n 1, 1) := by decide +kernel
theorem dX2_isKey_21 : decode cX2_isKey 21 = .ok (.iconst 1, 1) := by decide +kernel
theorem dX2_isKey_22 : decode cX2_isKey 22 = .ok (.if_icmp .ne 9, 3) := by decide +kernel
theorem dX2_isKey_25 : decode cX2_isKey 25 = .ok (.ldc2_w 197, 3) := by decide +kernel
theorem dX2_isKey_28 : decode cX2_isKey 28 = .ok (.goto 98, 3) := by decide +kernel
theorem dX2_isKey_31 : decode cX2_isKey 31 = .ok (.iload_n 1, 1) := by decide +kernel
theorem dX2_isKey_32 : decode cX2_isKey 32 = .ok (.iconst 2, 1) := by decide +kernel
theorem dX2_isKey_33 : decode cX2_isKey 33 = .ok (.if_icmp .ne 9, 3) := by decide +kernel
theorem dX2_isKey_36 : decode cX2_isKey 36 = .ok (.ldc2_w 199, 3) := by decide +kernel
theorem dX2_isKey_39 : decode cX2_isKey 39 = .ok (.goto 87, 3) := by decide +kernel
theorem dX2_isKey_42 : decode cX2_isKey 42 = .ok (.iload_n 1, 1) := by decide +kernel
theorem dX2_isKey_43 : decode cX2_isKey 43 = .ok (.iconst 3, 1) := by decide +kernel
theorem dX2_isKey_44 : decode cX2_isKey 44 = .ok (.if_icmp .ne 9, 3) := by decide +kernel
theorem dX2_isKey_47 : decode cX2_isKey 47 = .ok (.ldc2_w 201, 3) := by decide +kernel
theorem dX2_isKey_50 : decode cX2_isKey 50 = .ok (.goto 76, 3) := by decide +kernel
theorem dX2_isKey_53 : decode cX2_isKey 53 = .ok (.iload_n 1, 1) := by decide +kernel
theorem dX2_isKey_54 : decode cX2_isKey 54 = .ok (.iconst 4, 1) := by decide +kernel
theorem dX2_isKey_55 : decode cX2_isKey 55 = .ok (.if_icmp .ne 9, 3) := by decide +kernel
theorem dX2_isKey_58 : decode cX2_isKey 58 = .ok (.ldc2_w 203, 3) := by decide +kernel
theorem dX2_isKey_61 : decode cX2_isKey 61 = .ok (.goto 65, 3) := by decide +kernel
theorem dX2_isKey_64 : decode cX2_isKey 64 = .ok (.iload_n 1, 1) := by decide +kernel
theorem dX2_isKey_65 : decode cX2_isKey 65 = .ok (.iconst 5, 1) := by decide +kernel
theorem dX2_isKey_66 : decode cX2_isKey 66 = .ok (.if_icmp .ne 9, 3) := by decide +kernel
theorem dX2_isKey_69 : decode cX2_isKey 69 = .ok (.ldc2_w 205, 3) := by decide +kernel
theorem dX2_isKey_72 : decode cX2_isKey 72 = .ok (.goto 54, 3) := by decide +kernel
theorem dX2_isKey_75 : decode cX2_isKey 75 = .ok (.iload_n 1, 1) := by decide +kernel
theorem dX2_isKey_76 : decode cX2_isKey 76 = .ok (.bipush 6, 2) := by decide +kernel
theorem dX2_isKey_78 : decode cX2_isKey 78 = .ok (.if_icmp .ne 9, 3) := by decide +kernel
theorem dX2_isKey_81 : decode cX2_isKey 81 = .ok (.ldc2_w 207, 3) := by decide +kernel
theorem dX2_isKey_84 : decode cX2_isKey 84 = .ok (.goto 42, 3) := by decide +kernel
theorem dX2_isKey_87 : decode cX2_isKey 87 = .ok (.iload_n 1, 1) := by decide +kernel
theorem dX2_isKey_88 : decode cX2_isKey 88 = .ok (.bipush 7, 2) := by decide +kernel
theorem dX2_isKey_90 : decode cX2_isKey 90 = .ok (.if_icmp .ne 9, 3) := by decide +kernel
theorem dX2_isKey_93 : decode cX2_isKey 93 = .ok (.ldc2_w 209, 3) := by decide +kernel
theorem dX2_isKey_96 : decode cX2_isKey 96 = .ok (.goto 30, 3) := by decide +kernel
theorem dX2_isKey_99 : decode cX2_isKey 99 = .ok (.iload_n 1, 1) := by decide +kernel
theorem dX2_isKey_100 : decode cX2_isKey 100 = .ok (.bipush 8, 2) := by decide +kernel
theorem dX2_isKey_102 : decode cX2_isKey 102 = .ok (.if_icmp .ne 9, 3) := by decide +kernel
theorem dX2_isKey_105 : decode cX2_isKey 105 = .ok (.ldc2_w 211, 3) := by decide +kernel
theorem dX2_isKey_108 : decode cX2_isKey 108 = .ok (.goto 18, 3) := by decide +kernel
theorem dX2_isKey_111 : decode cX2_isKey 111 = .ok (.iload_n 1, 1) := by decide +kernel
theorem dX2_isKey_112 : decode cX2_isKey 112 = .ok (.bipush 9, 2) := by decide +kernel
theorem dX2_isKey_114 : decode cX2_isKey 114 = .ok (.if_icmp .ne 9, 3) := by decide +kernel
theorem dX2_isKey_117 : decode cX2_isKey 117 = .ok (.ldc2_w 213, 3) := by decide +kernel
theorem dX2_isKey_120 : decode cX2_isKey 120 = .ok (.goto 6, 3) := by decide +kernel
theorem dX2_isKey_123 : decode cX2_isKey 123 = .ok (.ldc2_w 215, 3) := by decide +kernel
theorem dX2_isKey_126 : decode cX2_isKey 126 = .ok (.lstore_n 2, 1) := by decide +kernel
theorem dX2_isKey_127 : decode cX2_isKey 127 = .ok (.aload_n 0, 1) := by decide +kernel
theorem dX2_isKey_128 : decode cX2_isKey 128 = .ok (.getfield 164, 3) := by decide +kernel
theorem dX2_isKey_131 : decode cX2_isKey 131 = .ok (.lload_n 2, 1) := by decide +kernel
theorem dX2_isKey_132 : decode cX2_isKey 132 = .ok (.lcmp, 1) := by decide +kernel
theorem dX2_isKey_133 : decode cX2_isKey 133 = .ok (.ifCond .ne 7, 3) := by decide +kernel
theorem dX2_isKey_136 : decode cX2_isKey 136 = .ok (.iconst 1, 1) := by decide +kernel
theorem dX2_isKey_137 : decode cX2_isKey 137 = .ok (.goto 4, 3) := by decide +kernel
theorem dX2_isKey_140 : decode cX2_isKey 140 = .ok (.iconst 0, 1) := by decide +kernel
theorem dX2_isKey_141 : decode cX2_isKey 141 = .ok (.ireturn, 1) := by decide +kernel
abbrev cX2_goOn : ByteArray := prog_26_method_31_code
def yX2_goOn : MethodName := ⟨"TripleStoreModel", "goOn", "(Z)Z"⟩
theorem dX2_goOn_0 : decode cX2_goOn 0 = .ok (.iload_n 1, 1) := by decide +kernel
theorem dX2_goOn_1 : decode cX2_goOn 1 = .ok (.ifCond .ne 7, 3) := by decide +kernel
theorem dX2_goOn_4 : decode cX2_goOn 4 = .ok (.aload_n 0, 1) := by decide +kernel
theorem dX2_goOn_5 : decode cX2_goOn 5 = .ok (.invokevirtual 223, 3) := by decide +kernel
theorem dX2_goOn_8 : decode cX2_goOn 8 = .ok (.aload_n 0, 1) := by decide +kernel
theorem dX2_goOn_9 : decode cX2_goOn 9 = .ok (.getfield 220, 3) := by decide +kernel
theorem dX2_goOn_12 : decode cX2_goOn 12 = .ok (.ifCond .lt 5, 3) := by decide +kernel
theorem dX2_goOn_15 : decode cX2_goOn 15 = .ok (.iconst 0, 1) := by decide +kernel
theorem dX2_goOn_16 : decode cX2_goOn 16 = .ok (.ireturn, 1) := by decide +kernel
theorem dX2_goOn_17 : decode cX2_goOn 17 = .ok (.aload_n 0, 1) := by decide +kernel
theorem dX2_goOn_18 : decode cX2_goOn 18 = .ok (.invokevirtual 226, 3) := by decide +kernel
theorem dX2_goOn_21 : decode cX2_goOn 21 = .ok (.iconst 1, 1) := by decide +kernel
theorem dX2_goOn_22 : decode cX2_goOn 22 = .ok (.ireturn, 1) := by decide +kernel
abbrev cX2_stop : ByteArray := prog_26_method_30_code
def yX2_stop : MethodName := ⟨"TripleStoreModel", "stop", "()V"⟩
theorem dX2_stop_0 : decode cX2_stop 0 = .ok (.aload_n 0, 1) := by decide +kernel
theorem dX2_stop_1 : decode cX2_stop 1 = .ok (.getfield 220, 3) := by decide +kernel
theorem dX2_stop_4 : decode cX2_stop 4 = .ok (.ifCond .ge 25, 3) := by decide +kernel
theorem dX2_stop_7 : decode cX2_stop 7 = .ok (.aload_n 0, 1) := by decide +kernel
theorem dX2_stop_8 : decode cX2_stop 8 = .ok (.aload_n 0, 1) := by decide +kernel
theorem dX2_stop_9 : decode cX2_stop 9 = .ok (.getfield 181, 3) := by decide +kernel
theorem dX2_stop_12 : decode cX2_stop 12 = .ok (.ifCond .ne 10, 3) := by decide +kernel
theorem dX2_stop_15 : decode cX2_stop 15 = .ok (.aload_n 0, 1) := by decide +kernel
theorem dX2_stop_16 : decode cX2_stop 16 = .ok (.getfield 175, 3) := by decide +kernel
theorem dX2_stop_19 : decode cX2_stop 19 = .ok (.goto 7, 3) := by decide +kernel
theorem dX2_stop_22 : decode cX2_stop 22 = .ok (.aload_n 0, 1) := by decide +kernel
theorem dX2_stop_23 : decode cX2_stop 23 = .ok (.getfield 178, 3) := by decide +kernel
theorem dX2_stop_26 : decode cX2_stop 26 = .ok (.putfield 220, 3) := by decide +kernel
theorem dX2_stop_29 : decode cX2_stop 29 = .ok (.return_, 1) := by decide +kernel
abbrev cX2_readVariable : ByteArray := prog_26_method_32_code
def yX2_readVariable : MethodName := ⟨"TripleStoreModel", "readVariable", "()I"⟩
theorem dX2_readVariable_0 : decode cX2_readVariable 0 = .ok (.iconst (-1), 1) := by decide +kernel
theorem dX2_readVariable_1 : decode cX2_readVariable 1 = .ok (.istore_n 1, 1) := by decide +kernel
theorem dX2_readVariable_2 : decode cX2_readVariable 2 = .ok (.iconst 0, 1) := by decide +kernel
theorem dX2_readVariable_3 : decode cX2_readVariable 3 = .ok (.istore_n 2, 1) := by decide +kernel
theorem dX2_readVariable_4 : decode cX2_readVariable 4 = .ok (.iload_n 2, 1) := by decide +kernel
theorem dX2_readVariable_5 : decode cX2_readVariable 5 = .ok (.aload_n 0, 1) := by decide +kernel
theorem dX2_readVariable_6 : decode cX2_readVariable 6 = .ok (.getfield 229, 3) := by decide +kernel
theorem dX2_readVariable_9 : decode cX2_readVariable 9 = .ok (.if_icmp .ge 25, 3) := by decide +kernel
theorem dX2_readVariable_12 : decode cX2_readVariable 12 = .ok (.aload_n 0, 1) := by decide +kernel
theorem dX2_readVariable_13 : decode cX2_readVariable 13 = .ok (.getfield 34, 3) := by decide +kernel
theorem dX2_readVariable_16 : decode cX2_readVariable 16 = .ok (.iload_n 2, 1) := by decide +kernel
theorem dX2_readVariable_17 : decode cX2_readVariable 17 = .ok (.laload, 1) := by decide +kernel
theorem dX2_readVariable_18 : decode cX2_readVariable 18 = .ok (.aload_n 0, 1) := by decide +kernel
theorem dX2_readVariable_19 : decode cX2_readVariable 19 = .ok (.getfield 164, 3) := by decide +kernel
theorem dX2_readVariable_22 : decode cX2_readVariable 22 = .ok (.lcmp, 1) := by decide +kernel
theorem dX2_readVariable_23 : decode cX2_readVariable 23 = .ok (.ifCond .ne 5, 3) := by decide +kernel
theorem dX2_readVariable_26 : decode cX2_readVariable 26 = .ok (.iload_n 2, 1) := by decide +kernel
theorem dX2_readVariable_27 : decode cX2_readVariable 27 = .ok (.istore_n 1, 1) := by decide +kernel
theorem dX2_readVariable_28 : decode cX2_readVariable 28 = .ok (.iinc 2 1, 3) := by decide +kernel
theorem dX2_readVariable_31 : decode cX2_readVariable 31 = .ok (.goto (-27), 3) := by decide +kernel
theorem dX2_readVariable_34 : decode cX2_readVariable 34 = .ok (.aload_n 0, 1) := by decide +kernel
theorem dX2_readVariable_35 : decode cX2_readVariable 35 = .ok (.getfield 181, 3) := by decide +kernel
theorem dX2_readVariable_38 : decode cX2_readVariable 38 = .ok (.iconst 3, 1) := by decide +kernel
theorem dX2_readVariable_39 : decode cX2_readVariable 39 = .ok (.if_icmp .ne 44, 3) := by decide +kernel
theorem dX2_readVariable_42 : decode cX2_readVariable 42 = .ok (.iload_n 1, 1) := by decide +kernel
theorem dX2_readVariable_43 : decode cX2_readVariable 43 = .ok (.ifCond .ge 40, 3) := by decide +kernel
theorem dX2_readVariable_46 : decode cX2_readVariable 46 = .ok (.aload_n 0, 1) := by decide +kernel
theorem dX2_readVariable_47 : decode cX2_readVariable 47 = .ok (.getfield 229, 3) := by decide +kernel
theorem dX2_readVariable_50 : decode cX2_readVariable 50 = .ok (.bipush 6, 2) := by decide +kernel
theorem dX2_readVariable_52 : decode cX2_readVariable 52 = .ok (.if_icmp .ge 31, 3) := by decide +kernel
theorem dX2_readVariable_55 : decode cX2_readVariable 55 = .ok (.aload_n 0, 1) := by decide +kernel
theorem dX2_readVariable_56 : decode cX2_readVariable 56 = .ok (.getfield 34, 3) := by decide +kernel
theorem dX2_readVariable_59 : decode cX2_readVariable 59 = .ok (.aload_n 0, 1) := by decide +kernel
theorem dX2_readVariable_60 : decode cX2_readVariable 60 = .ok (.getfield 229, 3) := by decide +kernel
theorem dX2_readVariable_63 : decode cX2_readVariable 63 = .ok (.aload_n 0, 1) := by decide +kernel
theorem dX2_readVariable_64 : decode cX2_readVariable 64 = .ok (.getfield 164, 3) := by decide +kernel
theorem dX2_readVariable_67 : decode cX2_readVariable 67 = .ok (.lastore, 1) := by decide +kernel
theorem dX2_readVariable_68 : decode cX2_readVariable 68 = .ok (.aload_n 0, 1) := by decide +kernel
theorem dX2_readVariable_69 : decode cX2_readVariable 69 = .ok (.getfield 229, 3) := by decide +kernel
theorem dX2_readVariable_72 : decode cX2_readVariable 72 = .ok (.istore_n 1, 1) := by decide +kernel
theorem dX2_readVariable_73 : decode cX2_readVariable 73 = .ok (.aload_n 0, 1) := by decide +kernel
theorem dX2_readVariable_74 : decode cX2_readVariable 74 = .ok (.dup, 1) := by decide +kernel
theorem dX2_readVariable_75 : decode cX2_readVariable 75 = .ok (.getfield 229, 3) := by decide +kernel
theorem dX2_readVariable_78 : decode cX2_readVariable 78 = .ok (.iconst 1, 1) := by decide +kernel
theorem dX2_readVariable_79 : decode cX2_readVariable 79 = .ok (.iadd, 1) := by decide +kernel
theorem dX2_readVariable_80 : decode cX2_readVariable 80 = .ok (.putfield 229, 3) := by decide +kernel
theorem dX2_readVariable_83 : decode cX2_readVariable 83 = .ok (.aload_n 0, 1) := by decide +kernel
theorem dX2_readVariable_84 : decode cX2_readVariable 84 = .ok (.aload_n 0, 1) := by decide +kernel
theorem dX2_readVariable_85 : decode cX2_readVariable 85 = .ok (.getfield 181, 3) := by decide +kernel
theorem dX2_readVariable_88 : decode cX2_readVariable 88 = .ok (.iconst 3, 1) := by decide +kernel
theorem dX2_readVariable_89 : decode cX2_readVariable 89 = .ok (.if_icmp .ne 11, 3) := by decide +kernel
theorem dX2_readVariable_92 : decode cX2_readVariable 92 = .ok (.iload_n 1, 1) := by decide +kernel
theorem dX2_readVariable_93 : decode cX2_readVariable 93 = .ok (.ifCond .lt 7, 3) := by decide +kernel
theorem dX2_readVariable_96 : decode cX2_readVariable 96 = .ok (.iconst 1, 1) := by decide +kernel
theorem dX2_readVariable_97 : decode cX2_readVariable 97 = .ok (.goto 4, 3) := by decide +kernel
theorem dX2_readVariable_100 : decode cX2_readVariable 100 = .ok (.iconst 0, 1) := by decide +kernel
theorem dX2_readVariable_101 : decode cX2_readVariable 101 = .ok (.invokevirtual 232, 3) := by decide +kernel
theorem dX2_readVariable_104 : decode cX2_readVariable 104 = .ok (.ifCond .eq 7, 3) := by decide +kernel
theorem dX2_readVariable_107 : decode cX2_readVariable 107 = .ok (.iload_n 1, 1) := by decide +kernel
theorem dX2_readVariable_108 : decode cX2_readVariable 108 = .ok (.goto 4, 3) := by decide +kernel
theorem dX2_readVariable_111 : decode cX2_readVariable 111 = .ok (.iconst (-1), 1) := by decide +kernel
theorem dX2_readVariable_112 : decode cX2_readVariable 112 = .ok (.ireturn, 1) := by decide +kernel
abbrev cX2_readGroups : ByteArray := prog_26_method_40_code
def yX2_readGroups : MethodName := ⟨"TripleStoreModel", "readGroups", "()V"⟩
theorem dX2_readGroups_0 : decode cX2_readGroups 0 = .ok (.aload_n 0, 1) := by decide +kernel
theorem dX2_readGroups_1 : decode cX2_readGroups 1 = .ok (.iconst 0, 1) := by decide +kernel
theorem dX2_readGroups_2 : decode cX2_readGroups 2 = .ok (.invokevirtual 275, 3) := by decide +kernel
theorem dX2_readGroups_5 : decode cX2_readGroups 5 = .ok (.aload_n 0, 1) := by decide +kernel
theorem dX2_readGroups_6 : decode cX2_readGroups 6 = .ok (.getfield 220, 3) := by decide +kernel
theorem dX2_readGroups_9 : decode cX2_readGroups 9 = .ok (.ifCond .ge 116, 3) := by decide +kernel
theorem dX2_readGroups_12 : decode cX2_readGroups 12 = .ok (.aload_n 0, 1) := by decide +kernel
theorem dX2_readGroups_13 : decode cX2_readGroups 13 = .ok (.getfield 250, 3) := by decide +kernel
theorem dX2_readGroups_16 : decode cX2_readGroups 16 = .ok (.ifCond .le 109, 3) := by decide +kernel
theorem dX2_readGroups_19 : decode cX2_readGroups 19 = .ok (.aload_n 0, 1) := by decide +kernel
theorem dX2_readGroups_20 : decode cX2_readGroups 20 = .ok (.getfield 281, 3) := by decide +kernel
theorem dX2_readGroups_23 : decode cX2_readGroups 23 = .ok (.ifCond .eq 42, 3) := by decide +kernel
theorem dX2_readGroups_26 : decode cX2_readGroups 26 = .ok (.aload_n 0, 1) := by decide +kernel
theorem dX2_readGroups_27 : decode cX2_readGroups 27 = .ok (.bipush 125, 2) := by decide +kernel
theorem dX2_readGroups_29 : decode cX2_readGroups 29 = .ok (.invokevirtual 256, 3) := by decide +kernel
theorem dX2_readGroups_32 : decode cX2_readGroups 32 = .ok (.ifCond .ne 33, 3) := by decide +kernel
theorem dX2_readGroups_35 : decode cX2_readGroups 35 = .ok (.aload_n 0, 1) := by decide +kernel
theorem dX2_readGroups_36 : decode cX2_readGroups 36 = .ok (.iconst 0, 1) := by decide +kernel
theorem dX2_readGroups_37 : decode cX2_readGroups 37 = .ok (.putfield 281, 3) := by decide +kernel
theorem dX2_readGroups_40 : decode cX2_readGroups 40 = .ok (.aload_n 0, 1) := by decide +kernel
theorem dX2_readGroups_41 : decode cX2_readGroups 41 = .ok (.invokevirtual 284, 3) := by decide +kernel
theorem dX2_readGroups_44 : decode cX2_readGroups 44 = .ok (.aload_n 0, 1) := by decide +kernel
theorem dX2_readGroups_45 : decode cX2_readGroups 45 = .ok (.getfield 220, 3) := by decide +kernel
theorem dX2_readGroups_48 : decode cX2_readGroups 48 = .ok (.ifCond .ge (-43), 3) := by decide +kernel
theorem dX2_readGroups_51 : decode cX2_readGroups 51 = .ok (.aload_n 0, 1) := by decide +kernel
theorem dX2_readGroups_52 : decode cX2_readGroups 52 = .ok (.getfield 262, 3) := by decide +kernel
theorem dX2_readGroups_55 : decode cX2_readGroups 55 = .ok (.ifCond .eq (-50), 3) := by decide +kernel
theorem dX2_readGroups_58 : decode cX2_readGroups 58 = .ok (.aload_n 0, 1) := by decide +kernel
theorem dX2_readGroups_59 : decode cX2_readGroups 59 = .ok (.invokevirtual 287, 3) := by decide +kernel
theorem dX2_readGroups_62 : decode cX2_readGroups 62 = .ok (.goto (-57), 3) := by decide +kernel
theorem dX2_readGroups_65 : decode cX2_readGroups 65 = .ok (.aload_n 0, 1) := by decide +kernel
theorem dX2_readGroups_66 : decode cX2_readGroups 66 = .ok (.bipush 125, 2) := by decide +kernel
theorem dX2_readGroups_68 : decode cX2_readGroups 68 = .ok (.invokevirtual 256, 3) := by decide +kernel
theorem dX2_readGroups_71 : decode cX2_readGroups 71 = .ok (.ifCond .eq 15, 3) := by decide +kernel
theorem dX2_readGroups_74 : decode cX2_readGroups 74 = .ok (.aload_n 0, 1) := by decide +kernel
theorem dX2_readGroups_75 : decode cX2_readGroups 75 = .ok (.iconst 0, 1) := by decide +kernel
theorem dX2_readGroups_76 : decode cX2_readGroups 76 = .ok (.putfield 281, 3) := by decide +kernel
theorem dX2_readGroups_79 : decode cX2_readGroups 79 = .ok (.aload_n 0, 1) := by decide +kernel
theorem dX2_readGroups_80 : decode cX2_readGroups 80 = .ok (.invokevirtual 290, 3) := by decide +kernel
theorem dX2_readGroups_83 : decode cX2_readGroups 83 = .ok (.goto (-78), 3) := by decide +kernel
theorem dX2_readGroups_86 : decode cX2_readGroups 86 = .ok (.aload_n 0, 1) := by decide +kernel
theorem dX2_readGroups_87 : decode cX2_readGroups 87 = .ok (.aload_n 0, 1) := by decide +kernel
theorem dX2_readGroups_88 : decode cX2_readGroups 88 = .ok (.bipush 46, 2) := by decide +kernel
theorem dX2_readGroups_90 : decode cX2_readGroups 90 = .ok (.invokevirtual 256, 3) := by decide +kernel
theorem dX2_readGroups_93 : decode cX2_readGroups 93 = .ok (.invokevirtual 232, 3) := by decide +kernel
theorem dX2_readGroups_96 : decode cX2_readGroups 96 = .ok (.ifCond .ne 4, 3) := by decide +kernel
theorem dX2_readGroups_99 : decode cX2_readGroups 99 = .ok (.return_, 1) := by decide +kernel
theorem dX2_readGroups_100 : decode cX2_readGroups 100 = .ok (.aload_n 0, 1) := by decide +kernel
theorem dX2_readGroups_101 : decode cX2_readGroups 101 = .ok (.invokevirtual 284, 3) := by decide +kernel
theorem dX2_readGroups_104 : decode cX2_readGroups 104 = .ok (.aload_n 0, 1) := by decide +kernel
theorem dX2_readGroups_105 : decode cX2_readGroups 105 = .ok (.getfield 220, 3) := by decide +kernel
theorem dX2_readGroups_108 : decode cX2_readGroups 108 = .ok (.ifCond .ge (-103), 3) := by decide +kernel
theorem dX2_readGroups_111 : decode cX2_readGroups 111 = .ok (.aload_n 0, 1) := by decide +kernel
theorem dX2_readGroups_112 : decode cX2_readGroups 112 = .ok (.getfield 262, 3) := by decide +kernel
theorem dX2_readGroups_115 : decode cX2_readGroups 115 = .ok (.ifCond .eq (-110), 3) := by decide +kernel
theorem dX2_readGroups_118 : decode cX2_readGroups 118 = .ok (.aload_n 0, 1) := by decide +kernel
theorem dX2_readGroups_119 : decode cX2_readGroups 119 = .ok (.invokevirtual 287, 3) := by decide +kernel
theorem dX2_readGroups_122 : decode cX2_readGroups 122 = .ok (.goto (-117), 3) := by decide +kernel
theorem dX2_readGroups_125 : decode cX2_readGroups 125 = .ok (.return_, 1) := by decide +kernel
abbrev cX2_readStart : ByteArray := prog_26_method_38_code
def yX2_readStart : MethodName := ⟨"TripleStoreModel", "readStart", "(I)V"⟩
theorem dX2_readStart_0 : decode cX2_readStart 0 = .ok (.iload_n 1, 1) := by decide +kernel
theorem dX2_readStart_1 : decode cX2_readStart 1 = .ok (.iconst 3, 1) := by decide +kernel
theorem dX2_readStart_2 : decode cX2_readStart 2 = .ok (.if_icmp .ne 21, 3) := by decide +kernel
theorem dX2_readStart_5 : decode cX2_readStart 5 = .ok (.aload_n 0, 1) := by decide +kernel
theorem dX2_readStart_6 : decode cX2_readStart 6 = .ok (.getfield 67, 3) := by decide +kernel
theorem dX2_readStart_9 : decode cX2_readStart 9 = .ok (.aload_n 0, 1) := by decide +kernel
theorem dX2_readStart_10 : decode cX2_readStart 10 = .ok (.getfield 250, 3) := by decide +kernel
theorem dX2_readStart_13 : decode cX2_readStart 13 = .ok (.iaload, 1) := by decide +kernel
theorem dX2_readStart_14 : decode cX2_readStart 14 = .ok (.bipush 12, 2) := by decide +kernel
theorem dX2_readStart_16 : decode cX2_readStart 16 = .ok (.if_icmp .ne 7, 3) := by decide +kernel
theorem dX2_readStart_19 : decode cX2_readStart 19 = .ok (.iconst 1, 1) := by decide +kernel
theorem dX2_readStart_20 : decode cX2_readStart 20 = .ok (.goto 4, 3) := by decide +kernel
theorem dX2_readStart_23 : decode cX2_readStart 23 = .ok (.iconst 0, 1) := by decide +kernel
theorem dX2_readStart_24 : decode cX2_readStart 24 = .ok (.istore_n 2, 1) := by decide +kernel
theorem dX2_readStart_25 : decode cX2_readStart 25 = .ok (.aload_n 0, 1) := by decide +kernel
theorem dX2_readStart_26 : decode cX2_readStart 26 = .ok (.aload_n 0, 1) := by decide +kernel
theorem dX2_readStart_27 : decode cX2_readStart 27 = .ok (.bipush 123, 2) := by decide +kernel
theorem dX2_readStart_29 : decode cX2_readStart 29 = .ok (.invokevirtual 256, 3) := by decide +kernel
theorem dX2_readStart_32 : decode cX2_readStart 32 = .ok (.ifCond .eq 19, 3) := by decide +kernel
theorem dX2_readStart_35 : decode cX2_readStart 35 = .ok (.aload_n 0, 1) := by decide +kernel
theorem dX2_readStart_36 : decode cX2_readStart 36 = .ok (.getfield 250, 3) := by decide +kernel
theorem dX2_readStart_39 : decode cX2_readStart 39 = .ok (.iconst 4, 1) := by decide +kernel
theorem dX2_readStart_40 : decode cX2_readStart 40 = .ok (.if_icmp .ge 11, 3) := by decide +kernel
theorem dX2_readStart_43 : decode cX2_readStart 43 = .ok (.iload_n 2, 1) := by decide +kernel
theorem dX2_readStart_44 : decode cX2_readStart 44 = .ok (.ifCond .ne 7, 3) := by decide +kernel
theorem dX2_readStart_47 : decode cX2_readStart 47 = .ok (.iconst 1, 1) := by decide +kernel
theorem dX2_readStart_48 : decode cX2_readStart 48 = .ok (.goto 4, 3) := by decide +kernel
theorem dX2_readStart_51 : decode cX2_readStart 51 = .ok (.iconst 0, 1) := by decide +kernel
theorem dX2_readStart_52 : decode cX2_readStart 52 = .ok (.invokevirtual 232, 3) := by decide +kernel
theorem dX2_readStart_55 : decode cX2_readStart 55 = .ok (.ifCond .ne 4, 3) := by decide +kernel
theorem dX2_readStart_58 : decode cX2_readStart 58 = .ok (.return_, 1) := by decide +kernel
theorem dX2_readStart_59 : decode cX2_readStart 59 = .ok (.aload_n 0, 1) := by decide +kernel
theorem dX2_readStart_60 : decode cX2_readStart 60 = .ok (.getfield 67, 3) := by decide +kernel
theorem dX2_readStart_63 : decode cX2_readStart 63 = .ok (.aload_n 0, 1) := by decide +kernel
theorem dX2_readStart_64 : decode cX2_readStart 64 = .ok (.getfield 250, 3) := by decide +kernel
theorem dX2_readStart_67 : decode cX2_readStart 67 = .ok (.dup2, 1) := by decide +kernel
theorem dX2_readStart_68 : decode cX2_readStart 68 = .ok (.iaload, 1) := by decide +kernel
theorem dX2_readStart_69 : decode cX2_readStart 69 = .ok (.iconst 1, 1) := by decide +kernel
theorem dX2_readStart_70 : decode cX2_readStart 70 = .ok (.iadd, 1) := by decide +kernel
theorem dX2_readStart_71 : decode cX2_readStart 71 = .ok (.iastore, 1) := by decide +kernel
theorem dX2_readStart_72 : decode cX2_readStart 72 = .ok (.aload_n 0, 1) := by decide +kernel
theorem dX2_readStart_73 : decode cX2_readStart 73 = .ok (.getfield 37, 3) := by decide +kernel
theorem dX2_readStart_76 : decode cX2_readStart 76 = .ok (.aload_n 0, 1) := by decide +kernel
theorem dX2_readStart_77 : decode cX2_readStart 77 = .ok (.getfield 250, 3) := by decide +kernel
theorem dX2_readStart_80 : decode cX2_readStart 80 = .ok (.iload_n 1, 1) := by decide +kernel
theorem dX2_readStart_81 : decode cX2_readStart 81 = .ok (.iastore, 1) := by decide +kernel
theorem dX2_readStart_82 : decode cX2_readStart 82 = .ok (.aload_n 0, 1) := by decide +kernel
theorem dX2_readStart_83 : decode cX2_readStart 83 = .ok (.getfield 40, 3) := by decide +kernel
theorem dX2_readStart_86 : decode cX2_readStart 86 = .ok (.aload_n 0, 1) := by decide +kernel
theorem dX2_readStart_87 : decode cX2_readStart 87 = .ok (.getfield 250, 3) := by decide +kernel
theorem dX2_readStart_90 : decode cX2_readStart 90 = .ok (.aload_n 0, 1) := by decide +kernel
theorem dX2_readStart_91 : decode cX2_readStart 91 = .ok (.getfield 278, 3) := by decide +kernel
theorem dX2_readStart_94 : decode cX2_readStart 94 = .ok (.iastore, 1) := by decide +kernel
theorem dX2_readStart_95 : decode cX2_readStart 95 = .ok (.aload_n 0, 1) := by decide +kernel
theorem dX2_readStart_96 : decode cX2_readStart 96 = .ok (.dup, 1) := by decide +kernel
theorem dX2_readStart_97 : decode cX2_readStart 97 = .ok (.getfield 278, 3) := by decide +kernel
theorem dX2_readStart_100 : decode cX2_readStart 100 = .ok (.iconst 1, 1) := by decide +kernel
theorem dX2_readStart_101 : decode cX2_readStart 101 = .ok (.iadd, 1) := by decide +kernel
theorem dX2_readStart_102 : decode cX2_readStart 102 = .ok (.putfield 278, 3) := by decide +kernel
theorem dX2_readStart_105 : decode cX2_readStart 105 = .ok (.aload_n 0, 1) := by decide +kernel
theorem dX2_readStart_106 : decode cX2_readStart 106 = .ok (.dup, 1) := by decide +kernel
theorem dX2_readStart_107 : decode cX2_readStart 107 = .ok (.getfield 250, 3) := by decide +kernel
theorem dX2_readStart_110 : decode cX2_readStart 110 = .ok (.iconst 1, 1) := by decide +kernel
theorem dX2_readStart_111 : decode cX2_readStart 111 = .ok (.iadd, 1) := by decide +kernel
theorem dX2_readStart_112 : decode cX2_readStart 112 = .ok (.putfield 250, 3) := by decide +kernel
theorem dX2_readStart_115 : decode cX2_readStart 115 = .ok (.aload_n 0, 1) := by decide +kernel
theorem dX2_readStart_116 : decode cX2_readStart 116 = .ok (.iconst 1, 1) := by decide +kernel
theorem dX2_readStart_117 : decode cX2_readStart 117 = .ok (.iconst 0, 1) := by decide +kernel
theorem dX2_readStart_118 : decode cX2_readStart 118 = .ok (.invokevirtual 271, 3) := by decide +kernel
theorem dX2_readStart_121 : decode cX2_readStart 121 = .ok (.aload_n 0, 1) := by decide +kernel
theorem dX2_readStart_122 : decode cX2_readStart 122 = .ok (.iconst 1, 1) := by decide +kernel
theorem dX2_readStart_123 : decode cX2_readStart 123 = .ok (.putfield 281, 3) := by decide +kernel
theorem dX2_readStart_126 : decode cX2_readStart 126 = .ok (.return_, 1) := by decide +kernel
abbrev cX2_isSign : ByteArray := prog_26_method_29_code
def yX2_isSign : MethodName := ⟨"TripleStoreModel", "isSign", "(I)Z"⟩
theorem dX2_isSign_0 : decode cX2_isSign 0 = .ok (.aload_n 0, 1) := by decide +kernel
theorem dX2_isSign_1 : decode cX2_isSign 1 = .ok (.getfield 181, 3) := by decide +kernel
theorem dX2_isSign_4 : decode cX2_isSign 4 = .ok (.iconst 4, 1) := by decide +kernel
theorem dX2_isSign_5 : decode cX2_isSign 5 = .ok (.if_icmp .ne 17, 3) := by decide +kernel
theorem dX2_isSign_8 : decode cX2_isSign 8 = .ok (.aload_n 0, 1) := by decide +kernel
theorem dX2_isSign_9 : decode cX2_isSign 9 = .ok (.getfield 164, 3) := by decide +kernel
theorem dX2_isSign_12 : decode cX2_isSign 12 = .ok (.iload_n 1, 1) := by decide +kernel
theorem dX2_isSign_13 : decode cX2_isSign 13 = .ok (.i2l, 1) := by decide +kernel
theorem dX2_isSign_14 : decode cX2_isSign 14 = .ok (.lcmp, 1) := by decide +kernel
theorem dX2_isSign_15 : decode cX2_isSign 15 = .ok (.ifCond .ne 7, 3) := by decide +kernel
theorem dX2_isSign_18 : decode cX2_isSign 18 = .ok (.iconst 1, 1) := by decide +kernel
theorem dX2_isSign_19 : decode cX2_isSign 19 = .ok (.goto 4, 3) := by decide +kernel
theorem dX2_isSign_22 : decode cX2_isSign 22 = .ok (.iconst 0, 1) := by decide +kernel
theorem dX2_isSign_23 : decode cX2_isSign 23 = .ok (.ireturn, 1) := by decide +kernel
abbrev cX2_emit : ByteArray := prog_26_method_34_code
def yX2_emit : MethodName := ⟨"TripleStoreModel", "emit", "(II)V"⟩
theorem dX2_emit_0 : decode cX2_emit 0 = .ok (.aload_n 0, 1) := by decide +kernel
theorem dX2_emit_1 : decode cX2_emit 1 = .ok (.getfield 43, 3) := by decide +kernel
theorem dX2_emit_4 : decode cX2_emit 4 = .ok (.aload_n 0, 1) := by decide +kernel
theorem dX2_emit_5 : decode cX2_emit 5 = .ok (.getfield 244, 3) := by decide +kernel
theorem dX2_emit_8 : decode cX2_emit 8 = .ok (.iload_n 1, 1) := by decide +kernel
theorem dX2_emit_9 : decode cX2_emit 9 = .ok (.iastore, 1) := by decide +kernel
theorem dX2_emit_10 : decode cX2_emit 10 = .ok (.aload_n 0, 1) := by decide +kernel
theorem dX2_emit_11 : decode cX2_emit 11 = .ok (.getfield 46, 3) := by decide +kernel
theorem dX2_emit_14 : decode cX2_emit 14 = .ok (.aload_n 0, 1) := by decide +kernel
theorem dX2_emit_15 : decode cX2_emit 15 = .ok (.getfield 244, 3) := by decide +kernel
theorem dX2_emit_18 : decode cX2_emit 18 = .ok (.iload_n 2, 1) := by decide +kernel
theorem dX2_emit_19 : decode cX2_emit 19 = .ok (.iastore, 1) := by decide +kernel
theorem dX2_emit_20 : decode cX2_emit 20 = .ok (.aload_n 0, 1) := by decide +kernel
theorem dX2_emit_21 : decode cX2_emit 21 = .ok (.dup, 1) := by decide +kernel
theorem dX2_emit_22 : decode cX2_emit 22 = .ok (.getfield 244, 3) := by decide +kernel
theorem dX2_emit_25 : decode cX2_emit 25 = .ok (.iconst 1, 1) := by decide +kernel
theorem dX2_emit_26 : decode cX2_emit 26 = .ok (.iadd, 1) := by decide +kernel
theorem dX2_emit_27 : decode cX2_emit 27 = .ok (.putfield 244, 3) := by decide +kernel
theorem dX2_emit_30 : decode cX2_emit 30 = .ok (.return_, 1) := by decide +kernel
abbrev cX2_readElement : ByteArray := prog_26_method_36_code
def yX2_readElement : MethodName := ⟨"TripleStoreModel", "readElement", "()V"⟩
theorem dX2_readElement_0 : decode cX2_readElement 0 = .ok (.aload_n 0, 1) := by decide +kernel
theorem dX2_readElement_1 : decode cX2_readElement 1 = .ok (.iconst 5, 1) := by decide +kernel
theorem dX2_readElement_2 : decode cX2_readElement 2 = .ok (.invokevirtual 217, 3) := by decide +kernel
theorem dX2_readElement_5 : decode cX2_readElement 5 = .ok (.ifCond .ne 45, 3) := by decide +kernel
theorem dX2_readElement_8 : decode cX2_readElement 8 = .ok (.aload_n 0, 1) := by decide +kernel
theorem dX2_readElement_9 : decode cX2_readElement 9 = .ok (.bipush 6, 2) := by decide +kernel
theorem dX2_readElement_11 : decode cX2_readElement 11 = .ok (.invokevirtual 217, 3) := by decide +kernel
theorem dX2_readElement_14 : decode cX2_readElement 14 = .ok (.ifCond .ne 36, 3) := by decide +kernel
theorem dX2_readElement_17 : decode cX2_readElement 17 = .ok (.aload_n 0, 1) := by decide +kernel
theorem dX2_readElement_18 : decode cX2_readElement 18 = .ok (.bipush 7, 2) := by decide +kernel
theorem dX2_readElement_20 : decode cX2_readElement 20 = .ok (.invokevirtual 217, 3) := by decide +kernel
theorem dX2_readElement_23 : decode cX2_readElement 23 = .ok (.ifCond .ne 27, 3) := by decide +kernel
theorem dX2_readElement_26 : decode cX2_readElement 26 = .ok (.aload_n 0, 1) := by decide +kernel
theorem dX2_readElement_27 : decode cX2_readElement 27 = .ok (.bipush 123, 2) := by decide +kernel
theorem dX2_readElement_29 : decode cX2_readElement 29 = .ok (.invokevirtual 256, 3) := by decide +kernel
theorem dX2_readElement_32 : decode cX2_readElement 32 = .ok (.ifCond .ne 18, 3) := by decide +kernel
theorem dX2_readElement_35 : decode cX2_readElement 35 = .ok (.aload_n 0, 1) := by decide +kernel
theorem dX2_readElement_36 : decode cX2_readElement 36 = .ok (.getfield 181, 3) := by decide +kernel
theorem dX2_readElement_39 : decode cX2_readElement 39 = .ok (.iconst 3, 1) := by decide +kernel
theorem dX2_readElement_40 : decode cX2_readElement 40 = .ok (.if_icmp .eq 10, 3) := by decide +kernel
theorem dX2_readElement_43 : decode cX2_readElement 43 = .ok (.aload_n 0, 1) := by decide +kernel
theorem dX2_readElement_44 : decode cX2_readElement 44 = .ok (.invokevirtual 240, 3) := by decide +kernel
theorem dX2_readElement_47 : decode cX2_readElement 47 = .ok (.ifCond .eq 7, 3) := by decide +kernel
theorem dX2_readElement_50 : decode cX2_readElement 50 = .ok (.iconst 1, 1) := by decide +kernel
theorem dX2_readElement_51 : decode cX2_readElement 51 = .ok (.goto 4, 3) := by decide +kernel
theorem dX2_readElement_54 : decode cX2_readElement 54 = .ok (.iconst 0, 1) := by decide +kernel
theorem dX2_readElement_55 : decode cX2_readElement 55 = .ok (.istore_n 1, 1) := by decide +kernel
theorem dX2_readElement_56 : decode cX2_readElement 56 = .ok (.iload_n 1, 1) := by decide +kernel
theorem dX2_readElement_57 : decode cX2_readElement 57 = .ok (.ifCond .eq 12, 3) := by decide +kernel
theorem dX2_readElement_60 : decode cX2_readElement 60 = .ok (.aload_n 0, 1) := by decide +kernel
theorem dX2_readElement_61 : decode cX2_readElement 61 = .ok (.getfield 259, 3) := by decide +kernel
theorem dX2_readElement_64 : decode cX2_readElement 64 = .ok (.bipush 12, 2) := by decide +kernel
theorem dX2_readElement_66 : decode cX2_readElement 66 = .ok (.if_icmp .ne 8, 3) := by decide +kernel
theorem dX2_readElement_69 : decode cX2_readElement 69 = .ok (.aload_n 0, 1) := by decide +kernel
theorem dX2_readElement_70 : decode cX2_readElement 70 = .ok (.invokevirtual 223, 3) := by decide +kernel
theorem dX2_readElement_73 : decode cX2_readElement 73 = .ok (.return_, 1) := by decide +kernel
theorem dX2_readElement_74 : decode cX2_readElement 74 = .ok (.aload_n 0, 1) := by decide +kernel
theorem dX2_readElement_75 : decode cX2_readElement 75 = .ok (.dup, 1) := by decide +kernel
theorem dX2_readElement_76 : decode cX2_readElement 76 = .ok (.getfield 259, 3) := by decide +kernel
theorem dX2_readElement_79 : decode cX2_readElement 79 = .ok (.iconst 1, 1) := by decide +kernel
theorem dX2_readElement_80 : decode cX2_readElement 80 = .ok (.iadd, 1) := by decide +kernel
theorem dX2_readElement_81 : decode cX2_readElement 81 = .ok (.putfield 259, 3) := by decide +kernel
theorem dX2_readElement_84 : decode cX2_readElement 84 = .ok (.aload_n 0, 1) := by decide +kernel
theorem dX2_readElement_85 : decode cX2_readElement 85 = .ok (.aload_n 0, 1) := by decide +kernel
theorem dX2_readElement_86 : decode cX2_readElement 86 = .ok (.bipush 6, 2) := by decide +kernel
theorem dX2_readElement_88 : decode cX2_readElement 88 = .ok (.invokevirtual 217, 3) := by decide +kernel
theorem dX2_readElement_91 : decode cX2_readElement 91 = .ok (.ifCond .ne 21, 3) := by decide +kernel
theorem dX2_readElement_94 : decode cX2_readElement 94 = .ok (.aload_n 0, 1) := by decide +kernel
theorem dX2_readElement_95 : decode cX2_readElement 95 = .ok (.bipush 7, 2) := by decide +kernel
theorem dX2_readElement_97 : decode cX2_readElement 97 = .ok (.invokevirtual 217, 3) := by decide +kernel
theorem dX2_readElement_100 : decode cX2_readElement 100 = .ok (.ifCond .ne 12, 3) := by decide +kernel
theorem dX2_readElement_103 : decode cX2_readElement 103 = .ok (.aload_n 0, 1) := by decide +kernel
theorem dX2_readElement_104 : decode cX2_readElement 104 = .ok (.bipush 123, 2) := by decide +kernel
theorem dX2_readElement_106 : decode cX2_readElement 106 = .ok (.invokevirtual 256, 3) := by decide +kernel
theorem dX2_readElement_109 : decode cX2_readElement 109 = .ok (.ifCond .eq 7, 3) := by decide +kernel
theorem dX2_readElement_112 : decode cX2_readElement 112 = .ok (.iconst 1, 1) := by decide +kernel
theorem dX2_readElement_113 : decode cX2_readElement 113 = .ok (.goto 4, 3) := by decide +kernel
theorem dX2_readElement_116 : decode cX2_readElement 116 = .ok (.iconst 0, 1) := by decide +kernel
theorem dX2_readElement_117 : decode cX2_readElement 117 = .ok (.putfield 262, 3) := by decide +kernel
theorem dX2_readElement_120 : decode cX2_readElement 120 = .ok (.aload_n 0, 1) := by decide +kernel
theorem dX2_readElement_121 : decode cX2_readElement 121 = .ok (.iconst 5, 1) := by decide +kernel
theorem dX2_readElement_122 : decode cX2_readElement 122 = .ok (.invokevirtual 217, 3) := by decide +kernel
theorem dX2_readElement_125 : decode cX2_readElement 125 = .ok (.ifCond .eq 14, 3) := by decide +kernel
theorem dX2_readElement_128 : decode cX2_readElement 128 = .ok (.aload_n 0, 1) := by decide +kernel
theorem dX2_readElement_129 : decode cX2_readElement 129 = .ok (.invokevirtual 226, 3) := by decide +kernel
theorem dX2_readElement_132 : decode cX2_readElement 132 = .ok (.aload_n 0, 1) := by decide +kernel
theorem dX2_readElement_133 : decode cX2_readElement 133 = .ok (.invokevirtual 265, 3) := by decide +kernel
theorem dX2_readElement_136 : decode cX2_readElement 136 = .ok (.goto 68, 3) := by decide +kernel
theorem dX2_readElement_139 : decode cX2_readElement 139 = .ok (.aload_n 0, 1) := by decide +kernel
theorem dX2_readElement_140 : decode cX2_readElement 140 = .ok (.getfield 181, 3) := by decide +kernel
theorem dX2_readElement_143 : decode cX2_readElement 143 = .ok (.iconst 3, 1) := by decide +kernel
theorem dX2_readElement_144 : decode cX2_readElement 144 = .ok (.if_icmp .eq 10, 3) := by decide +kernel
theorem dX2_readElement_147 : decode cX2_readElement 147 = .ok (.aload_n 0, 1) := by decide +kernel
theorem dX2_readElement_148 : decode cX2_readElement 148 = .ok (.invokevirtual 240, 3) := by decide +kernel
theorem dX2_readElement_151 : decode cX2_readElement 151 = .ok (.ifCond .eq 53, 3) := by decide +kernel
theorem dX2_readElement_154 : decode cX2_readElement 154 = .ok (.iconst 3, 1) := by decide +kernel
theorem dX2_readElement_155 : decode cX2_readElement 155 = .ok (.aload_n 0, 1) := by decide +kernel
theorem dX2_readElement_156 : decode cX2_readElement 156 = .ok (.getfield 268, 3) := by decide +kernel
theorem dX2_readElement_159 : decode cX2_readElement 159 = .ok (.imul, 1) := by decide +kernel
theorem dX2_readElement_160 : decode cX2_readElement 160 = .ok (.istore_n 2, 1) := by decide +kernel
theorem dX2_readElement_161 : decode cX2_readElement 161 = .ok (.aload_n 0, 1) := by decide +kernel
theorem dX2_readElement_162 : decode cX2_readElement 162 = .ok (.dup, 1) := by decide +kernel
theorem dX2_readElement_163 : decode cX2_readElement 163 = .ok (.getfield 268, 3) := by decide +kernel
theorem dX2_readElement_166 : decode cX2_readElement 166 = .ok (.iconst 1, 1) := by decide +kernel
theorem dX2_readElement_167 : decode cX2_readElement 167 = .ok (.iadd, 1) := by decide +kernel
theorem dX2_readElement_168 : decode cX2_readElement 168 = .ok (.putfield 268, 3) := by decide +kernel
theorem dX2_readElement_171 : decode cX2_readElement 171 = .ok (.iconst 0, 1) := by decide +kernel
theorem dX2_readElement_172 : decode cX2_readElement 172 = .ok (.istore_n 3, 1) := by decide +kernel
theorem dX2_readElement_173 : decode cX2_readElement 173 = .ok (.iload_n 3, 1) := by decide +kernel
theorem dX2_readElement_174 : decode cX2_readElement 174 = .ok (.iconst 3, 1) := by decide +kernel
theorem dX2_readElement_175 : decode cX2_readElement 175 = .ok (.if_icmp .ge 23, 3) := by decide +kernel
theorem dX2_readElement_178 : decode cX2_readElement 178 = .ok (.aload_n 0, 1) := by decide +kernel
theorem dX2_readElement_179 : decode cX2_readElement 179 = .ok (.getfield 220, 3) := by decide +kernel
theorem dX2_readElement_182 : decode cX2_readElement 182 = .ok (.ifCond .ge 16, 3) := by decide +kernel
theorem dX2_readElement_185 : decode cX2_readElement 185 = .ok (.aload_n 0, 1) := by decide +kernel
theorem dX2_readElement_186 : decode cX2_readElement 186 = .ok (.iload_n 2, 1) := by decide +kernel
theorem dX2_readElement_187 : decode cX2_readElement 187 = .ok (.iload_n 3, 1) := by decide +kernel
theorem dX2_readElement_188 : decode cX2_readElement 188 = .ok (.iadd, 1) := by decide +kernel
theorem dX2_readElement_189 : decode cX2_readElement 189 = .ok (.invokevirtual 253, 3) := by decide +kernel
theorem dX2_readElement_192 : decode cX2_readElement 192 = .ok (.iinc 3 1, 3) := by decide +kernel
theorem dX2_readElement_195 : decode cX2_readElement 195 = .ok (.goto (-22), 3) := by decide +kernel
theorem dX2_readElement_198 : decode cX2_readElement 198 = .ok (.aload_n 0, 1) := by decide +kernel
theorem dX2_readElement_199 : decode cX2_readElement 199 = .ok (.iconst 2, 1) := by decide +kernel
theorem dX2_readElement_200 : decode cX2_readElement 200 = .ok (.iload_n 2, 1) := by decide +kernel
theorem dX2_readElement_201 : decode cX2_readElement 201 = .ok (.invokevirtual 271, 3) := by decide +kernel
theorem dX2_readElement_204 : decode cX2_readElement 204 = .ok (.return_, 1) := by decide +kernel
abbrev cX2_isTerm : ByteArray := prog_26_method_28_code
def yX2_isTerm : MethodName := ⟨"TripleStoreModel", "isTerm", "()Z"⟩
theorem dX2_isTerm_0 : decode cX2_isTerm 0 = .ok (.aload_n 0, 1) := by decide +kernel
theorem dX2_isTerm_1 : decode cX2_isTerm 1 = .ok (.getfield 181, 3) := by decide +kernel
theorem dX2_isTerm_4 : decode cX2_isTerm 4 = .ok (.iconst 2, 1) := by decide +kernel
theorem dX2_isTerm_5 : decode cX2_isTerm 5 = .ok (.if_icmp .ne 5, 3) := by decide +kernel
theorem dX2_isTerm_8 : decode cX2_isTerm 8 = .ok (.iconst 1, 1) := by decide +kernel
theorem dX2_isTerm_9 : decode cX2_isTerm 9 = .ok (.ireturn, 1) := by decide +kernel
theorem dX2_isTerm_10 : decode cX2_isTerm 10 = .ok (.iconst 0, 1) := by decide +kernel
theorem dX2_isTerm_11 : decode cX2_isTerm 11 = .ok (.istore_n 1, 1) := by decide +kernel
theorem dX2_isTerm_12 : decode cX2_isTerm 12 = .ok (.iconst 0, 1) := by decide +kernel
theorem dX2_isTerm_13 : decode cX2_isTerm 13 = .ok (.istore_n 2, 1) := by decide +kernel
theorem dX2_isTerm_14 : decode cX2_isTerm 14 = .ok (.iload_n 2, 1) := by decide +kernel
theorem dX2_isTerm_15 : decode cX2_isTerm 15 = .ok (.bipush 11, 2) := by decide +kernel
theorem dX2_isTerm_17 : decode cX2_isTerm 17 = .ok (.if_icmp .ge 19, 3) := by decide +kernel
theorem dX2_isTerm_20 : decode cX2_isTerm 20 = .ok (.aload_n 0, 1) := by decide +kernel
theorem dX2_isTerm_21 : decode cX2_isTerm 21 = .ok (.iload_n 2, 1) := by decide +kernel
theorem dX2_isTerm_22 : decode cX2_isTerm 22 = .ok (.invokevirtual 217, 3) := by decide +kernel
theorem dX2_isTerm_25 : decode cX2_isTerm 25 = .ok (.ifCond .eq 5, 3) := by decide +kernel
theorem dX2_isTerm_28 : decode cX2_isTerm 28 = .ok (.iconst 1, 1) := by decide +kernel
theorem dX2_isTerm_29 : decode cX2_isTerm 29 = .ok (.istore_n 1, 1) := by decide +kernel
theorem dX2_isTerm_30 : decode cX2_isTerm 30 = .ok (.iinc 2 1, 3) := by decide +kernel
theorem dX2_isTerm_33 : decode cX2_isTerm 33 = .ok (.goto (-19), 3) := by decide +kernel
theorem dX2_isTerm_36 : decode cX2_isTerm 36 = .ok (.aload_n 0, 1) := by decide +kernel
theorem dX2_isTerm_37 : decode cX2_isTerm 37 = .ok (.getfield 181, 3) := by decide +kernel
theorem dX2_isTerm_40 : decode cX2_isTerm 40 = .ok (.iconst 1, 1) := by decide +kernel
theorem dX2_isTerm_41 : decode cX2_isTerm 41 = .ok (.if_icmp .ne 11, 3) := by decide +kernel
theorem dX2_isTerm_44 : decode cX2_isTerm 44 = .ok (.iload_n 1, 1) := by decide +kernel
theorem dX2_isTerm_45 : decode cX2_isTerm 45 = .ok (.ifCond .ne 7, 3) := by decide +kernel
theorem dX2_isTerm_48 : decode cX2_isTerm 48 = .ok (.iconst 1, 1) := by decide +kernel
theorem dX2_isTerm_49 : decode cX2_isTerm 49 = .ok (.goto 4, 3) := by decide +kernel
theorem dX2_isTerm_52 : decode cX2_isTerm 52 = .ok (.iconst 0, 1) := by decide +kernel
theorem dX2_isTerm_53 : decode cX2_isTerm 53 = .ok (.ireturn, 1) := by decide +kernel
abbrev cX2_readTest : ByteArray := prog_26_method_35_code
def yX2_readTest : MethodName := ⟨"TripleStoreModel", "readTest", "()V"⟩
theorem dX2_readTest_0 : decode cX2_readTest 0 = .ok (.aload_n 0, 1) := by decide +kernel
theorem dX2_readTest_1 : decode cX2_readTest 1 = .ok (.getfield 247, 3) := by decide +kernel
theorem dX2_readTest_4 : decode cX2_readTest 4 = .ok (.istore_n 1, 1) := by decide +kernel
theorem dX2_readTest_5 : decode cX2_readTest 5 = .ok (.aload_n 0, 1) := by decide +kernel
theorem dX2_readTest_6 : decode cX2_readTest 6 = .ok (.dup, 1) := by decide +kernel
theorem dX2_readTest_7 : decode cX2_readTest 7 = .ok (.getfield 247, 3) := by decide +kernel
theorem dX2_readTest_10 : decode cX2_readTest 10 = .ok (.iconst 1, 1) := by decide +kernel
theorem dX2_readTest_11 : decode cX2_readTest 11 = .ok (.iadd, 1) := by decide +kernel
theorem dX2_readTest_12 : decode cX2_readTest 12 = .ok (.putfield 247, 3) := by decide +kernel
theorem dX2_readTest_15 : decode cX2_readTest 15 = .ok (.aload_n 0, 1) := by decide +kernel
theorem dX2_readTest_16 : decode cX2_readTest 16 = .ok (.getfield 55, 3) := by decide +kernel
theorem dX2_readTest_19 : decode cX2_readTest 19 = .ok (.iload_n 1, 1) := by decide +kernel
theorem dX2_readTest_20 : decode cX2_readTest 20 = .ok (.aload_n 0, 1) := by decide +kernel
theorem dX2_readTest_21 : decode cX2_readTest 21 = .ok (.getfield 40, 3) := by decide +kernel
theorem dX2_readTest_24 : decode cX2_readTest 24 = .ok (.aload_n 0, 1) := by decide +kernel
theorem dX2_readTest_25 : decode cX2_readTest 25 = .ok (.getfield 250, 3) := by decide +kernel
theorem dX2_readTest_28 : decode cX2_readTest 28 = .ok (.iconst 1, 1) := by decide +kernel
theorem dX2_readTest_29 : decode cX2_readTest 29 = .ok (.isub, 1) := by decide +kernel
theorem dX2_readTest_30 : decode cX2_readTest 30 = .ok (.iaload, 1) := by decide +kernel
theorem dX2_readTest_31 : decode cX2_readTest 31 = .ok (.iastore, 1) := by decide +kernel
theorem dX2_readTest_32 : decode cX2_readTest 32 = .ok (.aload_n 0, 1) := by decide +kernel
theorem dX2_readTest_33 : decode cX2_readTest 33 = .ok (.getfield 61, 3) := by decide +kernel
theorem dX2_readTest_36 : decode cX2_readTest 36 = .ok (.iload_n 1, 1) := by decide +kernel
theorem dX2_readTest_37 : decode cX2_readTest 37 = .ok (.iconst 0, 1) := by decide +kernel
theorem dX2_readTest_38 : decode cX2_readTest 38 = .ok (.bastore, 1) := by decide +kernel
theorem dX2_readTest_39 : decode cX2_readTest 39 = .ok (.iconst 0, 1) := by decide +kernel
theorem dX2_readTest_40 : decode cX2_readTest 40 = .ok (.istore_n 2, 1) := by decide +kernel
theorem dX2_readTest_41 : decode cX2_readTest 41 = .ok (.aload_n 0, 1) := by decide +kernel
theorem dX2_readTest_42 : decode cX2_readTest 42 = .ok (.bipush 9, 2) := by decide +kernel
theorem dX2_readTest_44 : decode cX2_readTest 44 = .ok (.invokevirtual 217, 3) := by decide +kernel
theorem dX2_readTest_47 : decode cX2_readTest 47 = .ok (.ifCond .eq 54, 3) := by decide +kernel
theorem dX2_readTest_50 : decode cX2_readTest 50 = .ok (.aload_n 0, 1) := by decide +kernel
theorem dX2_readTest_51 : decode cX2_readTest 51 = .ok (.getfield 220, 3) := by decide +kernel
theorem dX2_readTest_54 : decode cX2_readTest 54 = .ok (.ifCond .ge 47, 3) := by decide +kernel
theorem dX2_readTest_57 : decode cX2_readTest 57 = .ok (.aload_n 0, 1) := by decide +kernel
theorem dX2_readTest_58 : decode cX2_readTest 58 = .ok (.getfield 61, 3) := by decide +kernel
theorem dX2_readTest_61 : decode cX2_readTest 61 = .ok (.iload_n 1, 1) := by decide +kernel
theorem dX2_readTest_62 : decode cX2_readTest 62 = .ok (.aload_n 0, 1) := by decide +kernel
theorem dX2_readTest_63 : decode cX2_readTest 63 = .ok (.getfield 61, 3) := by decide +kernel
theorem dX2_readTest_66 : decode cX2_readTest 66 = .ok (.iload_n 1, 1) := by decide +kernel
theorem dX2_readTest_67 : decode cX2_readTest 67 = .ok (.baload, 1) := by decide +kernel
theorem dX2_readTest_68 : decode cX2_readTest 68 = .ok (.ifCond .ne 7, 3) := by decide +kernel
theorem dX2_readTest_71 : decode cX2_readTest 71 = .ok (.iconst 1, 1) := by decide +kernel
theorem dX2_readTest_72 : decode cX2_readTest 72 = .ok (.goto 4, 3) := by decide +kernel
theorem dX2_readTest_75 : decode cX2_readTest 75 = .ok (.iconst 0, 1) := by decide +kernel
theorem dX2_readTest_76 : decode cX2_readTest 76 = .ok (.bastore, 1) := by decide +kernel
theorem dX2_readTest_77 : decode cX2_readTest 77 = .ok (.aload_n 0, 1) := by decide +kernel
theorem dX2_readTest_78 : decode cX2_readTest 78 = .ok (.iload_n 2, 1) := by decide +kernel
theorem dX2_readTest_79 : decode cX2_readTest 79 = .ok (.iconst 4, 1) := by decide +kernel
theorem dX2_readTest_80 : decode cX2_readTest 80 = .ok (.if_icmp .ge 7, 3) := by decide +kernel
theorem dX2_readTest_83 : decode cX2_readTest 83 = .ok (.iconst 1, 1) := by decide +kernel
theorem dX2_readTest_84 : decode cX2_readTest 84 = .ok (.goto 4, 3) := by decide +kernel
theorem dX2_readTest_87 : decode cX2_readTest 87 = .ok (.iconst 0, 1) := by decide +kernel
theorem dX2_readTest_88 : decode cX2_readTest 88 = .ok (.invokevirtual 232, 3) := by decide +kernel
theorem dX2_readTest_91 : decode cX2_readTest 91 = .ok (.ifCond .ne 4, 3) := by decide +kernel
theorem dX2_readTest_94 : decode cX2_readTest 94 = .ok (.return_, 1) := by decide +kernel
theorem dX2_readTest_95 : decode cX2_readTest 95 = .ok (.iinc 2 1, 3) := by decide +kernel
theorem dX2_readTest_98 : decode cX2_readTest 98 = .ok (.goto (-57), 3) := by decide +kernel
theorem dX2_readTest_101 : decode cX2_readTest 101 = .ok (.aload_n 0, 1) := by decide +kernel
theorem dX2_readTest_102 : decode cX2_readTest 102 = .ok (.bipush 10, 2) := by decide +kernel
theorem dX2_readTest_104 : decode cX2_readTest 104 = .ok (.invokevirtual 217, 3) := by decide +kernel
theorem dX2_readTest_107 : decode cX2_readTest 107 = .ok (.ifCond .eq 31, 3) := by decide +kernel
theorem dX2_readTest_110 : decode cX2_readTest 110 = .ok (.aload_n 0, 1) := by decide +kernel
theorem dX2_readTest_111 : decode cX2_readTest 111 = .ok (.invokevirtual 226, 3) := by decide +kernel
theorem dX2_readTest_114 : decode cX2_readTest 114 = .ok (.aload_n 0, 1) := by decide +kernel
theorem dX2_readTest_115 : decode cX2_readTest 115 = .ok (.getfield 58, 3) := by decide +kernel
theorem dX2_readTest_118 : decode cX2_readTest 118 = .ok (.iload_n 1, 1) := by decide +kernel
theorem dX2_readTest_119 : decode cX2_readTest 119 = .ok (.bipush 98, 2) := by decide +kernel
theorem dX2_readTest_121 : decode cX2_readTest 121 = .ok (.iastore, 1) := by decide +kernel
theorem dX2_readTest_122 : decode cX2_readTest 122 = .ok (.aload_n 0, 1) := by decide +kernel
theorem dX2_readTest_123 : decode cX2_readTest 123 = .ok (.getfield 49, 3) := by decide +kernel
theorem dX2_readTest_126 : decode cX2_readTest 126 = .ok (.bipush 60, 2) := by decide +kernel
theorem dX2_readTest_128 : decode cX2_readTest 128 = .ok (.iconst 2, 1) := by decide +kernel
theorem dX2_readTest_129 : decode cX2_readTest 129 = .ok (.iload_n 1, 1) := by decide +kernel
theorem dX2_readTest_130 : decode cX2_readTest 130 = .ok (.imul, 1) := by decide +kernel
theorem dX2_readTest_131 : decode cX2_readTest 131 = .ok (.iadd, 1) := by decide +kernel
theorem dX2_readTest_132 : decode cX2_readTest 132 = .ok (.aload_n 0, 1) := by decide +kernel
theorem dX2_readTest_133 : decode cX2_readTest 133 = .ok (.invokevirtual 236, 3) := by decide +kernel
theorem dX2_readTest_136 : decode cX2_readTest 136 = .ok (.iastore, 1) := by decide +kernel
theorem dX2_readTest_137 : decode cX2_readTest 137 = .ok (.return_, 1) := by decide +kernel
theorem dX2_readTest_138 : decode cX2_readTest 138 = .ok (.aload_n 0, 1) := by decide +kernel
theorem dX2_readTest_139 : decode cX2_readTest 139 = .ok (.bipush 60, 2) := by decide +kernel
theorem dX2_readTest_141 : decode cX2_readTest 141 = .ok (.iconst 2, 1) := by decide +kernel
theorem dX2_readTest_142 : decode cX2_readTest 142 = .ok (.iload_n 1, 1) := by decide +kernel
theorem dX2_readTest_143 : decode cX2_readTest 143 = .ok (.imul, 1) := by decide +kernel
theorem dX2_readTest_144 : decode cX2_readTest 144 = .ok (.iadd, 1) := by decide +kernel
theorem dX2_readTest_145 : decode cX2_readTest 145 = .ok (.invokevirtual 253, 3) := by decide +kernel
theorem dX2_readTest_148 : decode cX2_readTest 148 = .ok (.aload_n 0, 1) := by decide +kernel
theorem dX2_readTest_149 : decode cX2_readTest 149 = .ok (.getfield 220, 3) := by decide +kernel
theorem dX2_readTest_152 : decode cX2_readTest 152 = .ok (.ifCond .lt 4, 3) := by decide +kernel
theorem dX2_readTest_155 : decode cX2_readTest 155 = .ok (.return_, 1) := by decide +kernel
theorem dX2_readTest_156 : decode cX2_readTest 156 = .ok (.aload_n 0, 1) := by decide +kernel
theorem dX2_readTest_157 : decode cX2_readTest 157 = .ok (.getfield 58, 3) := by decide +kernel
theorem dX2_readTest_160 : decode cX2_readTest 160 = .ok (.iload_n 1, 1) := by decide +kernel
theorem dX2_readTest_161 : decode cX2_readTest 161 = .ok (.aload_n 0, 1) := by decide +kernel
theorem dX2_readTest_162 : decode cX2_readTest 162 = .ok (.getfield 164, 3) := by decide +kernel
theorem dX2_readTest_165 : decode cX2_readTest 165 = .ok (.l2i, 1) := by decide +kernel
theorem dX2_readTest_166 : decode cX2_readTest 166 = .ok (.iastore, 1) := by decide +kernel
theorem dX2_readTest_167 : decode cX2_readTest 167 = .ok (.aload_n 0, 1) := by decide +kernel
theorem dX2_readTest_168 : decode cX2_readTest 168 = .ok (.aload_n 0, 1) := by decide +kernel
theorem dX2_readTest_169 : decode cX2_readTest 169 = .ok (.bipush 61, 2) := by decide +kernel
theorem dX2_readTest_171 : decode cX2_readTest 171 = .ok (.invokevirtual 256, 3) := by decide +kernel
theorem dX2_readTest_174 : decode cX2_readTest 174 = .ok (.ifCond .ne 30, 3) := by decide +kernel
theorem dX2_readTest_177 : decode cX2_readTest 177 = .ok (.aload_n 0, 1) := by decide +kernel
theorem dX2_readTest_178 : decode cX2_readTest 178 = .ok (.bipush 60, 2) := by decide +kernel
theorem dX2_readTest_180 : decode cX2_readTest 180 = .ok (.invokevirtual 256, 3) := by decide +kernel
theorem dX2_readTest_183 : decode cX2_readTest 183 = .ok (.ifCond .ne 21, 3) := by decide +kernel
theorem dX2_readTest_186 : decode cX2_readTest 186 = .ok (.aload_n 0, 1) := by decide +kernel
theorem dX2_readTest_187 : decode cX2_readTest 187 = .ok (.bipush 62, 2) := by decide +kernel
theorem dX2_readTest_189 : decode cX2_readTest 189 = .ok (.invokevirtual 256, 3) := by decide +kernel
theorem dX2_readTest_192 : decode cX2_readTest 192 = .ok (.ifCond .ne 12, 3) := by decide +kernel
theorem dX2_readTest_195 : decode cX2_readTest 195 = .ok (.aload_n 0, 1) := by decide +kernel
theorem dX2_readTest_196 : decode cX2_readTest 196 = .ok (.bipush 33, 2) := by decide +kernel
theorem dX2_readTest_198 : decode cX2_readTest 198 = .ok (.invokevirtual 256, 3) := by decide +kernel
theorem dX2_readTest_201 : decode cX2_readTest 201 = .ok (.ifCond .eq 7, 3) := by decide +kernel
theorem dX2_readTest_204 : decode cX2_readTest 204 = .ok (.iconst 1, 1) := by decide +kernel
theorem dX2_readTest_205 : decode cX2_readTest 205 = .ok (.goto 4, 3) := by decide +kernel
theorem dX2_readTest_208 : decode cX2_readTest 208 = .ok (.iconst 0, 1) := by decide +kernel
theorem dX2_readTest_209 : decode cX2_readTest 209 = .ok (.invokevirtual 232, 3) := by decide +kernel
theorem dX2_readTest_212 : decode cX2_readTest 212 = .ok (.ifCond .ne 4, 3) := by decide +kernel
theorem dX2_readTest_215 : decode cX2_readTest 215 = .ok (.return_, 1) := by decide +kernel
theorem dX2_readTest_216 : decode cX2_readTest 216 = .ok (.aload_n 0, 1) := by decide +kernel
theorem dX2_readTest_217 : decode cX2_readTest 217 = .ok (.bipush 60, 2) := by decide +kernel
theorem dX2_readTest_219 : decode cX2_readTest 219 = .ok (.iconst 2, 1) := by decide +kernel
theorem dX2_readTest_220 : decode cX2_readTest 220 = .ok (.iload_n 1, 1) := by decide +kernel
theorem dX2_readTest_221 : decode cX2_readTest 221 = .ok (.imul, 1) := by decide +kernel
theorem dX2_readTest_222 : decode cX2_readTest 222 = .ok (.iadd, 1) := by decide +kernel
theorem dX2_readTest_223 : decode cX2_readTest 223 = .ok (.iconst 1, 1) := by decide +kernel
theorem dX2_readTest_224 : decode cX2_readTest 224 = .ok (.iadd, 1) := by decide +kernel
theorem dX2_readTest_225 : decode cX2_readTest 225 = .ok (.invokevirtual 253, 3) := by decide +kernel
theorem dX2_readTest_228 : decode cX2_readTest 228 = .ok (.return_, 1) := by decide +kernel
abbrev cX2_readSide : ByteArray := prog_26_method_33_code
def yX2_readSide : MethodName := ⟨"TripleStoreModel", "readSide", "(I)V"⟩
theorem dX2_readSide_0 : decode cX2_readSide 0 = .ok (.aload_n 0, 1) := by decide +kernel
theorem dX2_readSide_1 : decode cX2_readSide 1 = .ok (.getfield 49, 3) := by decide +kernel
theorem dX2_readSide_4 : decode cX2_readSide 4 = .ok (.iload_n 1, 1) := by decide +kernel
theorem dX2_readSide_5 : decode cX2_readSide 5 = .ok (.iconst (-1), 1) := by decide +kernel
theorem dX2_readSide_6 : decode cX2_readSide 6 = .ok (.iastore, 1) := by decide +kernel
theorem dX2_readSide_7 : decode cX2_readSide 7 = .ok (.aload_n 0, 1) := by decide +kernel
theorem dX2_readSide_8 : decode cX2_readSide 8 = .ok (.getfield 181, 3) := by decide +kernel
theorem dX2_readSide_11 : decode cX2_readSide 11 = .ok (.iconst 3, 1) := by decide +kernel
theorem dX2_readSide_12 : decode cX2_readSide 12 = .ok (.if_icmp .ne 16, 3) := by decide +kernel
theorem dX2_readSide_15 : decode cX2_readSide 15 = .ok (.aload_n 0, 1) := by decide +kernel
theorem dX2_readSide_16 : decode cX2_readSide 16 = .ok (.getfield 49, 3) := by decide +kernel
theorem dX2_readSide_19 : decode cX2_readSide 19 = .ok (.iload_n 1, 1) := by decide +kernel
theorem dX2_readSide_20 : decode cX2_readSide 20 = .ok (.aload_n 0, 1) := by decide +kernel
theorem dX2_readSide_21 : decode cX2_readSide 21 = .ok (.invokevirtual 236, 3) := by decide +kernel
theorem dX2_readSide_24 : decode cX2_readSide 24 = .ok (.iastore, 1) := by decide +kernel
theorem dX2_readSide_25 : decode cX2_readSide 25 = .ok (.goto 41, 3) := by decide +kernel
theorem dX2_readSide_28 : decode cX2_readSide 28 = .ok (.aload_n 0, 1) := by decide +kernel
theorem dX2_readSide_29 : decode cX2_readSide 29 = .ok (.getfield 52, 3) := by decide +kernel
theorem dX2_readSide_32 : decode cX2_readSide 32 = .ok (.iload_n 1, 1) := by decide +kernel
theorem dX2_readSide_33 : decode cX2_readSide 33 = .ok (.aload_n 0, 1) := by decide +kernel
theorem dX2_readSide_34 : decode cX2_readSide 34 = .ok (.getfield 181, 3) := by decide +kernel
theorem dX2_readSide_37 : decode cX2_readSide 37 = .ok (.iconst 2, 1) := by decide +kernel
theorem dX2_readSide_38 : decode cX2_readSide 38 = .ok (.if_icmp .ne 14, 3) := by decide +kernel
theorem dX2_readSide_41 : decode cX2_readSide 41 = .ok (.ldc2_w 98, 3) := by decide +kernel
theorem dX2_readSide_44 : decode cX2_readSide 44 = .ok (.aload_n 0, 1) := by decide +kernel
theorem dX2_readSide_45 : decode cX2_readSide 45 = .ok (.getfield 164, 3) := by decide +kernel
theorem dX2_readSide_48 : decode cX2_readSide 48 = .ok (.lsub, 1) := by decide +kernel
theorem dX2_readSide_49 : decode cX2_readSide 49 = .ok (.goto 7, 3) := by decide +kernel
theorem dX2_readSide_52 : decode cX2_readSide 52 = .ok (.aload_n 0, 1) := by decide +kernel
theorem dX2_readSide_53 : decode cX2_readSide 53 = .ok (.getfield 164, 3) := by decide +kernel
theorem dX2_readSide_56 : decode cX2_readSide 56 = .ok (.lastore, 1) := by decide +kernel
theorem dX2_readSide_57 : decode cX2_readSide 57 = .ok (.aload_n 0, 1) := by decide +kernel
theorem dX2_readSide_58 : decode cX2_readSide 58 = .ok (.aload_n 0, 1) := by decide +kernel
theorem dX2_readSide_59 : decode cX2_readSide 59 = .ok (.invokevirtual 240, 3) := by decide +kernel
theorem dX2_readSide_62 : decode cX2_readSide 62 = .ok (.invokevirtual 232, 3) := by decide +kernel
theorem dX2_readSide_65 : decode cX2_readSide 65 = .ok (.istore_n 2, 1) := by decide +kernel
theorem dX2_readSide_66 : decode cX2_readSide 66 = .ok (.return_, 1) := by decide +kernel
abbrev cX2_readOn : ByteArray := prog_26_method_37_code
def yX2_readOn : MethodName := ⟨"TripleStoreModel", "readOn", "()V"⟩
theorem dX2_readOn_0 : decode cX2_readOn 0 = .ok (.aload_n 0, 1) := by decide +kernel
theorem dX2_readOn_1 : decode cX2_readOn 1 = .ok (.bipush 6, 2) := by decide +kernel
theorem dX2_readOn_3 : decode cX2_readOn 3 = .ok (.invokevirtual 217, 3) := by decide +kernel
theorem dX2_readOn_6 : decode cX2_readOn 6 = .ok (.ifCond .ne 12, 3) := by decide +kernel
theorem dX2_readOn_9 : decode cX2_readOn 9 = .ok (.aload_n 0, 1) := by decide +kernel
theorem dX2_readOn_10 : decode cX2_readOn 10 = .ok (.bipush 7, 2) := by decide +kernel
theorem dX2_readOn_12 : decode cX2_readOn 12 = .ok (.invokevirtual 217, 3) := by decide +kernel
theorem dX2_readOn_15 : decode cX2_readOn 15 = .ok (.ifCond .eq 30, 3) := by decide +kernel
theorem dX2_readOn_18 : decode cX2_readOn 18 = .ok (.aload_n 0, 1) := by decide +kernel
theorem dX2_readOn_19 : decode cX2_readOn 19 = .ok (.bipush 6, 2) := by decide +kernel
theorem dX2_readOn_21 : decode cX2_readOn 21 = .ok (.invokevirtual 217, 3) := by decide +kernel
theorem dX2_readOn_24 : decode cX2_readOn 24 = .ok (.ifCond .eq 7, 3) := by decide +kernel
theorem dX2_readOn_27 : decode cX2_readOn 27 = .ok (.iconst 1, 1) := by decide +kernel
theorem dX2_readOn_28 : decode cX2_readOn 28 = .ok (.goto 4, 3) := by decide +kernel
theorem dX2_readOn_31 : decode cX2_readOn 31 = .ok (.iconst 2, 1) := by decide +kernel
theorem dX2_readOn_32 : decode cX2_readOn 32 = .ok (.istore_n 1, 1) := by decide +kernel
theorem dX2_readOn_33 : decode cX2_readOn 33 = .ok (.aload_n 0, 1) := by decide +kernel
theorem dX2_readOn_34 : decode cX2_readOn 34 = .ok (.invokevirtual 226, 3) := by decide +kernel
theorem dX2_readOn_37 : decode cX2_readOn 37 = .ok (.aload_n 0, 1) := by decide +kernel
theorem dX2_readOn_38 : decode cX2_readOn 38 = .ok (.iload_n 1, 1) := by decide +kernel
theorem dX2_readOn_39 : decode cX2_readOn 39 = .ok (.invokevirtual 275, 3) := by decide +kernel
theorem dX2_readOn_42 : decode cX2_readOn 42 = .ok (.goto 34, 3) := by decide +kernel
theorem dX2_readOn_45 : decode cX2_readOn 45 = .ok (.aload_n 0, 1) := by decide +kernel
theorem dX2_readOn_46 : decode cX2_readOn 46 = .ok (.bipush 123, 2) := by decide +kernel
theorem dX2_readOn_48 : decode cX2_readOn 48 = .ok (.invokevirtual 256, 3) := by decide +kernel
theorem dX2_readOn_51 : decode cX2_readOn 51 = .ok (.ifCond .eq 25, 3) := by decide +kernel
theorem dX2_readOn_54 : decode cX2_readOn 54 = .ok (.aload_n 0, 1) := by decide +kernel
theorem dX2_readOn_55 : decode cX2_readOn 55 = .ok (.bipush 6, 2) := by decide +kernel
theorem dX2_readOn_57 : decode cX2_readOn 57 = .ok (.iconst 0, 1) := by decide +kernel
theorem dX2_readOn_58 : decode cX2_readOn 58 = .ok (.invokevirtual 271, 3) := by decide +kernel
theorem dX2_readOn_61 : decode cX2_readOn 61 = .ok (.aload_n 0, 1) := by decide +kernel
theorem dX2_readOn_62 : decode cX2_readOn 62 = .ok (.getfield 67, 3) := by decide +kernel
theorem dX2_readOn_65 : decode cX2_readOn 65 = .ok (.aload_n 0, 1) := by decide +kernel
theorem dX2_readOn_66 : decode cX2_readOn 66 = .ok (.getfield 250, 3) := by decide +kernel
theorem dX2_readOn_69 : decode cX2_readOn 69 = .ok (.iconst 0, 1) := by decide +kernel
theorem dX2_readOn_70 : decode cX2_readOn 70 = .ok (.iastore, 1) := by decide +kernel
theorem dX2_readOn_71 : decode cX2_readOn 71 = .ok (.aload_n 0, 1) := by decide +kernel
theorem dX2_readOn_72 : decode cX2_readOn 72 = .ok (.iconst 3, 1) := by decide +kernel
theorem dX2_readOn_73 : decode cX2_readOn 73 = .ok (.invokevirtual 275, 3) := by decide +kernel
theorem dX2_readOn_76 : decode cX2_readOn 76 = .ok (.return_, 1) := by decide +kernel
abbrev cX2_readClose : ByteArray := prog_26_method_39_code
def yX2_readClose : MethodName := ⟨"TripleStoreModel", "readClose", "()V"⟩
theorem dX2_readClose_0 : decode cX2_readClose 0 = .ok (.aload_n 0, 1) := by decide +kernel
theorem dX2_readClose_1 : decode cX2_readClose 1 = .ok (.invokevirtual 226, 3) := by decide +kernel
theorem dX2_readClose_4 : decode cX2_readClose 4 = .ok (.aload_n 0, 1) := by decide +kernel
theorem dX2_readClose_5 : decode cX2_readClose 5 = .ok (.dup, 1) := by decide +kernel
theorem dX2_readClose_6 : decode cX2_readClose 6 = .ok (.getfield 250, 3) := by decide +kernel
theorem dX2_readClose_9 : decode cX2_readClose 9 = .ok (.iconst 1, 1) := by decide +kernel
theorem dX2_readClose_10 : decode cX2_readClose 10 = .ok (.isub, 1) := by decide +kernel
theorem dX2_readClose_11 : decode cX2_readClose 11 = .ok (.putfield 250, 3) := by decide +kernel
theorem dX2_readClose_14 : decode cX2_readClose 14 = .ok (.aload_n 0, 1) := by decide +kernel
theorem dX2_readClose_15 : decode cX2_readClose 15 = .ok (.iconst 3, 1) := by decide +kernel
theorem dX2_readClose_16 : decode cX2_readClose 16 = .ok (.aload_n 0, 1) := by decide +kernel
theorem dX2_readClose_17 : decode cX2_readClose 17 = .ok (.getfield 40, 3) := by decide +kernel
theorem dX2_readClose_20 : decode cX2_readClose 20 = .ok (.aload_n 0, 1) := by decide +kernel
theorem dX2_readClose_21 : decode cX2_readClose 21 = .ok (.getfield 250, 3) := by decide +kernel
theorem dX2_readClose_24 : decode cX2_readClose 24 = .ok (.iaload, 1) := by decide +kernel
theorem dX2_readClose_25 : decode cX2_readClose 25 = .ok (.invokevirtual 271, 3) := by decide +kernel
theorem dX2_readClose_28 : decode cX2_readClose 28 = .ok (.aload_n 0, 1) := by decide +kernel
theorem dX2_readClose_29 : decode cX2_readClose 29 = .ok (.getfield 37, 3) := by decide +kernel
theorem dX2_readClose_32 : decode cX2_readClose 32 = .ok (.aload_n 0, 1) := by decide +kernel
theorem dX2_readClose_33 : decode cX2_readClose 33 = .ok (.getfield 250, 3) := by decide +kernel
theorem dX2_readClose_36 : decode cX2_readClose 36 = .ok (.iaload, 1) := by decide +kernel
theorem dX2_readClose_37 : decode cX2_readClose 37 = .ok (.istore_n 1, 1) := by decide +kernel
theorem dX2_readClose_38 : decode cX2_readClose 38 = .ok (.iload_n 1, 1) := by decide +kernel
theorem dX2_readClose_39 : decode cX2_readClose 39 = .ok (.iconst 1, 1) := by decide +kernel
theorem dX2_readClose_40 : decode cX2_readClose 40 = .ok (.if_icmp .ne 12, 3) := by decide +kernel
theorem dX2_readClose_43 : decode cX2_readClose 43 = .ok (.aload_n 0, 1) := by decide +kernel
theorem dX2_readClose_44 : decode cX2_readClose 44 = .ok (.iconst 4, 1) := by decide +kernel
theorem dX2_readClose_45 : decode cX2_readClose 45 = .ok (.iconst 0, 1) := by decide +kernel
theorem dX2_readClose_46 : decode cX2_readClose 46 = .ok (.invokevirtual 271, 3) := by decide +kernel
theorem dX2_readClose_49 : decode cX2_readClose 49 = .ok (.goto 57, 3) := by decide +kernel
theorem dX2_readClose_52 : decode cX2_readClose 52 = .ok (.iload_n 1, 1) := by decide +kernel
theorem dX2_readClose_53 : decode cX2_readClose 53 = .ok (.iconst 2, 1) := by decide +kernel
theorem dX2_readClose_54 : decode cX2_readClose 54 = .ok (.if_icmp .ne 12, 3) := by decide +kernel
theorem dX2_readClose_57 : decode cX2_readClose 57 = .ok (.aload_n 0, 1) := by decide +kernel
theorem dX2_readClose_58 : decode cX2_readClose 58 = .ok (.iconst 5, 1) := by decide +kernel
theorem dX2_readClose_59 : decode cX2_readClose 59 = .ok (.iconst 0, 1) := by decide +kernel
theorem dX2_readClose_60 : decode cX2_readClose 60 = .ok (.invokevirtual 271, 3) := by decide +kernel
theorem dX2_readClose_63 : decode cX2_readClose 63 = .ok (.goto 43, 3) := by decide +kernel
theorem dX2_readClose_66 : decode cX2_readClose 66 = .ok (.iload_n 1, 1) := by decide +kernel
theorem dX2_readClose_67 : decode cX2_readClose 67 = .ok (.iconst 3, 1) := by decide +kernel
theorem dX2_readClose_68 : decode cX2_readClose 68 = .ok (.if_icmp .ne 38, 3) := by decide +kernel
theorem dX2_readClose_71 : decode cX2_readClose 71 = .ok (.aload_n 0, 1) := by decide +kernel
theorem dX2_readClose_72 : decode cX2_readClose 72 = .ok (.bipush 7, 2) := by decide +kernel
theorem dX2_readClose_74 : decode cX2_readClose 74 = .ok (.iconst 0, 1) := by decide +kernel
theorem dX2_readClose_75 : decode cX2_readClose 75 = .ok (.invokevirtual 271, 3) := by decide +kernel
theorem dX2_readClose_78 : decode cX2_readClose 78 = .ok (.aload_n 0, 1) := by decide +kernel
theorem dX2_readClose_79 : decode cX2_readClose 79 = .ok (.bipush 8, 2) := by decide +kernel
theorem dX2_readClose_81 : decode cX2_readClose 81 = .ok (.invokevirtual 217, 3) := by decide +kernel
theorem dX2_readClose_84 : decode cX2_readClose 84 = .ok (.ifCond .eq 15, 3) := by decide +kernel
theorem dX2_readClose_87 : decode cX2_readClose 87 = .ok (.aload_n 0, 1) := by decide +kernel
theorem dX2_readClose_88 : decode cX2_readClose 88 = .ok (.invokevirtual 226, 3) := by decide +kernel
theorem dX2_readClose_91 : decode cX2_readClose 91 = .ok (.aload_n 0, 1) := by decide +kernel
theorem dX2_readClose_92 : decode cX2_readClose 92 = .ok (.iconst 3, 1) := by decide +kernel
theorem dX2_readClose_93 : decode cX2_readClose 93 = .ok (.invokevirtual 275, 3) := by decide +kernel
theorem dX2_readClose_96 : decode cX2_readClose 96 = .ok (.goto 10, 3) := by decide +kernel
theorem dX2_readClose_99 : decode cX2_readClose 99 = .ok (.aload_n 0, 1) := by decide +kernel
theorem dX2_readClose_100 : decode cX2_readClose 100 = .ok (.bipush 8, 2) := by decide +kernel
theorem dX2_readClose_102 : decode cX2_readClose 102 = .ok (.iconst 0, 1) := by decide +kernel
theorem dX2_readClose_103 : decode cX2_readClose 103 = .ok (.invokevirtual 271, 3) := by decide +kernel
theorem dX2_readClose_106 : decode cX2_readClose 106 = .ok (.return_, 1) := by decide +kernel
abbrev cX2_work : ByteArray := prog_26_method_50_code
def yX2_work : MethodName := ⟨"TripleStoreModel", "work", "(II)V"⟩
theorem dX2_work_0 : decode cX2_work 0 = .ok (.iload_n 1, 1) := by decide +kernel
theorem dX2_work_1 : decode cX2_work 1 = .ok (.iconst 1, 1) := by decide +kernel
theorem dX2_work_2 : decode cX2_work 2 = .ok (.if_icmp .eq 9, 3) := by decide +kernel
theorem dX2_work_5 : decode cX2_work 5 = .ok (.iload_n 1, 1) := by decide +kernel
theorem dX2_work_6 : decode cX2_work 6 = .ok (.bipush 6, 2) := by decide +kernel
theorem dX2_work_8 : decode cX2_work 8 = .ok (.if_icmp .ne 49, 3) := by decide +kernel
theorem dX2_work_11 : decode cX2_work 11 = .ok (.aload_n 0, 1) := by decide +kernel
theorem dX2_work_12 : decode cX2_work 12 = .ok (.getfield 76, 3) := by decide +kernel
theorem dX2_work_15 : decode cX2_work 15 = .ok (.aload_n 0, 1) := by decide +kernel
theorem dX2_work_16 : decode cX2_work 16 = .ok (.getfield 318, 3) := by decide +kernel
theorem dX2_work_19 : decode cX2_work 19 = .ok (.iload_n 1, 1) := by decide +kernel
theorem dX2_work_20 : decode cX2_work 20 = .ok (.iconst 1, 1) := by decide +kernel
theorem dX2_work_21 : decode cX2_work 21 = .ok (.if_icmp .ne 7, 3) := by decide +kernel
theorem dX2_work_24 : decode cX2_work 24 = .ok (.iconst 1, 1) := by decide +kernel
theorem dX2_work_25 : decode cX2_work 25 = .ok (.goto 4, 3) := by decide +kernel
theorem dX2_work_28 : decode cX2_work 28 = .ok (.iconst 0, 1) := by decide +kernel
theorem dX2_work_29 : decode cX2_work 29 = .ok (.iastore, 1) := by decide +kernel
theorem dX2_work_30 : decode cX2_work 30 = .ok (.aload_n 0, 1) := by decide +kernel
theorem dX2_work_31 : decode cX2_work 31 = .ok (.getfield 73, 3) := by decide +kernel
theorem dX2_work_34 : decode cX2_work 34 = .ok (.sipush 150, 3) := by decide +kernel
theorem dX2_work_37 : decode cX2_work 37 = .ok (.aload_n 0, 1) := by decide +kernel
theorem dX2_work_38 : decode cX2_work 38 = .ok (.getfield 318, 3) := by decide +kernel
theorem dX2_work_41 : decode cX2_work 41 = .ok (.imul, 1) := by decide +kernel
theorem dX2_work_42 : decode cX2_work 42 = .ok (.iconst 0, 1) := by decide +kernel
theorem dX2_work_43 : decode cX2_work 43 = .ok (.iastore, 1) := by decide +kernel
theorem dX2_work_44 : decode cX2_work 44 = .ok (.aload_n 0, 1) := by decide +kernel
theorem dX2_work_45 : decode cX2_work 45 = .ok (.dup, 1) := by decide +kernel
theorem dX2_work_46 : decode cX2_work 46 = .ok (.getfield 318, 3) := by decide +kernel
theorem dX2_work_49 : decode cX2_work 49 = .ok (.iconst 1, 1) := by decide +kernel
theorem dX2_work_50 : decode cX2_work 50 = .ok (.iadd, 1) := by decide +kernel
theorem dX2_work_51 : decode cX2_work 51 = .ok (.putfield 318, 3) := by decide +kernel
theorem dX2_work_54 : decode cX2_work 54 = .ok (.goto 120, 3) := by decide +kernel
theorem dX2_work_57 : decode cX2_work 57 = .ok (.iload_n 1, 1) := by decide +kernel
theorem dX2_work_58 : decode cX2_work 58 = .ok (.iconst 2, 1) := by decide +kernel
theorem dX2_work_59 : decode cX2_work 59 = .ok (.if_icmp .ne 16, 3) := by decide +kernel
theorem dX2_work_62 : decode cX2_work 62 = .ok (.aload_n 0, 1) := by decide +kernel
theorem dX2_work_63 : decode cX2_work 63 = .ok (.iload_n 2, 1) := by decide +kernel
theorem dX2_work_64 : decode cX2_work 64 = .ok (.invokevirtual 338, 3) := by decide +kernel
theorem dX2_work_67 : decode cX2_work 67 = .ok (.aload_n 0, 1) := by decide +kernel
theorem dX2_work_68 : decode cX2_work 68 = .ok (.iconst 0, 1) := by decide +kernel
theorem dX2_work_69 : decode cX2_work 69 = .ok (.invokevirtual 341, 3) := by decide +kernel
theorem dX2_work_72 : decode cX2_work 72 = .ok (.goto 102, 3) := by decide +kernel
theorem dX2_work_75 : decode cX2_work 75 = .ok (.iload_n 1, 1) := by decide +kernel
theorem dX2_work_76 : decode cX2_work 76 = .ok (.iconst 3, 1) := by decide +kernel
theorem dX2_work_77 : decode cX2_work 77 = .ok (.if_icmp .ne 11, 3) := by decide +kernel
theorem dX2_work_80 : decode cX2_work 80 = .ok (.aload_n 0, 1) := by decide +kernel
theorem dX2_work_81 : decode cX2_work 81 = .ok (.iload_n 2, 1) := by decide +kernel
theorem dX2_work_82 : decode cX2_work 82 = .ok (.invokevirtual 344, 3) := by decide +kernel
theorem dX2_work_85 : decode cX2_work 85 = .ok (.goto 89, 3) := by decide +kernel
theorem dX2_work_88 : decode cX2_work 88 = .ok (.iload_n 1, 1) := by decide +kernel
theorem dX2_work_89 : decode cX2_work 89 = .ok (.iconst 4, 1) := by decide +kernel
theorem dX2_work_90 : decode cX2_work 90 = .ok (.if_icmp .ne 11, 3) := by decide +kernel
theorem dX2_work_93 : decode cX2_work 93 = .ok (.aload_n 0, 1) := by decide +kernel
theorem dX2_work_94 : decode cX2_work 94 = .ok (.iconst 1, 1) := by decide +kernel
theorem dX2_work_95 : decode cX2_work 95 = .ok (.invokevirtual 341, 3) := by decide +kernel
theorem dX2_work_98 : decode cX2_work 98 = .ok (.goto 76, 3) := by decide +kernel
theorem dX2_work_101 : decode cX2_work 101 = .ok (.iload_n 1, 1) := by decide +kernel
theorem dX2_work_102 : decode cX2_work 102 = .ok (.iconst 5, 1) := by decide +kernel
theorem dX2_work_103 : decode cX2_work 103 = .ok (.if_icmp .ne 11, 3) := by decide +kernel
theorem dX2_work_106 : decode cX2_work 106 = .ok (.aload_n 0, 1) := by decide +kernel
theorem dX2_work_107 : decode cX2_work 107 = .ok (.iconst 2, 1) := by decide +kernel
theorem dX2_work_108 : decode cX2_work 108 = .ok (.invokevirtual 341, 3) := by decide +kernel
theorem dX2_work_111 : decode cX2_work 111 = .ok (.goto 63, 3) := by decide +kernel
theorem dX2_work_114 : decode cX2_work 114 = .ok (.iload_n 1, 1) := by decide +kernel
theorem dX2_work_115 : decode cX2_work 115 = .ok (.bipush 8, 2) := by decide +kernel
theorem dX2_work_117 : decode cX2_work 117 = .ok (.if_icmp .ne 11, 3) := by decide +kernel
theorem dX2_work_120 : decode cX2_work 120 = .ok (.aload_n 0, 1) := by decide +kernel
theorem dX2_work_121 : decode cX2_work 121 = .ok (.iconst 0, 1) := by decide +kernel
theorem dX2_work_122 : decode cX2_work 122 = .ok (.invokevirtual 341, 3) := by decide +kernel
theorem dX2_work_125 : decode cX2_work 125 = .ok (.goto 49, 3) := by decide +kernel
theorem dX2_work_128 : decode cX2_work 128 = .ok (.aload_n 0, 1) := by decide +kernel
theorem dX2_work_129 : decode cX2_work 129 = .ok (.dup, 1) := by decide +kernel
theorem dX2_work_130 : decode cX2_work 130 = .ok (.getfield 318, 3) := by decide +kernel
theorem dX2_work_133 : decode cX2_work 133 = .ok (.iconst 1, 1) := by decide +kernel
theorem dX2_work_134 : decode cX2_work 134 = .ok (.isub, 1) := by decide +kernel
theorem dX2_work_135 : decode cX2_work 135 = .ok (.putfield 318, 3) := by decide +kernel
theorem dX2_work_138 : decode cX2_work 138 = .ok (.iconst 0, 1) := by decide +kernel
theorem dX2_work_139 : decode cX2_work 139 = .ok (.istore_n 3, 1) := by decide +kernel
theorem dX2_work_140 : decode cX2_work 140 = .ok (.iload_n 3, 1) := by decide +kernel
theorem dX2_work_141 : decode cX2_work 141 = .ok (.aload_n 0, 1) := by decide +kernel
theorem dX2_work_142 : decode cX2_work 142 = .ok (.getfield 76, 3) := by decide +kernel
theorem dX2_work_145 : decode cX2_work 145 = .ok (.aload_n 0, 1) := by decide +kernel
theorem dX2_work_146 : decode cX2_work 146 = .ok (.getfield 318, 3) := by decide +kernel
theorem dX2_work_149 : decode cX2_work 149 = .ok (.iaload, 1) := by decide +kernel
theorem dX2_work_150 : decode cX2_work 150 = .ok (.if_icmp .ge 24, 3) := by decide +kernel
theorem dX2_work_153 : decode cX2_work 153 = .ok (.aload_n 0, 1) := by decide +kernel
theorem dX2_work_154 : decode cX2_work 154 = .ok (.aload_n 0, 1) := by decide +kernel
theorem dX2_work_155 : decode cX2_work 155 = .ok (.getfield 318, 3) := by decide +kernel
theorem dX2_work_158 : decode cX2_work 158 = .ok (.iconst 1, 1) := by decide +kernel
theorem dX2_work_159 : decode cX2_work 159 = .ok (.isub, 1) := by decide +kernel
theorem dX2_work_160 : decode cX2_work 160 = .ok (.aload_n 0, 1) := by decide +kernel
theorem dX2_work_161 : decode cX2_work 161 = .ok (.getfield 318, 3) := by decide +kernel
theorem dX2_work_164 : decode cX2_work 164 = .ok (.iload_n 3, 1) := by decide +kernel
theorem dX2_work_165 : decode cX2_work 165 = .ok (.invokevirtual 314, 3) := by decide +kernel
theorem dX2_work_168 : decode cX2_work 168 = .ok (.iinc 3 1, 3) := by decide +kernel
theorem dX2_work_171 : decode cX2_work 171 = .ok (.goto (-31), 3) := by decide +kernel
theorem dX2_work_174 : decode cX2_work 174 = .ok (.return_, 1) := by decide +kernel
abbrev cX2_match : ByteArray := prog_26_method_47_code
def yX2_match : MethodName := ⟨"TripleStoreModel", "match", "(I)V"⟩
theorem dX2_match_0 : decode cX2_match 0 = .ok (.aload_n 0, 1) := by decide +kernel
theorem dX2_match_1 : decode cX2_match 1 = .ok (.getfield 318, 3) := by decide +kernel
theorem dX2_match_4 : decode cX2_match 4 = .ok (.istore_n 2, 1) := by decide +kernel
theorem dX2_match_5 : decode cX2_match 5 = .ok (.aload_n 0, 1) := by decide +kernel
theorem dX2_match_6 : decode cX2_match 6 = .ok (.getfield 76, 3) := by decide +kernel
theorem dX2_match_9 : decode cX2_match 9 = .ok (.iload_n 2, 1) := by decide +kernel
theorem dX2_match_10 : decode cX2_match 10 = .ok (.iconst 0, 1) := by decide +kernel
theorem dX2_match_11 : decode cX2_match 11 = .ok (.iastore, 1) := by decide +kernel
theorem dX2_match_12 : decode cX2_match 12 = .ok (.aload_n 0, 1) := by decide +kernel
theorem dX2_match_13 : decode cX2_match 13 = .ok (.dup, 1) := by decide +kernel
theorem dX2_match_14 : decode cX2_match 14 = .ok (.getfield 318, 3) := by decide +kernel
theorem dX2_match_17 : decode cX2_match 17 = .ok (.iconst 1, 1) := by decide +kernel
theorem dX2_match_18 : decode cX2_match 18 = .ok (.iadd, 1) := by decide +kernel
theorem dX2_match_19 : decode cX2_match 19 = .ok (.putfield 318, 3) := by decide +kernel
theorem dX2_match_22 : decode cX2_match 22 = .ok (.iconst 0, 1) := by decide +kernel
theorem dX2_match_23 : decode cX2_match 23 = .ok (.istore_n 3, 1) := by decide +kernel
theorem dX2_match_24 : decode cX2_match 24 = .ok (.iload_n 3, 1) := by decide +kernel
theorem dX2_match_25 : decode cX2_match 25 = .ok (.aload_n 0, 1) := by decide +kernel
theorem dX2_match_26 : decode cX2_match 26 = .ok (.getfield 102, 3) := by decide +kernel
theorem dX2_match_29 : decode cX2_match 29 = .ok (.if_icmp .ge 198, 3) := by decide +kernel
theorem dX2_match_32 : decode cX2_match 32 = .ok (.sipush 150, 3) := by decide +kernel
theorem dX2_match_35 : decode cX2_match 35 = .ok (.iload_n 2, 1) := by decide +kernel
theorem dX2_match_36 : decode cX2_match 36 = .ok (.imul, 1) := by decide +kernel
theorem dX2_match_37 : decode cX2_match 37 = .ok (.aload_n 0, 1) := by decide +kernel
theorem dX2_match_38 : decode cX2_match 38 = .ok (.getfield 76, 3) := by decide +kernel
theorem dX2_match_41 : decode cX2_match 41 = .ok (.iload_n 2, 1) := by decide +kernel
theorem dX2_match_42 : decode cX2_match 42 = .ok (.iaload, 1) := by decide +kernel
theorem dX2_match_43 : decode cX2_match 43 = .ok (.iadd, 1) := by decide +kernel
theorem dX2_match_44 : decode cX2_match 44 = .ok (.istore 4, 2) := by decide +kernel
theorem dX2_match_46 : decode cX2_match 46 = .ok (.aload_n 0, 1) := by decide +kernel
theorem dX2_match_47 : decode cX2_match 47 = .ok (.getfield 73, 3) := by decide +kernel
theorem dX2_match_50 : decode cX2_match 50 = .ok (.iload 4, 2) := by decide +kernel
theorem dX2_match_52 : decode cX2_match 52 = .ok (.iconst 0, 1) := by decide +kernel
theorem dX2_match_53 : decode cX2_match 53 = .ok (.iastore, 1) := by decide +kernel
theorem dX2_match_54 : decode cX2_match 54 = .ok (.iconst 1, 1) := by decide +kernel
theorem dX2_match_55 : decode cX2_match 55 = .ok (.istore 5, 2) := by decide +kernel
theorem dX2_match_57 : decode cX2_match 57 = .ok (.iconst 0, 1) := by decide +kernel
theorem dX2_match_58 : decode cX2_match 58 = .ok (.istore 6, 2) := by decide +kernel
theorem dX2_match_60 : decode cX2_match 60 = .ok (.iload 6, 2) := by decide +kernel
theorem dX2_match_62 : decode cX2_match 62 = .ok (.iconst 3, 1) := by decide +kernel
theorem dX2_match_63 : decode cX2_match 63 = .ok (.if_icmp .ge 143, 3) := by decide +kernel
theorem dX2_match_66 : decode cX2_match 66 = .ok (.aload_n 0, 1) := by decide +kernel
theorem dX2_match_67 : decode cX2_match 67 = .ok (.getfield 7, 3) := by decide +kernel
theorem dX2_match_70 : decode cX2_match 70 = .ok (.iconst 3, 1) := by decide +kernel
theorem dX2_match_71 : decode cX2_match 71 = .ok (.iload_n 3, 1) := by decide +kernel
theorem dX2_match_72 : decode cX2_match 72 = .ok (.imul, 1) := by decide +kernel
theorem dX2_match_73 : decode cX2_match 73 = .ok (.iload 6, 2) := by decide +kernel
theorem dX2_match_75 : decode cX2_match 75 = .ok (.iadd, 1) := by decide +kernel
theorem dX2_match_76 : decode cX2_match 76 = .ok (.laload, 1) := by decide +kernel
theorem dX2_match_77 : decode cX2_match 77 = .ok (.lstore 7, 2) := by decide +kernel
theorem dX2_match_79 : decode cX2_match 79 = .ok (.aload_n 0, 1) := by decide +kernel
theorem dX2_match_80 : decode cX2_match 80 = .ok (.getfield 49, 3) := by decide +kernel
theorem dX2_match_83 : decode cX2_match 83 = .ok (.iload_n 1, 1) := by decide +kernel
theorem dX2_match_84 : decode cX2_match 84 = .ok (.iload 6, 2) := by decide +kernel
theorem dX2_match_86 : decode cX2_match 86 = .ok (.iadd, 1) := by decide +kernel
theorem dX2_match_87 : decode cX2_match 87 = .ok (.iaload, 1) := by decide +kernel
theorem dX2_match_88 : decode cX2_match 88 = .ok (.istore 9, 2) := by decide +kernel
theorem dX2_match_90 : decode cX2_match 90 = .ok (.iload 9, 2) := by decide +kernel
theorem dX2_match_92 : decode cX2_match 92 = .ok (.ifCond .ge 31, 3) := by decide +kernel
theorem dX2_match_95 : decode cX2_match 95 = .ok (.iload 5, 2) := by decide +kernel
theorem dX2_match_97 : decode cX2_match 97 = .ok (.aload_n 0, 1) := by decide +kernel
theorem dX2_match_98 : decode cX2_match 98 = .ok (.getfield 52, 3) := by decide +kernel
theorem dX2_match_101 : decode cX2_match 101 = .ok (.iload_n 1, 1) := by decide +kernel
theorem dX2_match_102 : decode cX2_match 102 = .ok (.iload 6, 2) := by decide +kernel
theorem dX2_match_104 : decode cX2_match 104 = .ok (.iadd, 1) := by decide +kernel
theorem dX2_match_105 : decode cX2_match 105 = .ok (.laload, 1) := by decide +kernel
theorem dX2_match_106 : decode cX2_match 106 = .ok (.lload 7, 2) := by decide +kernel
theorem dX2_match_108 : decode cX2_match 108 = .ok (.lcmp, 1) := by decide +kernel
theorem dX2_match_109 : decode cX2_match 109 = .ok (.ifCond .ne 7, 3) := by decide +kernel
theorem dX2_match_112 : decode cX2_match 112 = .ok (.iconst 1, 1) := by decide +kernel
theorem dX2_match_113 : decode cX2_match 113 = .ok (.goto 4, 3) := by decide +kernel
theorem dX2_match_116 : decode cX2_match 116 = .ok (.iconst 0, 1) := by decide +kernel
theorem dX2_match_117 : decode cX2_match 117 = .ok (.iand, 1) := by decide +kernel
theorem dX2_match_118 : decode cX2_match 118 = .ok (.istore 5, 2) := by decide +kernel
theorem dX2_match_120 : decode cX2_match 120 = .ok (.goto 80, 3) := by decide +kernel
theorem dX2_match_123 : decode cX2_match 123 = .ok (.aload_n 0, 1) := by decide +kernel
theorem dX2_match_124 : decode cX2_match 124 = .ok (.getfield 73, 3) := by decide +kernel
theorem dX2_match_127 : decode cX2_match 127 = .ok (.iload 4, 2) := by decide +kernel
theorem dX2_match_129 : decode cX2_match 129 = .ok (.iaload, 1) := by decide +kernel
theorem dX2_match_130 : decode cX2_match 130 = .ok (.iload 9, 2) := by decide +kernel
theorem dX2_match_132 : decode cX2_match 132 = .ok (.ishr, 1) := by decide +kernel
theorem dX2_match_133 : decode cX2_match 133 = .ok (.iconst 1, 1) := by decide +kernel
theorem dX2_match_134 : decode cX2_match 134 = .ok (.iand, 1) := by decide +kernel
theorem dX2_match_135 : decode cX2_match 135 = .ok (.iconst 1, 1) := by decide +kernel
theorem dX2_match_136 : decode cX2_match 136 = .ok (.if_icmp .ne 35, 3) := by decide +kernel
theorem dX2_match_139 : decode cX2_match 139 = .ok (.iload 5, 2) := by decide +kernel
theorem dX2_match_141 : decode cX2_match 141 = .ok (.aload_n 0, 1) := by decide +kernel
theorem dX2_match_142 : decode cX2_match 142 = .ok (.getfield 70, 3) := by decide +kernel
theorem dX2_match_145 : decode cX2_match 145 = .ok (.bipush 6, 2) := by decide +kernel
theorem dX2_match_147 : decode cX2_match 147 = .ok (.iload 4, 2) := by decide +kernel
theorem dX2_match_149 : decode cX2_match 149 = .ok (.imul, 1) := by decide +kernel
theorem dX2_match_150 : decode cX2_match 150 = .ok (.iload 9, 2) := by decide +kernel
theorem dX2_match_152 : decode cX2_match 152 = .ok (.iadd, 1) := by decide +kernel
theorem dX2_match_153 : decode cX2_match 153 = .ok (.laload, 1) := by decide +kernel
theorem dX2_match_154 : decode cX2_match 154 = .ok (.lload 7, 2) := by decide +kernel
theorem dX2_match_156 : decode cX2_match 156 = .ok (.lcmp, 1) := by decide +kernel
theorem dX2_match_157 : decode cX2_match 157 = .ok (.ifCond .ne 7, 3) := by decide +kernel
theorem dX2_match_160 : decode cX2_match 160 = .ok (.iconst 1, 1) := by decide +kernel
theorem dX2_match_161 : decode cX2_match 161 = .ok (.goto 4, 3) := by decide +kernel
theorem dX2_match_164 : decode cX2_match 164 = .ok (.iconst 0, 1) := by decide +kernel
theorem dX2_match_165 : decode cX2_match 165 = .ok (.iand, 1) := by decide +kernel
theorem dX2_match_166 : decode cX2_match 166 = .ok (.istore 5, 2) := by decide +kernel
theorem dX2_match_168 : decode cX2_match 168 = .ok (.goto 32, 3) := by decide +kernel
theorem dX2_match_171 : decode cX2_match 171 = .ok (.aload_n 0, 1) := by decide +kernel
theorem dX2_match_172 : decode cX2_match 172 = .ok (.getfield 73, 3) := by decide +kernel
theorem dX2_match_175 : decode cX2_match 175 = .ok (.iload 4, 2) := by decide +kernel
theorem dX2_match_177 : decode cX2_match 177 = .ok (.dup2, 1) := by decide +kernel
theorem dX2_match_178 : decode cX2_match 178 = .ok (.iaload, 1) := by decide +kernel
theorem dX2_match_179 : decode cX2_match 179 = .ok (.iconst 1, 1) := by decide +kernel
theorem dX2_match_180 : decode cX2_match 180 = .ok (.iload 9, 2) := by decide +kernel
theorem dX2_match_182 : decode cX2_match 182 = .ok (.ishl, 1) := by decide +kernel
theorem dX2_match_183 : decode cX2_match 183 = .ok (.ior, 1) := by decide +kernel
theorem dX2_match_184 : decode cX2_match 184 = .ok (.iastore, 1) := by decide +kernel
theorem dX2_match_185 : decode cX2_match 185 = .ok (.aload_n 0, 1) := by decide +kernel
theorem dX2_match_186 : decode cX2_match 186 = .ok (.getfield 70, 3) := by decide +kernel
theorem dX2_match_189 : decode cX2_match 189 = .ok (.bipush 6, 2) := by decide +kernel
theorem dX2_match_191 : decode cX2_match 191 = .ok (.iload 4, 2) := by decide +kernel
theorem dX2_match_193 : decode cX2_match 193 = .ok (.imul, 1) := by decide +kernel
theorem dX2_match_194 : decode cX2_match 194 = .ok (.iload 9, 2) := by decide +kernel
theorem dX2_match_196 : decode cX2_match 196 = .ok (.iadd, 1) := by decide +kernel
theorem dX2_match_197 : decode cX2_match 197 = .ok (.lload 7, 2) := by decide +kernel
theorem dX2_match_199 : decode cX2_match 199 = .ok (.lastore, 1) := by decide +kernel
theorem dX2_match_200 : decode cX2_match 200 = .ok (.iinc 6 1, 3) := by decide +kernel
theorem dX2_match_203 : decode cX2_match 203 = .ok (.goto (-143), 3) := by decide +kernel
theorem dX2_match_206 : decode cX2_match 206 = .ok (.iload 5, 2) := by decide +kernel
theorem dX2_match_208 : decode cX2_match 208 = .ok (.ifCond .eq 13, 3) := by decide +kernel
theorem dX2_match_211 : decode cX2_match 211 = .ok (.aload_n 0, 1) := by decide +kernel
theorem dX2_match_212 : decode cX2_match 212 = .ok (.getfield 76, 3) := by decide +kernel
theorem dX2_match_215 : decode cX2_match 215 = .ok (.iload_n 2, 1) := by decide +kernel
theorem dX2_match_216 : decode cX2_match 216 = .ok (.dup2, 1) := by decide +kernel
theorem dX2_match_217 : decode cX2_match 217 = .ok (.iaload, 1) := by decide +kernel
theorem dX2_match_218 : decode cX2_match 218 = .ok (.iconst 1, 1) := by decide +kernel
theorem dX2_match_219 : decode cX2_match 219 = .ok (.iadd, 1) := by decide +kernel
theorem dX2_match_220 : decode cX2_match 220 = .ok (.iastore, 1) := by decide +kernel
theorem dX2_match_221 : decode cX2_match 221 = .ok (.iinc 3 1, 3) := by decide +kernel
theorem dX2_match_224 : decode cX2_match 224 = .ok (.goto (-200), 3) := by decide +kernel
theorem dX2_match_227 : decode cX2_match 227 = .ok (.return_, 1) := by decide +kernel
abbrev cX2_combine : ByteArray := prog_26_method_46_code
def yX2_combine : MethodName := ⟨"TripleStoreModel", "combine", "(I)V"⟩
theorem dX2_combine_0 : decode cX2_combine 0 = .ok (.aload_n 0, 1) := by decide +kernel
theorem dX2_combine_1 : decode cX2_combine 1 = .ok (.getfield 318, 3) := by decide +kernel
theorem dX2_combine_4 : decode cX2_combine 4 = .ok (.iconst 2, 1) := by decide +kernel
theorem dX2_combine_5 : decode cX2_combine 5 = .ok (.isub, 1) := by decide +kernel
theorem dX2_combine_6 : decode cX2_combine 6 = .ok (.istore_n 2, 1) := by decide +kernel
theorem dX2_combine_7 : decode cX2_combine 7 = .ok (.aload_n 0, 1) := by decide +kernel
theorem dX2_combine_8 : decode cX2_combine 8 = .ok (.getfield 318, 3) := by decide +kernel
theorem dX2_combine_11 : decode cX2_combine 11 = .ok (.iconst 1, 1) := by decide +kernel
theorem dX2_combine_12 : decode cX2_combine 12 = .ok (.isub, 1) := by decide +kernel
theorem dX2_combine_13 : decode cX2_combine 13 = .ok (.istore_n 3, 1) := by decide +kernel
theorem dX2_combine_14 : decode cX2_combine 14 = .ok (.aload_n 0, 1) := by decide +kernel
theorem dX2_combine_15 : decode cX2_combine 15 = .ok (.getfield 76, 3) := by decide +kernel
theorem dX2_combine_18 : decode cX2_combine 18 = .ok (.bipush 10, 2) := by decide +kernel
theorem dX2_combine_20 : decode cX2_combine 20 = .ok (.iconst 0, 1) := by decide +kernel
theorem dX2_combine_21 : decode cX2_combine 21 = .ok (.iastore, 1) := by decide +kernel
theorem dX2_combine_22 : decode cX2_combine 22 = .ok (.iconst 0, 1) := by decide +kernel
theorem dX2_combine_23 : decode cX2_combine 23 = .ok (.istore 4, 2) := by decide +kernel
theorem dX2_combine_25 : decode cX2_combine 25 = .ok (.iload 4, 2) := by decide +kernel
theorem dX2_combine_27 : decode cX2_combine 27 = .ok (.aload_n 0, 1) := by decide +kernel
theorem dX2_combine_28 : decode cX2_combine 28 = .ok (.getfield 76, 3) := by decide +kernel
theorem dX2_combine_31 : decode cX2_combine 31 = .ok (.iload_n 2, 1) := by decide +kernel
theorem dX2_combine_32 : decode cX2_combine 32 = .ok (.iaload, 1) := by decide +kernel
theorem dX2_combine_33 : decode cX2_combine 33 = .ok (.if_icmp .ge 152, 3) := by decide +kernel
theorem dX2_combine_36 : decode cX2_combine 36 = .ok (.aload_n 0, 1) := by decide +kernel
theorem dX2_combine_37 : decode cX2_combine 37 = .ok (.getfield 311, 3) := by decide +kernel
theorem dX2_combine_40 : decode cX2_combine 40 = .ok (.ifCond .ne 145, 3) := by decide +kernel
theorem dX2_combine_43 : decode cX2_combine 43 = .ok (.iconst 0, 1) := by decide +kernel
theorem dX2_combine_44 : decode cX2_combine 44 = .ok (.istore 5, 2) := by decide +kernel
theorem dX2_combine_46 : decode cX2_combine 46 = .ok (.iconst 0, 1) := by decide +kernel
theorem dX2_combine_47 : decode cX2_combine 47 = .ok (.istore 6, 2) := by decide +kernel
theorem dX2_combine_49 : decode cX2_combine 49 = .ok (.iconst 0, 1) := by decide +kernel
theorem dX2_combine_50 : decode cX2_combine 50 = .ok (.istore 7, 2) := by decide +kernel
theorem dX2_combine_52 : decode cX2_combine 52 = .ok (.iload 7, 2) := by decide +kernel
theorem dX2_combine_54 : decode cX2_combine 54 = .ok (.aload_n 0, 1) := by decide +kernel
theorem dX2_combine_55 : decode cX2_combine 55 = .ok (.getfield 76, 3) := by decide +kernel
theorem dX2_combine_58 : decode cX2_combine 58 = .ok (.iload_n 3, 1) := by decide +kernel
theorem dX2_combine_59 : decode cX2_combine 59 = .ok (.iaload, 1) := by decide +kernel
theorem dX2_combine_60 : decode cX2_combine 60 = .ok (.if_icmp .ge 90, 3) := by decide +kernel
theorem dX2_combine_63 : decode cX2_combine 63 = .ok (.aload_n 0, 1) := by decide +kernel
theorem dX2_combine_64 : decode cX2_combine 64 = .ok (.getfield 311, 3) := by decide +kernel
theorem dX2_combine_67 : decode cX2_combine 67 = .ok (.ifCond .ne 83, 3) := by decide +kernel
theorem dX2_combine_70 : decode cX2_combine 70 = .ok (.aload_n 0, 1) := by decide +kernel
theorem dX2_combine_71 : decode cX2_combine 71 = .ok (.sipush 150, 3) := by decide +kernel
theorem dX2_combine_74 : decode cX2_combine 74 = .ok (.iload_n 2, 1) := by decide +kernel
theorem dX2_combine_75 : decode cX2_combine 75 = .ok (.imul, 1) := by decide +kernel
theorem dX2_combine_76 : decode cX2_combine 76 = .ok (.iload 4, 2) := by decide +kernel
theorem dX2_combine_78 : decode cX2_combine 78 = .ok (.iadd, 1) := by decide +kernel
theorem dX2_combine_79 : decode cX2_combine 79 = .ok (.sipush 150, 3) := by decide +kernel
theorem dX2_combine_82 : decode cX2_combine 82 = .ok (.iload_n 3, 1) := by decide +kernel
theorem dX2_combine_83 : decode cX2_combine 83 = .ok (.imul, 1) := by decide +kernel
theorem dX2_combine_84 : decode cX2_combine 84 = .ok (.iload 7, 2) := by decide +kernel
theorem dX2_combine_86 : decode cX2_combine 86 = .ok (.iadd, 1) := by decide +kernel
theorem dX2_combine_87 : decode cX2_combine 87 = .ok (.invokevirtual 321, 3) := by decide +kernel
theorem dX2_combine_90 : decode cX2_combine 90 = .ok (.ifCond .eq 54, 3) := by decide +kernel
theorem dX2_combine_93 : decode cX2_combine 93 = .ok (.iconst 1, 1) := by decide +kernel
theorem dX2_combine_94 : decode cX2_combine 94 = .ok (.istore 5, 2) := by decide +kernel
theorem dX2_combine_96 : decode cX2_combine 96 = .ok (.aload_n 0, 1) := by decide +kernel
theorem dX2_combine_97 : decode cX2_combine 97 = .ok (.getfield 73, 3) := by decide +kernel
theorem dX2_combine_100 : decode cX2_combine 100 = .ok (.sipush 150, 3) := by decide +kernel
theorem dX2_combine_103 : decode cX2_combine 103 = .ok (.iload_n 2, 1) := by decide +kernel
theorem dX2_combine_104 : decode cX2_combine 104 = .ok (.imul, 1) := by decide +kernel
theorem dX2_combine_105 : decode cX2_combine 105 = .ok (.iload 4, 2) := by decide +kernel
theorem dX2_combine_107 : decode cX2_combine 107 = .ok (.iadd, 1) := by decide +kernel
theorem dX2_combine_108 : decode cX2_combine 108 = .ok (.iaload, 1) := by decide +kernel
theorem dX2_combine_109 : decode cX2_combine 109 = .ok (.aload_n 0, 1) := by decide +kernel
theorem dX2_combine_110 : decode cX2_combine 110 = .ok (.getfield 73, 3) := by decide +kernel
theorem dX2_combine_113 : decode cX2_combine 113 = .ok (.sipush 150, 3) := by decide +kernel
theorem dX2_combine_116 : decode cX2_combine 116 = .ok (.iload_n 3, 1) := by decide +kernel
theorem dX2_combine_117 : decode cX2_combine 117 = .ok (.imul, 1) := by decide +kernel
theorem dX2_combine_118 : decode cX2_combine 118 = .ok (.iload 7, 2) := by decide +kernel
theorem dX2_combine_120 : decode cX2_combine 120 = .ok (.iadd, 1) := by decide +kernel
theorem dX2_combine_121 : decode cX2_combine 121 = .ok (.iaload, 1) := by decide +kernel
theorem dX2_combine_122 : decode cX2_combine 122 = .ok (.iand, 1) := by decide +kernel
theorem dX2_combine_123 : decode cX2_combine 123 = .ok (.ifCond .eq 6, 3) := by decide +kernel
theorem dX2_combine_126 : decode cX2_combine 126 = .ok (.iconst 1, 1) := by decide +kernel
theorem dX2_combine_127 : decode cX2_combine 127 = .ok (.istore 6, 2) := by decide +kernel
theorem dX2_combine_129 : decode cX2_combine 129 = .ok (.iload_n 1, 1) := by decide +kernel
theorem dX2_combine_130 : decode cX2_combine 130 = .ok (.iconst 2, 1) := by decide +kernel
theorem dX2_combine_131 : decode cX2_combine 131 = .ok (.if_icmp .ge 13, 3) := by decide +kernel
theorem dX2_combine_134 : decode cX2_combine 134 = .ok (.aload_n 0, 1) := by decide +kernel
theorem dX2_combine_135 : decode cX2_combine 135 = .ok (.iload_n 2, 1) := by decide +kernel
theorem dX2_combine_136 : decode cX2_combine 136 = .ok (.iload 4, 2) := by decide +kernel
theorem dX2_combine_138 : decode cX2_combine 138 = .ok (.iload_n 3, 1) := by decide +kernel
theorem dX2_combine_139 : decode cX2_combine 139 = .ok (.iload 7, 2) := by decide +kernel
theorem dX2_combine_141 : decode cX2_combine 141 = .ok (.invokevirtual 325, 3) := by decide +kernel
theorem dX2_combine_144 : decode cX2_combine 144 = .ok (.iinc 7 1, 3) := by decide +kernel
theorem dX2_combine_147 : decode cX2_combine 147 = .ok (.goto (-95), 3) := by decide +kernel
theorem dX2_combine_150 : decode cX2_combine 150 = .ok (.iload_n 1, 1) := by decide +kernel
theorem dX2_combine_151 : decode cX2_combine 151 = .ok (.iconst 1, 1) := by decide +kernel
theorem dX2_combine_152 : decode cX2_combine 152 = .ok (.if_icmp .ne 8, 3) := by decide +kernel
theorem dX2_combine_155 : decode cX2_combine 155 = .ok (.iload 5, 2) := by decide +kernel
theorem dX2_combine_157 : decode cX2_combine 157 = .ok (.ifCond .eq 13, 3) := by decide +kernel
theorem dX2_combine_160 : decode cX2_combine 160 = .ok (.iload_n 1, 1) := by decide +kernel
theorem dX2_combine_161 : decode cX2_combine 161 = .ok (.iconst 2, 1) := by decide +kernel
theorem dX2_combine_162 : decode cX2_combine 162 = .ok (.if_icmp .ne 17, 3) := by decide +kernel
theorem dX2_combine_165 : decode cX2_combine 165 = .ok (.iload 6, 2) := by decide +kernel
theorem dX2_combine_167 : decode cX2_combine 167 = .ok (.ifCond .ne 12, 3) := by decide +kernel
theorem dX2_combine_170 : decode cX2_combine 170 = .ok (.aload_n 0, 1) := by decide +kernel
theorem dX2_combine_171 : decode cX2_combine 171 = .ok (.bipush 10, 2) := by decide +kernel
theorem dX2_combine_173 : decode cX2_combine 173 = .ok (.iload_n 2, 1) := by decide +kernel
theorem dX2_combine_174 : decode cX2_combine 174 = .ok (.iload 4, 2) := by decide +kernel
theorem dX2_combine_176 : decode cX2_combine 176 = .ok (.invokevirtual 314, 3) := by decide +kernel
theorem dX2_combine_179 : decode cX2_combine 179 = .ok (.iinc 4 1, 3) := by decide +kernel
theorem dX2_combine_182 : decode cX2_combine 182 = .ok (.goto (-157), 3) := by decide +kernel
theorem dX2_combine_185 : decode cX2_combine 185 = .ok (.aload_n 0, 1) := by decide +kernel
theorem dX2_combine_186 : decode cX2_combine 186 = .ok (.dup, 1) := by decide +kernel
theorem dX2_combine_187 : decode cX2_combine 187 = .ok (.getfield 318, 3) := by decide +kernel
theorem dX2_combine_190 : decode cX2_combine 190 = .ok (.iconst 1, 1) := by decide +kernel
theorem dX2_combine_191 : decode cX2_combine 191 = .ok (.isub, 1) := by decide +kernel
theorem dX2_combine_192 : decode cX2_combine 192 = .ok (.putfield 318, 3) := by decide +kernel
theorem dX2_combine_195 : decode cX2_combine 195 = .ok (.aload_n 0, 1) := by decide +kernel
theorem dX2_combine_196 : decode cX2_combine 196 = .ok (.getfield 311, 3) := by decide +kernel
theorem dX2_combine_199 : decode cX2_combine 199 = .ok (.ifCond .ne 10, 3) := by decide +kernel
theorem dX2_combine_202 : decode cX2_combine 202 = .ok (.aload_n 0, 1) := by decide +kernel
theorem dX2_combine_203 : decode cX2_combine 203 = .ok (.bipush 10, 2) := by decide +kernel
theorem dX2_combine_205 : decode cX2_combine 205 = .ok (.iload_n 2, 1) := by decide +kernel
theorem dX2_combine_206 : decode cX2_combine 206 = .ok (.invokevirtual 329, 3) := by decide +kernel
theorem dX2_combine_209 : decode cX2_combine 209 = .ok (.return_, 1) := by decide +kernel
abbrev cX2_compatible : ByteArray := prog_26_method_44_code
def yX2_compatible : MethodName := ⟨"TripleStoreModel", "compatible", "(II)Z"⟩
theorem dX2_compatible_0 : decode cX2_compatible 0 = .ok (.iconst 0, 1) := by decide +kernel
theorem dX2_compatible_1 : decode cX2_compatible 1 = .ok (.istore_n 3, 1) := by decide +kernel
theorem dX2_compatible_2 : decode cX2_compatible 2 = .ok (.iload_n 3, 1) := by decide +kernel
theorem dX2_compatible_3 : decode cX2_compatible 3 = .ok (.bipush 6, 2) := by decide +kernel
theorem dX2_compatible_5 : decode cX2_compatible 5 = .ok (.if_icmp .ge 58, 3) := by decide +kernel
theorem dX2_compatible_8 : decode cX2_compatible 8 = .ok (.aload_n 0, 1) := by decide +kernel
theorem dX2_compatible_9 : decode cX2_compatible 9 = .ok (.getfield 73, 3) := by decide +kernel
theorem dX2_compatible_12 : decode cX2_compatible 12 = .ok (.iload_n 1, 1) := by decide +kernel
theorem dX2_compatible_13 : decode cX2_compatible 13 = .ok (.iaload, 1) := by decide +kernel
theorem dX2_compatible_14 : decode cX2_compatible 14 = .ok (.aload_n 0, 1) := by decide +kernel
theorem dX2_compatible_15 : decode cX2_compatible 15 = .ok (.getfield 73, 3) := by decide +kernel
theorem dX2_compatible_18 : decode cX2_compatible 18 = .ok (.iload_n 2, 1) := by decide +kernel
theorem dX2_compatible_19 : decode cX2_compatible 19 = .ok (.iaload, 1) := by decide +kernel
theorem dX2_compatible_20 : decode cX2_compatible 20 = .ok (.iand, 1) := by decide +kernel
theorem dX2_compatible_21 : decode cX2_compatible 21 = .ok (.iload_n 3, 1) := by decide +kernel
theorem dX2_compatible_22 : decode cX2_compatible 22 = .ok (.ishr, 1) := by decide +kernel
theorem dX2_compatible_23 : decode cX2_compatible 23 = .ok (.iconst 1, 1) := by decide +kernel
theorem dX2_compatible_24 : decode cX2_compatible 24 = .ok (.iand, 1) := by decide +kernel
theorem dX2_compatible_25 : decode cX2_compatible 25 = .ok (.iconst 1, 1) := by decide +kernel
theorem dX2_compatible_26 : decode cX2_compatible 26 = .ok (.if_icmp .ne 31, 3) := by decide +kernel
theorem dX2_compatible_29 : decode cX2_compatible 29 = .ok (.aload_n 0, 1) := by decide +kernel
theorem dX2_compatible_30 : decode cX2_compatible 30 = .ok (.getfield 70, 3) := by decide +kernel
theorem dX2_compatible_33 : decode cX2_compatible 33 = .ok (.bipush 6, 2) := by decide +kernel
theorem dX2_compatible_35 : decode cX2_compatible 35 = .ok (.iload_n 1, 1) := by decide +kernel
theorem dX2_compatible_36 : decode cX2_compatible 36 = .ok (.imul, 1) := by decide +kernel
theorem dX2_compatible_37 : decode cX2_compatible 37 = .ok (.iload_n 3, 1) := by decide +kernel
theorem dX2_compatible_38 : decode cX2_compatible 38 = .ok (.iadd, 1) := by decide +kernel
theorem dX2_compatible_39 : decode cX2_compatible 39 = .ok (.laload, 1) := by decide +kernel
theorem dX2_compatible_40 : decode cX2_compatible 40 = .ok (.aload_n 0, 1) := by decide +kernel
theorem dX2_compatible_41 : decode cX2_compatible 41 = .ok (.getfield 70, 3) := by decide +kernel
theorem dX2_compatible_44 : decode cX2_compatible 44 = .ok (.bipush 6, 2) := by decide +kernel
theorem dX2_compatible_46 : decode cX2_compatible 46 = .ok (.iload_n 2, 1) := by decide +kernel
theorem dX2_compatible_47 : decode cX2_compatible 47 = .ok (.imul, 1) := by decide +kernel
theorem dX2_compatible_48 : decode cX2_compatible 48 = .ok (.iload_n 3, 1) := by decide +kernel
theorem dX2_compatible_49 : decode cX2_compatible 49 = .ok (.iadd, 1) := by decide +kernel
theorem dX2_compatible_50 : decode cX2_compatible 50 = .ok (.laload, 1) := by decide +kernel
theorem dX2_compatible_51 : decode cX2_compatible 51 = .ok (.lcmp, 1) := by decide +kernel
theorem dX2_compatible_52 : decode cX2_compatible 52 = .ok (.ifCond .eq 5, 3) := by decide +kernel
theorem dX2_compatible_55 : decode cX2_compatible 55 = .ok (.iconst 0, 1) := by decide +kernel
theorem dX2_compatible_56 : decode cX2_compatible 56 = .ok (.ireturn, 1) := by decide +kernel
theorem dX2_compatible_57 : decode cX2_compatible 57 = .ok (.iinc 3 1, 3) := by decide +kernel
theorem dX2_compatible_60 : decode cX2_compatible 60 = .ok (.goto (-58), 3) := by decide +kernel
theorem dX2_compatible_63 : decode cX2_compatible 63 = .ok (.iconst 1, 1) := by decide +kernel
theorem dX2_compatible_64 : decode cX2_compatible 64 = .ok (.ireturn, 1) := by decide +kernel
abbrev cX2_join : ByteArray := prog_26_method_45_code
def yX2_join : MethodName := ⟨"TripleStoreModel", "join", "(IIII)V"⟩
theorem dX2_join_0 : decode cX2_join 0 = .ok (.aload_n 0, 1) := by decide +kernel
theorem dX2_join_1 : decode cX2_join 1 = .ok (.bipush 10, 2) := by decide +kernel
theorem dX2_join_3 : decode cX2_join 3 = .ok (.iload_n 1, 1) := by decide +kernel
theorem dX2_join_4 : decode cX2_join 4 = .ok (.iload_n 2, 1) := by decide +kernel
theorem dX2_join_5 : decode cX2_join 5 = .ok (.invokevirtual 314, 3) := by decide +kernel
theorem dX2_join_8 : decode cX2_join 8 = .ok (.aload_n 0, 1) := by decide +kernel
theorem dX2_join_9 : decode cX2_join 9 = .ok (.getfield 311, 3) := by decide +kernel
theorem dX2_join_12 : decode cX2_join 12 = .ok (.ifCond .eq 4, 3) := by decide +kernel
theorem dX2_join_15 : decode cX2_join 15 = .ok (.return_, 1) := by decide +kernel
theorem dX2_join_16 : decode cX2_join 16 = .ok (.sipush 1500, 3) := by decide +kernel
theorem dX2_join_19 : decode cX2_join 19 = .ok (.aload_n 0, 1) := by decide +kernel
theorem dX2_join_20 : decode cX2_join 20 = .ok (.getfield 76, 3) := by decide +kernel
theorem dX2_join_23 : decode cX2_join 23 = .ok (.bipush 10, 2) := by decide +kernel
theorem dX2_join_25 : decode cX2_join 25 = .ok (.iaload, 1) := by decide +kernel
theorem dX2_join_26 : decode cX2_join 26 = .ok (.iadd, 1) := by decide +kernel
theorem dX2_join_27 : decode cX2_join 27 = .ok (.iconst 1, 1) := by decide +kernel
theorem dX2_join_28 : decode cX2_join 28 = .ok (.isub, 1) := by decide +kernel
theorem dX2_join_29 : decode cX2_join 29 = .ok (.istore 5, 2) := by decide +kernel
theorem dX2_join_31 : decode cX2_join 31 = .ok (.sipush 150, 3) := by decide +kernel
theorem dX2_join_34 : decode cX2_join 34 = .ok (.iload_n 3, 1) := by decide +kernel
theorem dX2_join_35 : decode cX2_join 35 = .ok (.imul, 1) := by decide +kernel
theorem dX2_join_36 : decode cX2_join 36 = .ok (.iload 4, 2) := by decide +kernel
theorem dX2_join_38 : decode cX2_join 38 = .ok (.iadd, 1) := by decide +kernel
theorem dX2_join_39 : decode cX2_join 39 = .ok (.istore 6, 2) := by decide +kernel
theorem dX2_join_41 : decode cX2_join 41 = .ok (.iconst 0, 1) := by decide +kernel
theorem dX2_join_42 : decode cX2_join 42 = .ok (.istore 7, 2) := by decide +kernel
theorem dX2_join_44 : decode cX2_join 44 = .ok (.iload 7, 2) := by decide +kernel
theorem dX2_join_46 : decode cX2_join 46 = .ok (.bipush 6, 2) := by decide +kernel
theorem dX2_join_48 : decode cX2_join 48 = .ok (.if_icmp .ge 51, 3) := by decide +kernel
theorem dX2_join_51 : decode cX2_join 51 = .ok (.aload_n 0, 1) := by decide +kernel
theorem dX2_join_52 : decode cX2_join 52 = .ok (.getfield 73, 3) := by decide +kernel
theorem dX2_join_55 : decode cX2_join 55 = .ok (.iload 6, 2) := by decide +kernel
theorem dX2_join_57 : decode cX2_join 57 = .ok (.iaload, 1) := by decide +kernel
theorem dX2_join_58 : decode cX2_join 58 = .ok (.iload 7, 2) := by decide +kernel
theorem dX2_join_60 : decode cX2_join 60 = .ok (.ishr, 1) := by decide +kernel
theorem dX2_join_61 : decode cX2_join 61 = .ok (.iconst 1, 1) := by decide +kernel
theorem dX2_join_62 : decode cX2_join 62 = .ok (.iand, 1) := by decide +kernel
theorem dX2_join_63 : decode cX2_join 63 = .ok (.iconst 1, 1) := by decide +kernel
theorem dX2_join_64 : decode cX2_join 64 = .ok (.if_icmp .ne 29, 3) := by decide +kernel
theorem dX2_join_67 : decode cX2_join 67 = .ok (.aload_n 0, 1) := by decide +kernel
theorem dX2_join_68 : decode cX2_join 68 = .ok (.getfield 70, 3) := by decide +kernel
theorem dX2_join_71 : decode cX2_join 71 = .ok (.bipush 6, 2) := by decide +kernel
theorem dX2_join_73 : decode cX2_join 73 = .ok (.iload 5, 2) := by decide +kernel
theorem dX2_join_75 : decode cX2_join 75 = .ok (.imul, 1) := by decide +kernel
theorem dX2_join_76 : decode cX2_join 76 = .ok (.iload 7, 2) := by decide +kernel
theorem dX2_join_78 : decode cX2_join 78 = .ok (.iadd, 1) := by decide +kernel
theorem dX2_join_79 : decode cX2_join 79 = .ok (.aload_n 0, 1) := by decide +kernel
theorem dX2_join_80 : decode cX2_join 80 = .ok (.getfield 70, 3) := by decide +kernel
theorem dX2_join_83 : decode cX2_join 83 = .ok (.bipush 6, 2) := by decide +kernel
theorem dX2_join_85 : decode cX2_join 85 = .ok (.iload 6, 2) := by decide +kernel
theorem dX2_join_87 : decode cX2_join 87 = .ok (.imul, 1) := by decide +kernel
theorem dX2_join_88 : decode cX2_join 88 = .ok (.iload 7, 2) := by decide +kernel
theorem dX2_join_90 : decode cX2_join 90 = .ok (.iadd, 1) := by decide +kernel
theorem dX2_join_91 : decode cX2_join 91 = .ok (.laload, 1) := by decide +kernel
theorem dX2_join_92 : decode cX2_join 92 = .ok (.lastore, 1) := by decide +kernel
theorem dX2_join_93 : decode cX2_join 93 = .ok (.iinc 7 1, 3) := by decide +kernel
theorem dX2_join_96 : decode cX2_join 96 = .ok (.goto (-52), 3) := by decide +kernel
theorem dX2_join_99 : decode cX2_join 99 = .ok (.aload_n 0, 1) := by decide +kernel
theorem dX2_join_100 : decode cX2_join 100 = .ok (.getfield 73, 3) := by decide +kernel
theorem dX2_join_103 : decode cX2_join 103 = .ok (.iload 5, 2) := by decide +kernel
theorem dX2_join_105 : decode cX2_join 105 = .ok (.dup2, 1) := by decide +kernel
theorem dX2_join_106 : decode cX2_join 106 = .ok (.iaload, 1) := by decide +kernel
theorem dX2_join_107 : decode cX2_join 107 = .ok (.aload_n 0, 1) := by decide +kernel
theorem dX2_join_108 : decode cX2_join 108 = .ok (.getfield 73, 3) := by decide +kernel
theorem dX2_join_111 : decode cX2_join 111 = .ok (.iload 6, 2) := by decide +kernel
theorem dX2_join_113 : decode cX2_join 113 = .ok (.iaload, 1) := by decide +kernel
theorem dX2_join_114 : decode cX2_join 114 = .ok (.ior, 1) := by decide +kernel
theorem dX2_join_115 : decode cX2_join 115 = .ok (.iastore, 1) := by decide +kernel
theorem dX2_join_116 : decode cX2_join 116 = .ok (.return_, 1) := by decide +kernel
abbrev cX2_addTo : ByteArray := prog_26_method_42_code
def yX2_addTo : MethodName := ⟨"TripleStoreModel", "addTo", "(III)V"⟩
theorem dX2_addTo_0 : decode cX2_addTo 0 = .ok (.aload_n 0, 1) := by decide +kernel
theorem dX2_addTo_1 : decode cX2_addTo 1 = .ok (.getfield 76, 3) := by decide +kernel
theorem dX2_addTo_4 : decode cX2_addTo 4 = .ok (.iload_n 1, 1) := by decide +kernel
theorem dX2_addTo_5 : decode cX2_addTo 5 = .ok (.iaload, 1) := by decide +kernel
theorem dX2_addTo_6 : decode cX2_addTo 6 = .ok (.sipush 150, 3) := by decide +kernel
theorem dX2_addTo_9 : decode cX2_addTo 9 = .ok (.if_icmp .ne 9, 3) := by decide +kernel
theorem dX2_addTo_12 : decode cX2_addTo 12 = .ok (.aload_n 0, 1) := by decide +kernel
theorem dX2_addTo_13 : decode cX2_addTo 13 = .ok (.iconst 1, 1) := by decide +kernel
theorem dX2_addTo_14 : decode cX2_addTo 14 = .ok (.putfield 311, 3) := by decide +kernel
theorem dX2_addTo_17 : decode cX2_addTo 17 = .ok (.return_, 1) := by decide +kernel
theorem dX2_addTo_18 : decode cX2_addTo 18 = .ok (.sipush 150, 3) := by decide +kernel
theorem dX2_addTo_21 : decode cX2_addTo 21 = .ok (.iload_n 1, 1) := by decide +kernel
theorem dX2_addTo_22 : decode cX2_addTo 22 = .ok (.imul, 1) := by decide +kernel
theorem dX2_addTo_23 : decode cX2_addTo 23 = .ok (.aload_n 0, 1) := by decide +kernel
theorem dX2_addTo_24 : decode cX2_addTo 24 = .ok (.getfield 76, 3) := by decide +kernel
theorem dX2_addTo_27 : decode cX2_addTo 27 = .ok (.iload_n 1, 1) := by decide +kernel
theorem dX2_addTo_28 : decode cX2_addTo 28 = .ok (.iaload, 1) := by decide +kernel
theorem dX2_addTo_29 : decode cX2_addTo 29 = .ok (.iadd, 1) := by decide +kernel
theorem dX2_addTo_30 : decode cX2_addTo 30 = .ok (.istore 4, 2) := by decide +kernel
theorem dX2_addTo_32 : decode cX2_addTo 32 = .ok (.aload_n 0, 1) := by decide +kernel
theorem dX2_addTo_33 : decode cX2_addTo 33 = .ok (.getfield 73, 3) := by decide +kernel
theorem dX2_addTo_36 : decode cX2_addTo 36 = .ok (.iload 4, 2) := by decide +kernel
theorem dX2_addTo_38 : decode cX2_addTo 38 = .ok (.aload_n 0, 1) := by decide +kernel
theorem dX2_addTo_39 : decode cX2_addTo 39 = .ok (.getfield 73, 3) := by decide +kernel
theorem dX2_addTo_42 : decode cX2_addTo 42 = .ok (.sipush 150, 3) := by decide +kernel
theorem dX2_addTo_45 : decode cX2_addTo 45 = .ok (.iload_n 2, 1) := by decide +kernel
theorem dX2_addTo_46 : decode cX2_addTo 46 = .ok (.imul, 1) := by decide +kernel
theorem dX2_addTo_47 : decode cX2_addTo 47 = .ok (.iload_n 3, 1) := by decide +kernel
theorem dX2_addTo_48 : decode cX2_addTo 48 = .ok (.iadd, 1) := by decide +kernel
theorem dX2_addTo_49 : decode cX2_addTo 49 = .ok (.iaload, 1) := by decide +kernel
theorem dX2_addTo_50 : decode cX2_addTo 50 = .ok (.iastore, 1) := by decide +kernel
theorem dX2_addTo_51 : decode cX2_addTo 51 = .ok (.iconst 0, 1) := by decide +kernel
theorem dX2_addTo_52 : decode cX2_addTo 52 = .ok (.istore 5, 2) := by decide +kernel
theorem dX2_addTo_54 : decode cX2_addTo 54 = .ok (.iload 5, 2) := by decide +kernel
theorem dX2_addTo_56 : decode cX2_addTo 56 = .ok (.bipush 6, 2) := by decide +kernel
theorem dX2_addTo_58 : decode cX2_addTo 58 = .ok (.if_icmp .ge 40, 3) := by decide +kernel
theorem dX2_addTo_61 : decode cX2_addTo 61 = .ok (.aload_n 0, 1) := by decide +kernel
theorem dX2_addTo_62 : decode cX2_addTo 62 = .ok (.getfield 70, 3) := by decide +kernel
theorem dX2_addTo_65 : decode cX2_addTo 65 = .ok (.bipush 6, 2) := by decide +kernel
theorem dX2_addTo_67 : decode cX2_addTo 67 = .ok (.iload 4, 2) := by decide +kernel
theorem dX2_addTo_69 : decode cX2_addTo 69 = .ok (.imul, 1) := by decide +kernel
theorem dX2_addTo_70 : decode cX2_addTo 70 = .ok (.iload 5, 2) := by decide +kernel
theorem dX2_addTo_72 : decode cX2_addTo 72 = .ok (.iadd, 1) := by decide +kernel
theorem dX2_addTo_73 : decode cX2_addTo 73 = .ok (.aload_n 0, 1) := by decide +kernel
theorem dX2_addTo_74 : decode cX2_addTo 74 = .ok (.getfield 70, 3) := by decide +kernel
theorem dX2_addTo_77 : decode cX2_addTo 77 = .ok (.bipush 6, 2) := by decide +kernel
theorem dX2_addTo_79 : decode cX2_addTo 79 = .ok (.sipush 150, 3) := by decide +kernel
theorem dX2_addTo_82 : decode cX2_addTo 82 = .ok (.iload_n 2, 1) := by decide +kernel
theorem dX2_addTo_83 : decode cX2_addTo 83 = .ok (.imul, 1) := by decide +kernel
theorem dX2_addTo_84 : decode cX2_addTo 84 = .ok (.iload_n 3, 1) := by decide +kernel
theorem dX2_addTo_85 : decode cX2_addTo 85 = .ok (.iadd, 1) := by decide +kernel
theorem dX2_addTo_86 : decode cX2_addTo 86 = .ok (.imul, 1) := by decide +kernel
theorem dX2_addTo_87 : decode cX2_addTo 87 = .ok (.iload 5, 2) := by decide +kernel
theorem dX2_addTo_89 : decode cX2_addTo 89 = .ok (.iadd, 1) := by decide +kernel
theorem dX2_addTo_90 : decode cX2_addTo 90 = .ok (.laload, 1) := by decide +kernel
theorem dX2_addTo_91 : decode cX2_addTo 91 = .ok (.lastore, 1) := by decide +kernel
theorem dX2_addTo_92 : decode cX2_addTo 92 = .ok (.iinc 5 1, 3) := by decide +kernel
theorem dX2_addTo_95 : decode cX2_addTo 95 = .ok (.goto (-41), 3) := by decide +kernel
theorem dX2_addTo_98 : decode cX2_addTo 98 = .ok (.aload_n 0, 1) := by decide +kernel
theorem dX2_addTo_99 : decode cX2_addTo 99 = .ok (.getfield 76, 3) := by decide +kernel
theorem dX2_addTo_102 : decode cX2_addTo 102 = .ok (.iload_n 1, 1) := by decide +kernel
theorem dX2_addTo_103 : decode cX2_addTo 103 = .ok (.dup2, 1) := by decide +kernel
theorem dX2_addTo_104 : decode cX2_addTo 104 = .ok (.iaload, 1) := by decide +kernel
theorem dX2_addTo_105 : decode cX2_addTo 105 = .ok (.iconst 1, 1) := by decide +kernel
theorem dX2_addTo_106 : decode cX2_addTo 106 = .ok (.iadd, 1) := by decide +kernel
theorem dX2_addTo_107 : decode cX2_addTo 107 = .ok (.iastore, 1) := by decide +kernel
theorem dX2_addTo_108 : decode cX2_addTo 108 = .ok (.return_, 1) := by decide +kernel
abbrev cX2_copy : ByteArray := prog_26_method_43_code
def yX2_copy : MethodName := ⟨"TripleStoreModel", "copy", "(II)V"⟩
theorem dX2_copy_0 : decode cX2_copy 0 = .ok (.aload_n 0, 1) := by decide +kernel
theorem dX2_copy_1 : decode cX2_copy 1 = .ok (.getfield 76, 3) := by decide +kernel
theorem dX2_copy_4 : decode cX2_copy 4 = .ok (.iload_n 2, 1) := by decide +kernel
theorem dX2_copy_5 : decode cX2_copy 5 = .ok (.iconst 0, 1) := by decide +kernel
theorem dX2_copy_6 : decode cX2_copy 6 = .ok (.iastore, 1) := by decide +kernel
theorem dX2_copy_7 : decode cX2_copy 7 = .ok (.iconst 0, 1) := by decide +kernel
theorem dX2_copy_8 : decode cX2_copy 8 = .ok (.istore_n 3, 1) := by decide +kernel
theorem dX2_copy_9 : decode cX2_copy 9 = .ok (.iload_n 3, 1) := by decide +kernel
theorem dX2_copy_10 : decode cX2_copy 10 = .ok (.aload_n 0, 1) := by decide +kernel
theorem dX2_copy_11 : decode cX2_copy 11 = .ok (.getfield 76, 3) := by decide +kernel
theorem dX2_copy_14 : decode cX2_copy 14 = .ok (.iload_n 1, 1) := by decide +kernel
theorem dX2_copy_15 : decode cX2_copy 15 = .ok (.iaload, 1) := by decide +kernel
theorem dX2_copy_16 : decode cX2_copy 16 = .ok (.if_icmp .ge 16, 3) := by decide +kernel
theorem dX2_copy_19 : decode cX2_copy 19 = .ok (.aload_n 0, 1) := by decide +kernel
theorem dX2_copy_20 : decode cX2_copy 20 = .ok (.iload_n 2, 1) := by decide +kernel
theorem dX2_copy_21 : decode cX2_copy 21 = .ok (.iload_n 1, 1) := by decide +kernel
theorem dX2_copy_22 : decode cX2_copy 22 = .ok (.iload_n 3, 1) := by decide +kernel
theorem dX2_copy_23 : decode cX2_copy 23 = .ok (.invokevirtual 314, 3) := by decide +kernel
theorem dX2_copy_26 : decode cX2_copy 26 = .ok (.iinc 3 1, 3) := by decide +kernel
theorem dX2_copy_29 : decode cX2_copy 29 = .ok (.goto (-20), 3) := by decide +kernel
theorem dX2_copy_32 : decode cX2_copy 32 = .ok (.return_, 1) := by decide +kernel
abbrev cX2_filter : ByteArray := prog_26_method_49_code
def yX2_filter : MethodName := ⟨"TripleStoreModel", "filter", "(I)V"⟩
theorem dX2_filter_0 : decode cX2_filter 0 = .ok (.aload_n 0, 1) := by decide +kernel
theorem dX2_filter_1 : decode cX2_filter 1 = .ok (.getfield 318, 3) := by decide +kernel
theorem dX2_filter_4 : decode cX2_filter 4 = .ok (.iconst 1, 1) := by decide +kernel
theorem dX2_filter_5 : decode cX2_filter 5 = .ok (.isub, 1) := by decide +kernel
theorem dX2_filter_6 : decode cX2_filter 6 = .ok (.istore_n 2, 1) := by decide +kernel
theorem dX2_filter_7 : decode cX2_filter 7 = .ok (.aload_n 0, 1) := by decide +kernel
theorem dX2_filter_8 : decode cX2_filter 8 = .ok (.getfield 76, 3) := by decide +kernel
theorem dX2_filter_11 : decode cX2_filter 11 = .ok (.bipush 10, 2) := by decide +kernel
theorem dX2_filter_13 : decode cX2_filter 13 = .ok (.iconst 0, 1) := by decide +kernel
theorem dX2_filter_14 : decode cX2_filter 14 = .ok (.iastore, 1) := by decide +kernel
theorem dX2_filter_15 : decode cX2_filter 15 = .ok (.iconst 0, 1) := by decide +kernel
theorem dX2_filter_16 : decode cX2_filter 16 = .ok (.istore_n 3, 1) := by decide +kernel
theorem dX2_filter_17 : decode cX2_filter 17 = .ok (.iload_n 3, 1) := by decide +kernel
theorem dX2_filter_18 : decode cX2_filter 18 = .ok (.aload_n 0, 1) := by decide +kernel
theorem dX2_filter_19 : decode cX2_filter 19 = .ok (.getfield 76, 3) := by decide +kernel
theorem dX2_filter_22 : decode cX2_filter 22 = .ok (.iload_n 2, 1) := by decide +kernel
theorem dX2_filter_23 : decode cX2_filter 23 = .ok (.iaload, 1) := by decide +kernel
theorem dX2_filter_24 : decode cX2_filter 24 = .ok (.if_icmp .ge 80, 3) := by decide +kernel
theorem dX2_filter_27 : decode cX2_filter 27 = .ok (.iconst 1, 1) := by decide +kernel
theorem dX2_filter_28 : decode cX2_filter 28 = .ok (.istore 4, 2) := by decide +kernel
theorem dX2_filter_30 : decode cX2_filter 30 = .ok (.iconst 0, 1) := by decide +kernel
theorem dX2_filter_31 : decode cX2_filter 31 = .ok (.istore 5, 2) := by decide +kernel
theorem dX2_filter_33 : decode cX2_filter 33 = .ok (.iload 5, 2) := by decide +kernel
theorem dX2_filter_35 : decode cX2_filter 35 = .ok (.aload_n 0, 1) := by decide +kernel
theorem dX2_filter_36 : decode cX2_filter 36 = .ok (.getfield 247, 3) := by decide +kernel
theorem dX2_filter_39 : decode cX2_filter 39 = .ok (.if_icmp .ge 46, 3) := by decide +kernel
theorem dX2_filter_42 : decode cX2_filter 42 = .ok (.aload_n 0, 1) := by decide +kernel
theorem dX2_filter_43 : decode cX2_filter 43 = .ok (.getfield 55, 3) := by decide +kernel
theorem dX2_filter_46 : decode cX2_filter 46 = .ok (.iload 5, 2) := by decide +kernel
theorem dX2_filter_48 : decode cX2_filter 48 = .ok (.iaload, 1) := by decide +kernel
theorem dX2_filter_49 : decode cX2_filter 49 = .ok (.iload_n 1, 1) := by decide +kernel
theorem dX2_filter_50 : decode cX2_filter 50 = .ok (.if_icmp .ne 29, 3) := by decide +kernel
theorem dX2_filter_53 : decode cX2_filter 53 = .ok (.aload_n 0, 1) := by decide +kernel
theorem dX2_filter_54 : decode cX2_filter 54 = .ok (.iload 5, 2) := by decide +kernel
theorem dX2_filter_56 : decode cX2_filter 56 = .ok (.sipush 150, 3) := by decide +kernel
theorem dX2_filter_59 : decode cX2_filter 59 = .ok (.iload_n 2, 1) := by decide +kernel
theorem dX2_filter_60 : decode cX2_filter 60 = .ok (.imul, 1) := by decide +kernel
theorem dX2_filter_61 : decode cX2_filter 61 = .ok (.iload_n 3, 1) := by decide +kernel
theorem dX2_filter_62 : decode cX2_filter 62 = .ok (.iadd, 1) := by decide +kernel
theorem dX2_filter_63 : decode cX2_filter 63 = .ok (.invokevirtual 336, 3) := by decide +kernel
theorem dX2_filter_66 : decode cX2_filter 66 = .ok (.aload_n 0, 1) := by decide +kernel
theorem dX2_filter_67 : decode cX2_filter 67 = .ok (.getfield 61, 3) := by decide +kernel
theorem dX2_filter_70 : decode cX2_filter 70 = .ok (.iload 5, 2) := by decide +kernel
theorem dX2_filter_72 : decode cX2_filter 72 = .ok (.baload, 1) := by decide +kernel
theorem dX2_filter_73 : decode cX2_filter 73 = .ok (.if_icmp .ne 6, 3) := by decide +kernel
theorem dX2_filter_76 : decode cX2_filter 76 = .ok (.iconst 0, 1) := by decide +kernel
theorem dX2_filter_77 : decode cX2_filter 77 = .ok (.istore 4, 2) := by decide +kernel
theorem dX2_filter_79 : decode cX2_filter 79 = .ok (.iinc 5 1, 3) := by decide +kernel
theorem dX2_filter_82 : decode cX2_filter 82 = .ok (.goto (-49), 3) := by decide +kernel
theorem dX2_filter_85 : decode cX2_filter 85 = .ok (.iload 4, 2) := by decide +kernel
theorem dX2_filter_87 : decode cX2_filter 87 = .ok (.ifCond .eq 11, 3) := by decide +kernel
theorem dX2_filter_90 : decode cX2_filter 90 = .ok (.aload_n 0, 1) := by decide +kernel
theorem dX2_filter_91 : decode cX2_filter 91 = .ok (.bipush 10, 2) := by decide +kernel
theorem dX2_filter_93 : decode cX2_filter 93 = .ok (.iload_n 2, 1) := by decide +kernel
theorem dX2_filter_94 : decode cX2_filter 94 = .ok (.iload_n 3, 1) := by decide +kernel
theorem dX2_filter_95 : decode cX2_filter 95 = .ok (.invokevirtual 314, 3) := by decide +kernel
theorem dX2_filter_98 : decode cX2_filter 98 = .ok (.iinc 3 1, 3) := by decide +kernel
theorem dX2_filter_101 : decode cX2_filter 101 = .ok (.goto (-84), 3) := by decide +kernel
theorem dX2_filter_104 : decode cX2_filter 104 = .ok (.aload_n 0, 1) := by decide +kernel
theorem dX2_filter_105 : decode cX2_filter 105 = .ok (.bipush 10, 2) := by decide +kernel
theorem dX2_filter_107 : decode cX2_filter 107 = .ok (.iload_n 2, 1) := by decide +kernel
theorem dX2_filter_108 : decode cX2_filter 108 = .ok (.invokevirtual 329, 3) := by decide +kernel
theorem dX2_filter_111 : decode cX2_filter 111 = .ok (.return_, 1) := by decide +kernel
abbrev cX2_holds : ByteArray := prog_26_method_48_code
def yX2_holds : MethodName := ⟨"TripleStoreModel", "holds", "(II)Z"⟩
theorem dX2_holds_0 : decode cX2_holds 0 = .ok (.bipush 60, 2) := by decide +kernel
theorem dX2_holds_2 : decode cX2_holds 2 = .ok (.iconst 2, 1) := by decide +kernel
theorem dX2_holds_3 : decode cX2_holds 3 = .ok (.iload_n 1, 1) := by decide +kernel
theorem dX2_holds_4 : decode cX2_holds 4 = .ok (.imul, 1) := by decide +kernel
theorem dX2_holds_5 : decode cX2_holds 5 = .ok (.iadd, 1) := by decide +kernel
theorem dX2_holds_6 : decode cX2_holds 6 = .ok (.istore_n 3, 1) := by decide +kernel
theorem dX2_holds_7 : decode cX2_holds 7 = .ok (.aload_n 0, 1) := by decide +kernel
theorem dX2_holds_8 : decode cX2_holds 8 = .ok (.getfield 49, 3) := by decide +kernel
theorem dX2_holds_11 : decode cX2_holds 11 = .ok (.iload_n 3, 1) := by decide +kernel
theorem dX2_holds_12 : decode cX2_holds 12 = .ok (.iaload, 1) := by decide +kernel
theorem dX2_holds_13 : decode cX2_holds 13 = .ok (.ifCond .lt 22, 3) := by decide +kernel
theorem dX2_holds_16 : decode cX2_holds 16 = .ok (.aload_n 0, 1) := by decide +kernel
theorem dX2_holds_17 : decode cX2_holds 17 = .ok (.getfield 73, 3) := by decide +kernel
theorem dX2_holds_20 : decode cX2_holds 20 = .ok (.iload_n 2, 1) := by decide +kernel
theorem dX2_holds_21 : decode cX2_holds 21 = .ok (.iaload, 1) := by decide +kernel
theorem dX2_holds_22 : decode cX2_holds 22 = .ok (.aload_n 0, 1) := by decide +kernel
theorem dX2_holds_23 : decode cX2_holds 23 = .ok (.getfield 49, 3) := by decide +kernel
theorem dX2_holds_26 : decode cX2_holds 26 = .ok (.iload_n 3, 1) := by decide +kernel
theorem dX2_holds_27 : decode cX2_holds 27 = .ok (.iaload, 1) := by decide +kernel
theorem dX2_holds_28 : decode cX2_holds 28 = .ok (.ishr, 1) := by decide +kernel
theorem dX2_holds_29 : decode cX2_holds 29 = .ok (.iconst 1, 1) := by decide +kernel
theorem dX2_holds_30 : decode cX2_holds 30 = .ok (.iand, 1) := by decide +kernel
theorem dX2_holds_31 : decode cX2_holds 31 = .ok (.iconst 1, 1) := by decide +kernel
theorem dX2_holds_32 : decode cX2_holds 32 = .ok (.if_icmp .ne 7, 3) := by decide +kernel
theorem dX2_holds_35 : decode cX2_holds 35 = .ok (.iconst 1, 1) := by decide +kernel
theorem dX2_holds_36 : decode cX2_holds 36 = .ok (.goto 4, 3) := by decide +kernel
theorem dX2_holds_39 : decode cX2_holds 39 = .ok (.iconst 0, 1) := by decide +kernel
theorem dX2_holds_40 : decode cX2_holds 40 = .ok (.istore 4, 2) := by decide +kernel
theorem dX2_holds_42 : decode cX2_holds 42 = .ok (.aload_n 0, 1) := by decide +kernel
theorem dX2_holds_43 : decode cX2_holds 43 = .ok (.getfield 58, 3) := by decide +kernel
theorem dX2_holds_46 : decode cX2_holds 46 = .ok (.iload_n 1, 1) := by decide +kernel
theorem dX2_holds_47 : decode cX2_holds 47 = .ok (.iaload, 1) := by decide +kernel
theorem dX2_holds_48 : decode cX2_holds 48 = .ok (.bipush 98, 2) := by decide +kernel
theorem dX2_holds_50 : decode cX2_holds 50 = .ok (.if_icmp .ne 6, 3) := by decide +kernel
theorem dX2_holds_53 : decode cX2_holds 53 = .ok (.iload 4, 2) := by decide +kernel
theorem dX2_holds_55 : decode cX2_holds 55 = .ok (.ireturn, 1) := by decide +kernel
theorem dX2_holds_56 : decode cX2_holds 56 = .ok (.aload_n 0, 1) := by decide +kernel
theorem dX2_holds_57 : decode cX2_holds 57 = .ok (.getfield 49, 3) := by decide +kernel
theorem dX2_holds_60 : decode cX2_holds 60 = .ok (.iload_n 3, 1) := by decide +kernel
theorem dX2_holds_61 : decode cX2_holds 61 = .ok (.iconst 1, 1) := by decide +kernel
theorem dX2_holds_62 : decode cX2_holds 62 = .ok (.iadd, 1) := by decide +kernel
theorem dX2_holds_63 : decode cX2_holds 63 = .ok (.iaload, 1) := by decide +kernel
theorem dX2_holds_64 : decode cX2_holds 64 = .ok (.ifCond .lt 24, 3) := by decide +kernel
theorem dX2_holds_67 : decode cX2_holds 67 = .ok (.aload_n 0, 1) := by decide +kernel
theorem dX2_holds_68 : decode cX2_holds 68 = .ok (.getfield 73, 3) := by decide +kernel
theorem dX2_holds_71 : decode cX2_holds 71 = .ok (.iload_n 2, 1) := by decide +kernel
theorem dX2_holds_72 : decode cX2_holds 72 = .ok (.iaload, 1) := by decide +kernel
theorem dX2_holds_73 : decode cX2_holds 73 = .ok (.aload_n 0, 1) := by decide +kernel
theorem dX2_holds_74 : decode cX2_holds 74 = .ok (.getfield 49, 3) := by decide +kernel
theorem dX2_holds_77 : decode cX2_holds 77 = .ok (.iload_n 3, 1) := by decide +kernel
theorem dX2_holds_78 : decode cX2_holds 78 = .ok (.iconst 1, 1) := by decide +kernel
theorem dX2_holds_79 : decode cX2_holds 79 = .ok (.iadd, 1) := by decide +kernel
theorem dX2_holds_80 : decode cX2_holds 80 = .ok (.iaload, 1) := by decide +kernel
theorem dX2_holds_81 : decode cX2_holds 81 = .ok (.ishr, 1) := by decide +kernel
theorem dX2_holds_82 : decode cX2_holds 82 = .ok (.iconst 1, 1) := by decide +kernel
theorem dX2_holds_83 : decode cX2_holds 83 = .ok (.iand, 1) := by decide +kernel
theorem dX2_holds_84 : decode cX2_holds 84 = .ok (.iconst 1, 1) := by decide +kernel
theorem dX2_holds_85 : decode cX2_holds 85 = .ok (.if_icmp .ne 7, 3) := by decide +kernel
theorem dX2_holds_88 : decode cX2_holds 88 = .ok (.iconst 1, 1) := by decide +kernel
theorem dX2_holds_89 : decode cX2_holds 89 = .ok (.goto 4, 3) := by decide +kernel
theorem dX2_holds_92 : decode cX2_holds 92 = .ok (.iconst 0, 1) := by decide +kernel
theorem dX2_holds_93 : decode cX2_holds 93 = .ok (.istore 5, 2) := by decide +kernel
theorem dX2_holds_95 : decode cX2_holds 95 = .ok (.iload 4, 2) := by decide +kernel
theorem dX2_holds_97 : decode cX2_holds 97 = .ok (.ifCond .eq 8, 3) := by decide +kernel
theorem dX2_holds_100 : decode cX2_holds 100 = .ok (.iload 5, 2) := by decide +kernel
theorem dX2_holds_102 : decode cX2_holds 102 = .ok (.ifCond .ne 5, 3) := by decide +kernel
theorem dX2_holds_105 : decode cX2_holds 105 = .ok (.iconst 0, 1) := by decide +kernel
theorem dX2_holds_106 : decode cX2_holds 106 = .ok (.ireturn, 1) := by decide +kernel
theorem dX2_holds_107 : decode cX2_holds 107 = .ok (.aload_n 0, 1) := by decide +kernel
theorem dX2_holds_108 : decode cX2_holds 108 = .ok (.getfield 49, 3) := by decide +kernel
theorem dX2_holds_111 : decode cX2_holds 111 = .ok (.iload_n 3, 1) := by decide +kernel
theorem dX2_holds_112 : decode cX2_holds 112 = .ok (.iaload, 1) := by decide +kernel
theorem dX2_holds_113 : decode cX2_holds 113 = .ok (.ifCond .ge 12, 3) := by decide +kernel
theorem dX2_holds_116 : decode cX2_holds 116 = .ok (.aload_n 0, 1) := by decide +kernel
theorem dX2_holds_117 : decode cX2_holds 117 = .ok (.getfield 52, 3) := by decide +kernel
theorem dX2_holds_120 : decode cX2_holds 120 = .ok (.iload_n 3, 1) := by decide +kernel
theorem dX2_holds_121 : decode cX2_holds 121 = .ok (.laload, 1) := by decide +kernel
theorem dX2_holds_122 : decode cX2_holds 122 = .ok (.goto 19, 3) := by decide +kernel
theorem dX2_holds_125 : decode cX2_holds 125 = .ok (.aload_n 0, 1) := by decide +kernel
theorem dX2_holds_126 : decode cX2_holds 126 = .ok (.getfield 70, 3) := by decide +kernel
theorem dX2_holds_129 : decode cX2_holds 129 = .ok (.bipush 6, 2) := by decide +kernel
theorem dX2_holds_131 : decode cX2_holds 131 = .ok (.iload_n 2, 1) := by decide +kernel
theorem dX2_holds_132 : decode cX2_holds 132 = .ok (.imul, 1) := by decide +kernel
theorem dX2_holds_133 : decode cX2_holds 133 = .ok (.aload_n 0, 1) := by decide +kernel
theorem dX2_holds_134 : decode cX2_holds 134 = .ok (.getfield 49, 3) := by decide +kernel
theorem dX2_holds_137 : decode cX2_holds 137 = .ok (.iload_n 3, 1) := by decide +kernel
theorem dX2_holds_138 : decode cX2_holds 138 = .ok (.iaload, 1) := by decide +kernel
theorem dX2_holds_139 : decode cX2_holds 139 = .ok (.iadd, 1) := by decide +kernel
theorem dX2_holds_140 : decode cX2_holds 140 = .ok (.laload, 1) := by decide +kernel
theorem dX2_holds_141 : decode cX2_holds 141 = .ok (.aload_n 0, 1) := by decide +kernel
theorem dX2_holds_142 : decode cX2_holds 142 = .ok (.getfield 49, 3) := by decide +kernel
theorem dX2_holds_145 : decode cX2_holds 145 = .ok (.iload_n 3, 1) := by decide +kernel
theorem dX2_holds_146 : decode cX2_holds 146 = .ok (.iconst 1, 1) := by decide +kernel
theorem dX2_holds_147 : decode cX2_holds 147 = .ok (.iadd, 1) := by decide +kernel
theorem dX2_holds_148 : decode cX2_holds 148 = .ok (.iaload, 1) := by decide +kernel
theorem dX2_holds_149 : decode cX2_holds 149 = .ok (.ifCond .ge 14, 3) := by decide +kernel
theorem dX2_holds_152 : decode cX2_holds 152 = .ok (.aload_n 0, 1) := by decide +kernel
theorem dX2_holds_153 : decode cX2_holds 153 = .ok (.getfield 52, 3) := by decide +kernel
theorem dX2_holds_156 : decode cX2_holds 156 = .ok (.iload_n 3, 1) := by decide +kernel
theorem dX2_holds_157 : decode cX2_holds 157 = .ok (.iconst 1, 1) := by decide +kernel
theorem dX2_holds_158 : decode cX2_holds 158 = .ok (.iadd, 1) := by decide +kernel
theorem dX2_holds_159 : decode cX2_holds 159 = .ok (.laload, 1) := by decide +kernel
theorem dX2_holds_160 : decode cX2_holds 160 = .ok (.goto 21, 3) := by decide +kernel
theorem dX2_holds_163 : decode cX2_holds 163 = .ok (.aload_n 0, 1) := by decide +kernel
theorem dX2_holds_164 : decode cX2_holds 164 = .ok (.getfield 70, 3) := by decide +kernel
theorem dX2_holds_167 : decode cX2_holds 167 = .ok (.bipush 6, 2) := by decide +kernel
theorem dX2_holds_169 : decode cX2_holds 169 = .ok (.iload_n 2, 1) := by decide +kernel
theorem dX2_holds_170 : decode cX2_holds 170 = .ok (.imul, 1) := by decide +kernel
theorem dX2_holds_171 : decode cX2_holds 171 = .ok (.aload_n 0, 1) := by decide +kernel
theorem dX2_holds_172 : decode cX2_holds 172 = .ok (.getfield 49, 3) := by decide +kernel
theorem dX2_holds_175 : decode cX2_holds 175 = .ok (.iload_n 3, 1) := by decide +kernel
theorem dX2_holds_176 : decode cX2_holds 176 = .ok (.iconst 1, 1) := by decide +kernel
theorem dX2_holds_177 : decode cX2_holds 177 = .ok (.iadd, 1) := by decide +kernel
theorem dX2_holds_178 : decode cX2_holds 178 = .ok (.iaload, 1) := by decide +kernel
theorem dX2_holds_179 : decode cX2_holds 179 = .ok (.iadd, 1) := by decide +kernel
theorem dX2_holds_180 : decode cX2_holds 180 = .ok (.laload, 1) := by decide +kernel
theorem dX2_holds_181 : decode cX2_holds 181 = .ok (.invokestatic 332, 3) := by decide +kernel
theorem dX2_holds_184 : decode cX2_holds 184 = .ok (.istore 6, 2) := by decide +kernel
theorem dX2_holds_186 : decode cX2_holds 186 = .ok (.aload_n 0, 1) := by decide +kernel
theorem dX2_holds_187 : decode cX2_holds 187 = .ok (.getfield 58, 3) := by decide +kernel
theorem dX2_holds_190 : decode cX2_holds 190 = .ok (.iload_n 1, 1) := by decide +kernel
theorem dX2_holds_191 : decode cX2_holds 191 = .ok (.iaload, 1) := by decide +kernel
theorem dX2_holds_192 : decode cX2_holds 192 = .ok (.bipush 61, 2) := by decide +kernel
theorem dX2_holds_194 : decode cX2_holds 194 = .ok (.if_icmp .ne 16, 3) := by decide +kernel
theorem dX2_holds_197 : decode cX2_holds 197 = .ok (.iload 6, 2) := by decide +kernel
theorem dX2_holds_199 : decode cX2_holds 199 = .ok (.ifCond .ne 7, 3) := by decide +kernel
theorem dX2_holds_202 : decode cX2_holds 202 = .ok (.iconst 1, 1) := by decide +kernel
theorem dX2_holds_203 : decode cX2_holds 203 = .ok (.goto 65, 3) := by decide +kernel
theorem dX2_holds_206 : decode cX2_holds 206 = .ok (.iconst 0, 1) := by decide +kernel
theorem dX2_holds_207 : decode cX2_holds 207 = .ok (.goto 61, 3) := by decide +kernel
theorem dX2_holds_210 : decode cX2_holds 210 = .ok (.aload_n 0, 1) := by decide +kernel
theorem dX2_holds_211 : decode cX2_holds 211 = .ok (.getfield 58, 3) := by decide +kernel
theorem dX2_holds_214 : decode cX2_holds 214 = .ok (.iload_n 1, 1) := by decide +kernel
theorem dX2_holds_215 : decode cX2_holds 215 = .ok (.iaload, 1) := by decide +kernel
theorem dX2_holds_216 : decode cX2_holds 216 = .ok (.bipush 33, 2) := by decide +kernel
theorem dX2_holds_218 : decode cX2_holds 218 = .ok (.if_icmp .ne 16, 3) := by decide +kernel
theorem dX2_holds_221 : decode cX2_holds 221 = .ok (.iload 6, 2) := by decide +kernel
theorem dX2_holds_223 : decode cX2_holds 223 = .ok (.ifCond .eq 7, 3) := by decide +kernel
theorem dX2_holds_226 : decode cX2_holds 226 = .ok (.iconst 1, 1) := by decide +kernel
theorem dX2_holds_227 : decode cX2_holds 227 = .ok (.goto 41, 3) := by decide +kernel
theorem dX2_holds_230 : decode cX2_holds 230 = .ok (.iconst 0, 1) := by decide +kernel
theorem dX2_holds_231 : decode cX2_holds 231 = .ok (.goto 37, 3) := by decide +kernel
theorem dX2_holds_234 : decode cX2_holds 234 = .ok (.aload_n 0, 1) := by decide +kernel
theorem dX2_holds_235 : decode cX2_holds 235 = .ok (.getfield 58, 3) := by decide +kernel
theorem dX2_holds_238 : decode cX2_holds 238 = .ok (.iload_n 1, 1) := by decide +kernel
theorem dX2_holds_239 : decode cX2_holds 239 = .ok (.iaload, 1) := by decide +kernel
theorem dX2_holds_240 : decode cX2_holds 240 = .ok (.bipush 60, 2) := by decide +kernel
theorem dX2_holds_242 : decode cX2_holds 242 = .ok (.if_icmp .ne 16, 3) := by decide +kernel
theorem dX2_holds_245 : decode cX2_holds 245 = .ok (.iload 6, 2) := by decide +kernel
theorem dX2_holds_247 : decode cX2_holds 247 = .ok (.ifCond .ge 7, 3) := by decide +kernel
theorem dX2_holds_250 : decode cX2_holds 250 = .ok (.iconst 1, 1) := by decide +kernel
theorem dX2_holds_251 : decode cX2_holds 251 = .ok (.goto 17, 3) := by decide +kernel
theorem dX2_holds_254 : decode cX2_holds 254 = .ok (.iconst 0, 1) := by decide +kernel
theorem dX2_holds_255 : decode cX2_holds 255 = .ok (.goto 13, 3) := by decide +kernel
theorem dX2_holds_258 : decode cX2_holds 258 = .ok (.iload 6, 2) := by decide +kernel
theorem dX2_holds_260 : decode cX2_holds 260 = .ok (.ifCond .le 7, 3) := by decide +kernel
theorem dX2_holds_263 : decode cX2_holds 263 = .ok (.iconst 1, 1) := by decide +kernel
theorem dX2_holds_264 : decode cX2_holds 264 = .ok (.goto 4, 3) := by decide +kernel
theorem dX2_holds_267 : decode cX2_holds 267 = .ok (.iconst 0, 1) := by decide +kernel
theorem dX2_holds_268 : decode cX2_holds 268 = .ok (.ireturn, 1) := by decide +kernel
