set_option maxRecDepth 100000
abbrev cX2_compare : ByteArray := prog_26_method_7_code
def yX2_compare : MethodName := ⟨"TripleStoreModel", "compare", "(JJ)I"⟩
theorem dX2_compare_0 : decode cX2_compare 0 = .ok (.lload_n 0, 1) := by decide +kernel
theorem dX2_compare_1 : decode cX2_compare 1 = .ok (.lload_n 2, 1) := by decide +kernel
theorem dX2_compare_2 : decode cX2_compare 2 = .ok (.lcmp, 1) := by decide +kernel
theorem dX2_compare_3 : decode cX2_compare 3 = .ok (.ifCond .ne 5, 3) := by decide +kernel
theorem dX2_compare_6 : decode cX2_compare 6 = .ok (.iconst 0, 1) := by decide +kernel
theorem dX2_compare_7 : decode cX2_compare 7 = .ok (.ireturn, 1) := by decide +kernel
theorem dX2_compare_8 : decode cX2_compare 8 = .ok (.lload_n 0, 1) := by decide +kernel
theorem dX2_compare_9 : decode cX2_compare 9 = .ok (.lconst 0, 1) := by decide +kernel
theorem dX2_compare_10 : decode cX2_compare 10 = .ok (.lcmp, 1) := by decide +kernel
theorem dX2_compare_11 : decode cX2_compare 11 = .ok (.ifCond .lt 9, 3) := by decide +kernel
theorem dX2_compare_14 : decode cX2_compare 14 = .ok (.lload_n 2, 1) := by decide +kernel
theorem dX2_compare_15 : decode cX2_compare 15 = .ok (.lconst 0, 1) := by decide +kernel
theorem dX2_compare_16 : decode cX2_compare 16 = .ok (.lcmp, 1) := by decide +kernel
theorem dX2_compare_17 : decode cX2_compare 17 = .ok (.ifCond .ge 39, 3) := by decide +kernel
theorem dX2_compare_20 : decode cX2_compare 20 = .ok (.lload_n 0, 1) := by decide +kernel
theorem dX2_compare_21 : decode cX2_compare 21 = .ok (.lconst 0, 1) := by decide +kernel
theorem dX2_compare_22 : decode cX2_compare 22 = .ok (.lcmp, 1) := by decide +kernel
theorem dX2_compare_23 : decode cX2_compare 23 = .ok (.ifCond .ge 21, 3) := by decide +kernel
theorem dX2_compare_26 : decode cX2_compare 26 = .ok (.lload_n 2, 1) := by decide +kernel
theorem dX2_compare_27 : decode cX2_compare 27 = .ok (.lconst 0, 1) := by decide +kernel
theorem dX2_compare_28 : decode cX2_compare 28 = .ok (.lcmp, 1) := by decide +kernel
theorem dX2_compare_29 : decode cX2_compare 29 = .ok (.ifCond .ge 15, 3) := by decide +kernel
theorem dX2_compare_32 : decode cX2_compare 32 = .ok (.lload_n 0, 1) := by decide +kernel
theorem dX2_compare_33 : decode cX2_compare 33 = .ok (.lload_n 2, 1) := by decide +kernel
theorem dX2_compare_34 : decode cX2_compare 34 = .ok (.lcmp, 1) := by decide +kernel
theorem dX2_compare_35 : decode cX2_compare 35 = .ok (.ifCond .le 7, 3) := by decide +kernel
theorem dX2_compare_38 : decode cX2_compare 38 = .ok (.iconst (-1), 1) := by decide +kernel
theorem dX2_compare_39 : decode cX2_compare 39 = .ok (.goto 4, 3) := by decide +kernel
theorem dX2_compare_42 : decode cX2_compare 42 = .ok (.iconst 1, 1) := by decide +kernel
theorem dX2_compare_43 : decode cX2_compare 43 = .ok (.ireturn, 1) := by decide +kernel
theorem dX2_compare_44 : decode cX2_compare 44 = .ok (.lload_n 0, 1) := by decide +kernel
theorem dX2_compare_45 : decode cX2_compare 45 = .ok (.lconst 0, 1) := by decide +kernel
theorem dX2_compare_46 : decode cX2_compare 46 = .ok (.lcmp, 1) := by decide +kernel
theorem dX2_compare_47 : decode cX2_compare 47 = .ok (.ifCond .ge 7, 3) := by decide +kernel
theorem dX2_compare_50 : decode cX2_compare 50 = .ok (.iconst (-1), 1) := by decide +kernel
theorem dX2_compare_51 : decode cX2_compare 51 = .ok (.goto 4, 3) := by decide +kernel
theorem dX2_compare_54 : decode cX2_compare 54 = .ok (.iconst 1, 1) := by decide +kernel
theorem dX2_compare_55 : decode cX2_compare 55 = .ok (.ireturn, 1) := by decide +kernel
theorem dX2_compare_56 : decode cX2_compare 56 = .ok (.lload_n 0, 1) := by decide +kernel
theorem dX2_compare_57 : decode cX2_compare 57 = .ok (.lstore 4, 2) := by decide +kernel
theorem dX2_compare_59 : decode cX2_compare 59 = .ok (.lload_n 2, 1) := by decide +kernel
theorem dX2_compare_60 : decode cX2_compare 60 = .ok (.lstore 6, 2) := by decide +kernel
theorem dX2_compare_62 : decode cX2_compare 62 = .ok (.lload 4, 2) := by decide +kernel
theorem dX2_compare_64 : decode cX2_compare 64 = .ok (.bipush 56, 2) := by decide +kernel
theorem dX2_compare_66 : decode cX2_compare 66 = .ok (.lshr, 1) := by decide +kernel
theorem dX2_compare_67 : decode cX2_compare 67 = .ok (.lconst 0, 1) := by decide +kernel
theorem dX2_compare_68 : decode cX2_compare 68 = .ok (.lcmp, 1) := by decide +kernel
theorem dX2_compare_69 : decode cX2_compare 69 = .ok (.ifCond .ne 13, 3) := by decide +kernel
theorem dX2_compare_72 : decode cX2_compare 72 = .ok (.lload 4, 2) := by decide +kernel
theorem dX2_compare_74 : decode cX2_compare 74 = .ok (.bipush 8, 2) := by decide +kernel
theorem dX2_compare_76 : decode cX2_compare 76 = .ok (.lshl, 1) := by decide +kernel
theorem dX2_compare_77 : decode cX2_compare 77 = .ok (.lstore 4, 2) := by decide +kernel
theorem dX2_compare_79 : decode cX2_compare 79 = .ok (.goto (-17), 3) := by decide +kernel
theorem dX2_compare_82 : decode cX2_compare 82 = .ok (.lload 6, 2) := by decide +kernel
theorem dX2_compare_84 : decode cX2_compare 84 = .ok (.bipush 56, 2) := by decide +kernel
theorem dX2_compare_86 : decode cX2_compare 86 = .ok (.lshr, 1) := by decide +kernel
theorem dX2_compare_87 : decode cX2_compare 87 = .ok (.lconst 0, 1) := by decide +kernel
theorem dX2_compare_88 : decode cX2_compare 88 = .ok (.lcmp, 1) := by decide +kernel
theorem dX2_compare_89 : decode cX2_compare 89 = .ok (.ifCond .ne 13, 3) := by decide +kernel
theorem dX2_compare_92 : decode cX2_compare 92 = .ok (.lload 6, 2) := by decide +kernel
theorem dX2_compare_94 : decode cX2_compare 94 = .ok (.bipush 8, 2) := by decide +kernel
theorem dX2_compare_96 : decode cX2_compare 96 = .ok (.lshl, 1) := by decide +kernel
theorem dX2_compare_97 : decode cX2_compare 97 = .ok (.lstore 6, 2) := by decide +kernel
theorem dX2_compare_99 : decode cX2_compare 99 = .ok (.goto (-17), 3) := by decide +kernel
theorem dX2_compare_102 : decode cX2_compare 102 = .ok (.lload 4, 2) := by decide +kernel
theorem dX2_compare_104 : decode cX2_compare 104 = .ok (.lload 6, 2) := by decide +kernel
theorem dX2_compare_106 : decode cX2_compare 106 = .ok (.lcmp, 1) := by decide +kernel
theorem dX2_compare_107 : decode cX2_compare 107 = .ok (.ifCond .ge 7, 3) := by decide +kernel
theorem dX2_compare_110 : decode cX2_compare 110 = .ok (.iconst (-1), 1) := by decide +kernel
theorem dX2_compare_111 : decode cX2_compare 111 = .ok (.goto 4, 3) := by decide +kernel
theorem dX2_compare_114 : decode cX2_compare 114 = .ok (.iconst 1, 1) := by decide +kernel
theorem dX2_compare_115 : decode cX2_compare 115 = .ok (.ireturn, 1) := by decide +kernel
abbrev cX2_makeRows : ByteArray := prog_26_method_54_code
def yX2_makeRows : MethodName := ⟨"TripleStoreModel", "makeRows", "()V"⟩
theorem dX2_makeRows_0 : decode cX2_makeRows 0 = .ok (.aload_n 0, 1) := by decide +kernel
theorem dX2_makeRows_1 : decode cX2_makeRows 1 = .ok (.getfield 76, 3) := by decide +kernel
theorem dX2_makeRows_4 : decode cX2_makeRows 4 = .ok (.iconst 0, 1) := by decide +kernel
theorem dX2_makeRows_5 : decode cX2_makeRows 5 = .ok (.iaload, 1) := by decide +kernel
theorem dX2_makeRows_6 : decode cX2_makeRows 6 = .ok (.istore_n 1, 1) := by decide +kernel
theorem dX2_makeRows_7 : decode cX2_makeRows 7 = .ok (.iconst 0, 1) := by decide +kernel
theorem dX2_makeRows_8 : decode cX2_makeRows 8 = .ok (.istore_n 2, 1) := by decide +kernel
theorem dX2_makeRows_9 : decode cX2_makeRows 9 = .ok (.iload_n 2, 1) := by decide +kernel
theorem dX2_makeRows_10 : decode cX2_makeRows 10 = .ok (.iload_n 1, 1) := by decide +kernel
theorem dX2_makeRows_11 : decode cX2_makeRows 11 = .ok (.if_icmp .ge 58, 3) := by decide +kernel
theorem dX2_makeRows_14 : decode cX2_makeRows 14 = .ok (.iload_n 2, 1) := by decide +kernel
theorem dX2_makeRows_15 : decode cX2_makeRows 15 = .ok (.istore_n 3, 1) := by decide +kernel
theorem dX2_makeRows_16 : decode cX2_makeRows 16 = .ok (.iload_n 3, 1) := by decide +kernel
theorem dX2_makeRows_17 : decode cX2_makeRows 17 = .ok (.ifCond .le 39, 3) := by decide +kernel
theorem dX2_makeRows_20 : decode cX2_makeRows 20 = .ok (.aload_n 0, 1) := by decide +kernel
theorem dX2_makeRows_21 : decode cX2_makeRows 21 = .ok (.iload_n 2, 1) := by decide +kernel
theorem dX2_makeRows_22 : decode cX2_makeRows 22 = .ok (.aload_n 0, 1) := by decide +kernel
theorem dX2_makeRows_23 : decode cX2_makeRows 23 = .ok (.getfield 85, 3) := by decide +kernel
theorem dX2_makeRows_26 : decode cX2_makeRows 26 = .ok (.iload_n 3, 1) := by decide +kernel
theorem dX2_makeRows_27 : decode cX2_makeRows 27 = .ok (.iconst 1, 1) := by decide +kernel
theorem dX2_makeRows_28 : decode cX2_makeRows 28 = .ok (.isub, 1) := by decide +kernel
theorem dX2_makeRows_29 : decode cX2_makeRows 29 = .ok (.iaload, 1) := by decide +kernel
theorem dX2_makeRows_30 : decode cX2_makeRows 30 = .ok (.invokevirtual 355, 3) := by decide +kernel
theorem dX2_makeRows_33 : decode cX2_makeRows 33 = .ok (.ifCond .eq 23, 3) := by decide +kernel
theorem dX2_makeRows_36 : decode cX2_makeRows 36 = .ok (.aload_n 0, 1) := by decide +kernel
theorem dX2_makeRows_37 : decode cX2_makeRows 37 = .ok (.getfield 85, 3) := by decide +kernel
theorem dX2_makeRows_40 : decode cX2_makeRows 40 = .ok (.iload_n 3, 1) := by decide +kernel
theorem dX2_makeRows_41 : decode cX2_makeRows 41 = .ok (.aload_n 0, 1) := by decide +kernel
theorem dX2_makeRows_42 : decode cX2_makeRows 42 = .ok (.getfield 85, 3) := by decide +kernel
theorem dX2_makeRows_45 : decode cX2_makeRows 45 = .ok (.iload_n 3, 1) := by decide +kernel
theorem dX2_makeRows_46 : decode cX2_makeRows 46 = .ok (.iconst 1, 1) := by decide +kernel
theorem dX2_makeRows_47 : decode cX2_makeRows 47 = .ok (.isub, 1) := by decide +kernel
theorem dX2_makeRows_48 : decode cX2_makeRows 48 = .ok (.iaload, 1) := by decide +kernel
theorem dX2_makeRows_49 : decode cX2_makeRows 49 = .ok (.iastore, 1) := by decide +kernel
theorem dX2_makeRows_50 : decode cX2_makeRows 50 = .ok (.iinc 3 (-1), 3) := by decide +kernel
theorem dX2_makeRows_53 : decode cX2_makeRows 53 = .ok (.goto (-37), 3) := by decide +kernel
theorem dX2_makeRows_56 : decode cX2_makeRows 56 = .ok (.aload_n 0, 1) := by decide +kernel
theorem dX2_makeRows_57 : decode cX2_makeRows 57 = .ok (.getfield 85, 3) := by decide +kernel
theorem dX2_makeRows_60 : decode cX2_makeRows 60 = .ok (.iload_n 3, 1) := by decide +kernel
theorem dX2_makeRows_61 : decode cX2_makeRows 61 = .ok (.iload_n 2, 1) := by decide +kernel
theorem dX2_makeRows_62 : decode cX2_makeRows 62 = .ok (.iastore, 1) := by decide +kernel
theorem dX2_makeRows_63 : decode cX2_makeRows 63 = .ok (.iinc 2 1, 3) := by decide +kernel
theorem dX2_makeRows_66 : decode cX2_makeRows 66 = .ok (.goto (-57), 3) := by decide +kernel
theorem dX2_makeRows_69 : decode cX2_makeRows 69 = .ok (.iconst 0, 1) := by decide +kernel
theorem dX2_makeRows_70 : decode cX2_makeRows 70 = .ok (.istore_n 2, 1) := by decide +kernel
theorem dX2_makeRows_71 : decode cX2_makeRows 71 = .ok (.iload_n 2, 1) := by decide +kernel
theorem dX2_makeRows_72 : decode cX2_makeRows 72 = .ok (.iload_n 1, 1) := by decide +kernel
theorem dX2_makeRows_73 : decode cX2_makeRows 73 = .ok (.if_icmp .ge 148, 3) := by decide +kernel
theorem dX2_makeRows_76 : decode cX2_makeRows 76 = .ok (.aload_n 0, 1) := by decide +kernel
theorem dX2_makeRows_77 : decode cX2_makeRows 77 = .ok (.getfield 358, 3) := by decide +kernel
theorem dX2_makeRows_80 : decode cX2_makeRows 80 = .ok (.aload_n 0, 1) := by decide +kernel
theorem dX2_makeRows_81 : decode cX2_makeRows 81 = .ok (.getfield 308, 3) := by decide +kernel
theorem dX2_makeRows_84 : decode cX2_makeRows 84 = .ok (.if_icmp .ge 137, 3) := by decide +kernel
theorem dX2_makeRows_87 : decode cX2_makeRows 87 = .ok (.iconst 0, 1) := by decide +kernel
theorem dX2_makeRows_88 : decode cX2_makeRows 88 = .ok (.istore_n 3, 1) := by decide +kernel
theorem dX2_makeRows_89 : decode cX2_makeRows 89 = .ok (.iconst 0, 1) := by decide +kernel
theorem dX2_makeRows_90 : decode cX2_makeRows 90 = .ok (.istore 4, 2) := by decide +kernel
theorem dX2_makeRows_92 : decode cX2_makeRows 92 = .ok (.iload 4, 2) := by decide +kernel
theorem dX2_makeRows_94 : decode cX2_makeRows 94 = .ok (.iload_n 2, 1) := by decide +kernel
theorem dX2_makeRows_95 : decode cX2_makeRows 95 = .ok (.if_icmp .ge 31, 3) := by decide +kernel
theorem dX2_makeRows_98 : decode cX2_makeRows 98 = .ok (.aload_n 0, 1) := by decide +kernel
theorem dX2_makeRows_99 : decode cX2_makeRows 99 = .ok (.aload_n 0, 1) := by decide +kernel
theorem dX2_makeRows_100 : decode cX2_makeRows 100 = .ok (.getfield 85, 3) := by decide +kernel
theorem dX2_makeRows_103 : decode cX2_makeRows 103 = .ok (.iload 4, 2) := by decide +kernel
theorem dX2_makeRows_105 : decode cX2_makeRows 105 = .ok (.iaload, 1) := by decide +kernel
theorem dX2_makeRows_106 : decode cX2_makeRows 106 = .ok (.aload_n 0, 1) := by decide +kernel
theorem dX2_makeRows_107 : decode cX2_makeRows 107 = .ok (.getfield 85, 3) := by decide +kernel
theorem dX2_makeRows_110 : decode cX2_makeRows 110 = .ok (.iload_n 2, 1) := by decide +kernel
theorem dX2_makeRows_111 : decode cX2_makeRows 111 = .ok (.iaload, 1) := by decide +kernel
theorem dX2_makeRows_112 : decode cX2_makeRows 112 = .ok (.invokevirtual 351, 3) := by decide +kernel
theorem dX2_makeRows_115 : decode cX2_makeRows 115 = .ok (.ifCond .ne 5, 3) := by decide +kernel
theorem dX2_makeRows_118 : decode cX2_makeRows 118 = .ok (.iconst 1, 1) := by decide +kernel
theorem dX2_makeRows_119 : decode cX2_makeRows 119 = .ok (.istore_n 3, 1) := by decide +kernel
theorem dX2_makeRows_120 : decode cX2_makeRows 120 = .ok (.iinc 4 1, 3) := by decide +kernel
theorem dX2_makeRows_123 : decode cX2_makeRows 123 = .ok (.goto (-31), 3) := by decide +kernel
theorem dX2_makeRows_126 : decode cX2_makeRows 126 = .ok (.aload_n 0, 1) := by decide +kernel
theorem dX2_makeRows_127 : decode cX2_makeRows 127 = .ok (.getfield 293, 3) := by decide +kernel
theorem dX2_makeRows_130 : decode cX2_makeRows 130 = .ok (.ifCond .eq 7, 3) := by decide +kernel
theorem dX2_makeRows_133 : decode cX2_makeRows 133 = .ok (.iload_n 3, 1) := by decide +kernel
theorem dX2_makeRows_134 : decode cX2_makeRows 134 = .ok (.ifCond .ne 81, 3) := by decide +kernel
theorem dX2_makeRows_137 : decode cX2_makeRows 137 = .ok (.iconst 0, 1) := by decide +kernel
theorem dX2_makeRows_138 : decode cX2_makeRows 138 = .ok (.istore 4, 2) := by decide +kernel
theorem dX2_makeRows_140 : decode cX2_makeRows 140 = .ok (.iload 4, 2) := by decide +kernel
theorem dX2_makeRows_142 : decode cX2_makeRows 142 = .ok (.bipush 6, 2) := by decide +kernel
theorem dX2_makeRows_144 : decode cX2_makeRows 144 = .ok (.if_icmp .ge 41, 3) := by decide +kernel
theorem dX2_makeRows_147 : decode cX2_makeRows 147 = .ok (.aload_n 0, 1) := by decide +kernel
theorem dX2_makeRows_148 : decode cX2_makeRows 148 = .ok (.getfield 79, 3) := by decide +kernel
theorem dX2_makeRows_151 : decode cX2_makeRows 151 = .ok (.bipush 6, 2) := by decide +kernel
theorem dX2_makeRows_153 : decode cX2_makeRows 153 = .ok (.aload_n 0, 1) := by decide +kernel
theorem dX2_makeRows_154 : decode cX2_makeRows 154 = .ok (.getfield 358, 3) := by decide +kernel
theorem dX2_makeRows_157 : decode cX2_makeRows 157 = .ok (.imul, 1) := by decide +kernel
theorem dX2_makeRows_158 : decode cX2_makeRows 158 = .ok (.iload 4, 2) := by decide +kernel
theorem dX2_makeRows_160 : decode cX2_makeRows 160 = .ok (.iadd, 1) := by decide +kernel
theorem dX2_makeRows_161 : decode cX2_makeRows 161 = .ok (.aload_n 0, 1) := by decide +kernel
theorem dX2_makeRows_162 : decode cX2_makeRows 162 = .ok (.getfield 70, 3) := by decide +kernel
theorem dX2_makeRows_165 : decode cX2_makeRows 165 = .ok (.bipush 6, 2) := by decide +kernel
theorem dX2_makeRows_167 : decode cX2_makeRows 167 = .ok (.aload_n 0, 1) := by decide +kernel
theorem dX2_makeRows_168 : decode cX2_makeRows 168 = .ok (.getfield 85, 3) := by decide +kernel
theorem dX2_makeRows_171 : decode cX2_makeRows 171 = .ok (.iload_n 2, 1) := by decide +kernel
theorem dX2_makeRows_172 : decode cX2_makeRows 172 = .ok (.iaload, 1) := by decide +kernel
theorem dX2_makeRows_173 : decode cX2_makeRows 173 = .ok (.imul, 1) := by decide +kernel
theorem dX2_makeRows_174 : decode cX2_makeRows 174 = .ok (.iload 4, 2) := by decide +kernel
theorem dX2_makeRows_176 : decode cX2_makeRows 176 = .ok (.iadd, 1) := by decide +kernel
theorem dX2_makeRows_177 : decode cX2_makeRows 177 = .ok (.laload, 1) := by decide +kernel
theorem dX2_makeRows_178 : decode cX2_makeRows 178 = .ok (.lastore, 1) := by decide +kernel
theorem dX2_makeRows_179 : decode cX2_makeRows 179 = .ok (.iinc 4 1, 3) := by decide +kernel
theorem dX2_makeRows_182 : decode cX2_makeRows 182 = .ok (.goto (-42), 3) := by decide +kernel
theorem dX2_makeRows_185 : decode cX2_makeRows 185 = .ok (.aload_n 0, 1) := by decide +kernel
theorem dX2_makeRows_186 : decode cX2_makeRows 186 = .ok (.getfield 82, 3) := by decide +kernel
theorem dX2_makeRows_189 : decode cX2_makeRows 189 = .ok (.aload_n 0, 1) := by decide +kernel
theorem dX2_makeRows_190 : decode cX2_makeRows 190 = .ok (.getfield 358, 3) := by decide +kernel
theorem dX2_makeRows_193 : decode cX2_makeRows 193 = .ok (.aload_n 0, 1) := by decide +kernel
theorem dX2_makeRows_194 : decode cX2_makeRows 194 = .ok (.getfield 73, 3) := by decide +kernel
theorem dX2_makeRows_197 : decode cX2_makeRows 197 = .ok (.aload_n 0, 1) := by decide +kernel
theorem dX2_makeRows_198 : decode cX2_makeRows 198 = .ok (.getfield 85, 3) := by decide +kernel
theorem dX2_makeRows_201 : decode cX2_makeRows 201 = .ok (.iload_n 2, 1) := by decide +kernel
theorem dX2_makeRows_202 : decode cX2_makeRows 202 = .ok (.iaload, 1) := by decide +kernel
theorem dX2_makeRows_203 : decode cX2_makeRows 203 = .ok (.iaload, 1) := by decide +kernel
theorem dX2_makeRows_204 : decode cX2_makeRows 204 = .ok (.iastore, 1) := by decide +kernel
theorem dX2_makeRows_205 : decode cX2_makeRows 205 = .ok (.aload_n 0, 1) := by decide +kernel
theorem dX2_makeRows_206 : decode cX2_makeRows 206 = .ok (.dup, 1) := by decide +kernel
theorem dX2_makeRows_207 : decode cX2_makeRows 207 = .ok (.getfield 358, 3) := by decide +kernel
theorem dX2_makeRows_210 : decode cX2_makeRows 210 = .ok (.iconst 1, 1) := by decide +kernel
theorem dX2_makeRows_211 : decode cX2_makeRows 211 = .ok (.iadd, 1) := by decide +kernel
theorem dX2_makeRows_212 : decode cX2_makeRows 212 = .ok (.putfield 358, 3) := by decide +kernel
theorem dX2_makeRows_215 : decode cX2_makeRows 215 = .ok (.iinc 2 1, 3) := by decide +kernel
theorem dX2_makeRows_218 : decode cX2_makeRows 218 = .ok (.goto (-147), 3) := by decide +kernel
theorem dX2_makeRows_221 : decode cX2_makeRows 221 = .ok (.return_, 1) := by decide +kernel
abbrev cX2_before : ByteArray := prog_26_method_53_code
def yX2_before : MethodName := ⟨"TripleStoreModel", "before", "(II)Z"⟩
theorem dX2_before_0 : decode cX2_before 0 = .ok (.aload_n 0, 1) := by decide +kernel
theorem dX2_before_1 : decode cX2_before 1 = .ok (.getfield 302, 3) := by decide +kernel
theorem dX2_before_4 : decode cX2_before 4 = .ok (.ifCond .ge 7, 3) := by decide +kernel
theorem dX2_before_7 : decode cX2_before 7 = .ok (.iconst 0, 1) := by decide +kernel
theorem dX2_before_8 : decode cX2_before 8 = .ok (.goto 13, 3) := by decide +kernel
theorem dX2_before_11 : decode cX2_before 11 = .ok (.aload_n 0, 1) := by decide +kernel
theorem dX2_before_12 : decode cX2_before 12 = .ok (.aload_n 0, 1) := by decide +kernel
theorem dX2_before_13 : decode cX2_before 13 = .ok (.getfield 302, 3) := by decide +kernel
theorem dX2_before_16 : decode cX2_before 16 = .ok (.iload_n 1, 1) := by decide +kernel
theorem dX2_before_17 : decode cX2_before 17 = .ok (.iload_n 2, 1) := by decide +kernel
theorem dX2_before_18 : decode cX2_before 18 = .ok (.invokevirtual 347, 3) := by decide +kernel
theorem dX2_before_21 : decode cX2_before 21 = .ok (.istore_n 3, 1) := by decide +kernel
theorem dX2_before_22 : decode cX2_before 22 = .ok (.aload_n 0, 1) := by decide +kernel
theorem dX2_before_23 : decode cX2_before 23 = .ok (.getfield 305, 3) := by decide +kernel
theorem dX2_before_26 : decode cX2_before 26 = .ok (.ifCond .eq 6, 3) := by decide +kernel
theorem dX2_before_29 : decode cX2_before 29 = .ok (.iload_n 3, 1) := by decide +kernel
theorem dX2_before_30 : decode cX2_before 30 = .ok (.ineg, 1) := by decide +kernel
theorem dX2_before_31 : decode cX2_before 31 = .ok (.istore_n 3, 1) := by decide +kernel
theorem dX2_before_32 : decode cX2_before 32 = .ok (.iload_n 3, 1) := by decide +kernel
theorem dX2_before_33 : decode cX2_before 33 = .ok (.ifCond .ne 10, 3) := by decide +kernel
theorem dX2_before_36 : decode cX2_before 36 = .ok (.aload_n 0, 1) := by decide +kernel
theorem dX2_before_37 : decode cX2_before 37 = .ok (.iload_n 1, 1) := by decide +kernel
theorem dX2_before_38 : decode cX2_before 38 = .ok (.iload_n 2, 1) := by decide +kernel
theorem dX2_before_39 : decode cX2_before 39 = .ok (.invokevirtual 351, 3) := by decide +kernel
theorem dX2_before_42 : decode cX2_before 42 = .ok (.istore_n 3, 1) := by decide +kernel
theorem dX2_before_43 : decode cX2_before 43 = .ok (.iload_n 3, 1) := by decide +kernel
theorem dX2_before_44 : decode cX2_before 44 = .ok (.ifCond .ge 7, 3) := by decide +kernel
theorem dX2_before_47 : decode cX2_before 47 = .ok (.iconst 1, 1) := by decide +kernel
theorem dX2_before_48 : decode cX2_before 48 = .ok (.goto 4, 3) := by decide +kernel
theorem dX2_before_51 : decode cX2_before 51 = .ok (.iconst 0, 1) := by decide +kernel
theorem dX2_before_52 : decode cX2_before 52 = .ok (.ireturn, 1) := by decide +kernel
abbrev cX2_by : ByteArray := prog_26_method_51_code
def yX2_by : MethodName := ⟨"TripleStoreModel", "by", "(III)I"⟩
theorem dX2_by_0 : decode cX2_by 0 = .ok (.aload_n 0, 1) := by decide +kernel
theorem dX2_by_1 : decode cX2_by 1 = .ok (.getfield 73, 3) := by decide +kernel
theorem dX2_by_4 : decode cX2_by 4 = .ok (.iload_n 2, 1) := by decide +kernel
theorem dX2_by_5 : decode cX2_by 5 = .ok (.iaload, 1) := by decide +kernel
theorem dX2_by_6 : decode cX2_by 6 = .ok (.iload_n 1, 1) := by decide +kernel
theorem dX2_by_7 : decode cX2_by 7 = .ok (.ishr, 1) := by decide +kernel
theorem dX2_by_8 : decode cX2_by 8 = .ok (.iconst 1, 1) := by decide +kernel
theorem dX2_by_9 : decode cX2_by 9 = .ok (.iand, 1) := by decide +kernel
theorem dX2_by_10 : decode cX2_by 10 = .ok (.iconst 1, 1) := by decide +kernel
theorem dX2_by_11 : decode cX2_by 11 = .ok (.if_icmp .ne 7, 3) := by decide +kernel
theorem dX2_by_14 : decode cX2_by 14 = .ok (.iconst 1, 1) := by decide +kernel
theorem dX2_by_15 : decode cX2_by 15 = .ok (.goto 4, 3) := by decide +kernel
theorem dX2_by_18 : decode cX2_by 18 = .ok (.iconst 0, 1) := by decide +kernel
theorem dX2_by_19 : decode cX2_by 19 = .ok (.istore 4, 2) := by decide +kernel
theorem dX2_by_21 : decode cX2_by 21 = .ok (.aload_n 0, 1) := by decide +kernel
theorem dX2_by_22 : decode cX2_by 22 = .ok (.getfield 73, 3) := by decide +kernel
theorem dX2_by_25 : decode cX2_by 25 = .ok (.iload_n 3, 1) := by decide +kernel
theorem dX2_by_26 : decode cX2_by 26 = .ok (.iaload, 1) := by decide +kernel
theorem dX2_by_27 : decode cX2_by 27 = .ok (.iload_n 1, 1) := by decide +kernel
theorem dX2_by_28 : decode cX2_by 28 = .ok (.ishr, 1) := by decide +kernel
theorem dX2_by_29 : decode cX2_by 29 = .ok (.iconst 1, 1) := by decide +kernel
theorem dX2_by_30 : decode cX2_by 30 = .ok (.iand, 1) := by decide +kernel
theorem dX2_by_31 : decode cX2_by 31 = .ok (.iconst 1, 1) := by decide +kernel
theorem dX2_by_32 : decode cX2_by 32 = .ok (.if_icmp .ne 7, 3) := by decide +kernel
theorem dX2_by_35 : decode cX2_by 35 = .ok (.iconst 1, 1) := by decide +kernel
theorem dX2_by_36 : decode cX2_by 36 = .ok (.goto 4, 3) := by decide +kernel
theorem dX2_by_39 : decode cX2_by 39 = .ok (.iconst 0, 1) := by decide +kernel
theorem dX2_by_40 : decode cX2_by 40 = .ok (.istore 5, 2) := by decide +kernel
theorem dX2_by_42 : decode cX2_by 42 = .ok (.iload 4, 2) := by decide +kernel
theorem dX2_by_44 : decode cX2_by 44 = .ok (.ifCond .eq 8, 3) := by decide +kernel
theorem dX2_by_47 : decode cX2_by 47 = .ok (.iload 5, 2) := by decide +kernel
theorem dX2_by_49 : decode cX2_by 49 = .ok (.ifCond .ne 27, 3) := by decide +kernel
theorem dX2_by_52 : decode cX2_by 52 = .ok (.iload 4, 2) := by decide +kernel
theorem dX2_by_54 : decode cX2_by 54 = .ok (.ifCond .eq 7, 3) := by decide +kernel
theorem dX2_by_57 : decode cX2_by 57 = .ok (.iconst 1, 1) := by decide +kernel
theorem dX2_by_58 : decode cX2_by 58 = .ok (.goto 4, 3) := by decide +kernel
theorem dX2_by_61 : decode cX2_by 61 = .ok (.iconst 0, 1) := by decide +kernel
theorem dX2_by_62 : decode cX2_by 62 = .ok (.iload 5, 2) := by decide +kernel
theorem dX2_by_64 : decode cX2_by 64 = .ok (.ifCond .eq 7, 3) := by decide +kernel
theorem dX2_by_67 : decode cX2_by 67 = .ok (.iconst 1, 1) := by decide +kernel
theorem dX2_by_68 : decode cX2_by 68 = .ok (.goto 4, 3) := by decide +kernel
theorem dX2_by_71 : decode cX2_by 71 = .ok (.iconst 0, 1) := by decide +kernel
theorem dX2_by_72 : decode cX2_by 72 = .ok (.isub, 1) := by decide +kernel
theorem dX2_by_73 : decode cX2_by 73 = .ok (.goto 28, 3) := by decide +kernel
theorem dX2_by_76 : decode cX2_by 76 = .ok (.aload_n 0, 1) := by decide +kernel
theorem dX2_by_77 : decode cX2_by 77 = .ok (.getfield 70, 3) := by decide +kernel
theorem dX2_by_80 : decode cX2_by 80 = .ok (.bipush 6, 2) := by decide +kernel
theorem dX2_by_82 : decode cX2_by 82 = .ok (.iload_n 2, 1) := by decide +kernel
theorem dX2_by_83 : decode cX2_by 83 = .ok (.imul, 1) := by decide +kernel
theorem dX2_by_84 : decode cX2_by 84 = .ok (.iload_n 1, 1) := by decide +kernel
theorem dX2_by_85 : decode cX2_by 85 = .ok (.iadd, 1) := by decide +kernel
theorem dX2_by_86 : decode cX2_by 86 = .ok (.laload, 1) := by decide +kernel
theorem dX2_by_87 : decode cX2_by 87 = .ok (.aload_n 0, 1) := by decide +kernel
theorem dX2_by_88 : decode cX2_by 88 = .ok (.getfield 70, 3) := by decide +kernel
theorem dX2_by_91 : decode cX2_by 91 = .ok (.bipush 6, 2) := by decide +kernel
theorem dX2_by_93 : decode cX2_by 93 = .ok (.iload_n 3, 1) := by decide +kernel
theorem dX2_by_94 : decode cX2_by 94 = .ok (.imul, 1) := by decide +kernel
theorem dX2_by_95 : decode cX2_by 95 = .ok (.iload_n 1, 1) := by decide +kernel
theorem dX2_by_96 : decode cX2_by 96 = .ok (.iadd, 1) := by decide +kernel
theorem dX2_by_97 : decode cX2_by 97 = .ok (.laload, 1) := by decide +kernel
theorem dX2_by_98 : decode cX2_by 98 = .ok (.invokestatic 332, 3) := by decide +kernel
theorem dX2_by_101 : decode cX2_by 101 = .ok (.ireturn, 1) := by decide +kernel
abbrev cX2_byTerms : ByteArray := prog_26_method_52_code
def yX2_byTerms : MethodName := ⟨"TripleStoreModel", "byTerms", "(II)I"⟩
theorem dX2_byTerms_0 : decode cX2_byTerms 0 = .ok (.iconst 0, 1) := by decide +kernel
theorem dX2_byTerms_1 : decode cX2_byTerms 1 = .ok (.istore_n 3, 1) := by decide +kernel
theorem dX2_byTerms_2 : decode cX2_byTerms 2 = .ok (.iconst 0, 1) := by decide +kernel
theorem dX2_byTerms_3 : decode cX2_byTerms 3 = .ok (.istore 4, 2) := by decide +kernel
theorem dX2_byTerms_5 : decode cX2_byTerms 5 = .ok (.iload 4, 2) := by decide +kernel
theorem dX2_byTerms_7 : decode cX2_byTerms 7 = .ok (.aload_n 0, 1) := by decide +kernel
theorem dX2_byTerms_8 : decode cX2_byTerms 8 = .ok (.getfield 296, 3) := by decide +kernel
theorem dX2_byTerms_11 : decode cX2_byTerms 11 = .ok (.if_icmp .ge 27, 3) := by decide +kernel
theorem dX2_byTerms_14 : decode cX2_byTerms 14 = .ok (.iload_n 3, 1) := by decide +kernel
theorem dX2_byTerms_15 : decode cX2_byTerms 15 = .ok (.ifCond .ne 23, 3) := by decide +kernel
theorem dX2_byTerms_18 : decode cX2_byTerms 18 = .ok (.aload_n 0, 1) := by decide +kernel
theorem dX2_byTerms_19 : decode cX2_byTerms 19 = .ok (.aload_n 0, 1) := by decide +kernel
theorem dX2_byTerms_20 : decode cX2_byTerms 20 = .ok (.getfield 64, 3) := by decide +kernel
theorem dX2_byTerms_23 : decode cX2_byTerms 23 = .ok (.iload 4, 2) := by decide +kernel
theorem dX2_byTerms_25 : decode cX2_byTerms 25 = .ok (.iaload, 1) := by decide +kernel
theorem dX2_byTerms_26 : decode cX2_byTerms 26 = .ok (.iload_n 1, 1) := by decide +kernel
theorem dX2_byTerms_27 : decode cX2_byTerms 27 = .ok (.iload_n 2, 1) := by decide +kernel
theorem dX2_byTerms_28 : decode cX2_byTerms 28 = .ok (.invokevirtual 347, 3) := by decide +kernel
theorem dX2_byTerms_31 : decode cX2_byTerms 31 = .ok (.istore_n 3, 1) := by decide +kernel
theorem dX2_byTerms_32 : decode cX2_byTerms 32 = .ok (.iinc 4 1, 3) := by decide +kernel
theorem dX2_byTerms_35 : decode cX2_byTerms 35 = .ok (.goto (-30), 3) := by decide +kernel
theorem dX2_byTerms_38 : decode cX2_byTerms 38 = .ok (.iload_n 3, 1) := by decide +kernel
theorem dX2_byTerms_39 : decode cX2_byTerms 39 = .ok (.ireturn, 1) := by decide +kernel
abbrev cX2_fault : ByteArray := prog_26_method_56_code
def yX2_fault : MethodName := ⟨"TripleStoreModel", "fault", "()I"⟩
theorem dX2_fault_0 : decode cX2_fault 0 = .ok (.aload_n 0, 1) := by decide +kernel
theorem dX2_fault_1 : decode cX2_fault 1 = .ok (.iconst 0, 1) := by decide +kernel
theorem dX2_fault_2 : decode cX2_fault 2 = .ok (.putfield 91, 3) := by decide +kernel
theorem dX2_fault_5 : decode cX2_fault 5 = .ok (.aload_n 0, 1) := by decide +kernel
theorem dX2_fault_6 : decode cX2_fault 6 = .ok (.getfield 30, 3) := by decide +kernel
theorem dX2_fault_9 : decode cX2_fault 9 = .ok (.ireturn, 1) := by decide +kernel
abbrev cX2_cell : ByteArray := prog_26_method_57_code
def yX2_cell : MethodName := ⟨"TripleStoreModel", "cell", "(II)J"⟩
theorem dX2_cell_0 : decode cX2_cell 0 = .ok (.aload_n 0, 1) := by decide +kernel
theorem dX2_cell_1 : decode cX2_cell 1 = .ok (.iload_n 1, 1) := by decide +kernel
theorem dX2_cell_2 : decode cX2_cell 2 = .ok (.iconst 0, 1) := by decide +kernel
theorem dX2_cell_3 : decode cX2_cell 3 = .ok (.aload_n 0, 1) := by decide +kernel
theorem dX2_cell_4 : decode cX2_cell 4 = .ok (.getfield 358, 3) := by decide +kernel
theorem dX2_cell_7 : decode cX2_cell 7 = .ok (.iconst 1, 1) := by decide +kernel
theorem dX2_cell_8 : decode cX2_cell 8 = .ok (.isub, 1) := by decide +kernel
theorem dX2_cell_9 : decode cX2_cell 9 = .ok (.invokestatic 94, 3) := by decide +kernel
theorem dX2_cell_12 : decode cX2_cell 12 = .ok (.ifCond .eq 21, 3) := by decide +kernel
theorem dX2_cell_15 : decode cX2_cell 15 = .ok (.iload_n 2, 1) := by decide +kernel
theorem dX2_cell_16 : decode cX2_cell 16 = .ok (.iconst 0, 1) := by decide +kernel
theorem dX2_cell_17 : decode cX2_cell 17 = .ok (.aload_n 0, 1) := by decide +kernel
theorem dX2_cell_18 : decode cX2_cell 18 = .ok (.getfield 364, 3) := by decide +kernel
theorem dX2_cell_21 : decode cX2_cell 21 = .ok (.iconst 1, 1) := by decide +kernel
theorem dX2_cell_22 : decode cX2_cell 22 = .ok (.isub, 1) := by decide +kernel
theorem dX2_cell_23 : decode cX2_cell 23 = .ok (.invokestatic 94, 3) := by decide +kernel
theorem dX2_cell_26 : decode cX2_cell 26 = .ok (.ifCond .eq 7, 3) := by decide +kernel
theorem dX2_cell_29 : decode cX2_cell 29 = .ok (.iconst 1, 1) := by decide +kernel
theorem dX2_cell_30 : decode cX2_cell 30 = .ok (.goto 4, 3) := by decide +kernel
theorem dX2_cell_33 : decode cX2_cell 33 = .ok (.iconst 0, 1) := by decide +kernel
theorem dX2_cell_34 : decode cX2_cell 34 = .ok (.iconst 1, 1) := by decide +kernel
theorem dX2_cell_35 : decode cX2_cell 35 = .ok (.invokevirtual 109, 3) := by decide +kernel
theorem dX2_cell_38 : decode cX2_cell 38 = .ok (.ifCond .ne 5, 3) := by decide +kernel
theorem dX2_cell_41 : decode cX2_cell 41 = .ok (.lconst 0, 1) := by decide +kernel
theorem dX2_cell_42 : decode cX2_cell 42 = .ok (.lreturn, 1) := by decide +kernel
theorem dX2_cell_43 : decode cX2_cell 43 = .ok (.aload_n 0, 1) := by decide +kernel
theorem dX2_cell_44 : decode cX2_cell 44 = .ok (.getfield 88, 3) := by decide +kernel
theorem dX2_cell_47 : decode cX2_cell 47 = .ok (.iload_n 2, 1) := by decide +kernel
theorem dX2_cell_48 : decode cX2_cell 48 = .ok (.iaload, 1) := by decide +kernel
theorem dX2_cell_49 : decode cX2_cell 49 = .ok (.istore_n 3, 1) := by decide +kernel
theorem dX2_cell_50 : decode cX2_cell 50 = .ok (.aload_n 0, 1) := by decide +kernel
theorem dX2_cell_51 : decode cX2_cell 51 = .ok (.aload_n 0, 1) := by decide +kernel
theorem dX2_cell_52 : decode cX2_cell 52 = .ok (.getfield 82, 3) := by decide +kernel
theorem dX2_cell_55 : decode cX2_cell 55 = .ok (.iload_n 1, 1) := by decide +kernel
theorem dX2_cell_56 : decode cX2_cell 56 = .ok (.iaload, 1) := by decide +kernel
theorem dX2_cell_57 : decode cX2_cell 57 = .ok (.iload_n 3, 1) := by decide +kernel
theorem dX2_cell_58 : decode cX2_cell 58 = .ok (.ishr, 1) := by decide +kernel
theorem dX2_cell_59 : decode cX2_cell 59 = .ok (.iconst 1, 1) := by decide +kernel
theorem dX2_cell_60 : decode cX2_cell 60 = .ok (.iand, 1) := by decide +kernel
theorem dX2_cell_61 : decode cX2_cell 61 = .ok (.iconst 1, 1) := by decide +kernel
theorem dX2_cell_62 : decode cX2_cell 62 = .ok (.if_icmp .ne 7, 3) := by decide +kernel
theorem dX2_cell_65 : decode cX2_cell 65 = .ok (.iconst 1, 1) := by decide +kernel
theorem dX2_cell_66 : decode cX2_cell 66 = .ok (.goto 4, 3) := by decide +kernel
theorem dX2_cell_69 : decode cX2_cell 69 = .ok (.iconst 0, 1) := by decide +kernel
theorem dX2_cell_70 : decode cX2_cell 70 = .ok (.iconst 2, 1) := by decide +kernel
theorem dX2_cell_71 : decode cX2_cell 71 = .ok (.invokevirtual 109, 3) := by decide +kernel
theorem dX2_cell_74 : decode cX2_cell 74 = .ok (.ifCond .eq 17, 3) := by decide +kernel
theorem dX2_cell_77 : decode cX2_cell 77 = .ok (.aload_n 0, 1) := by decide +kernel
theorem dX2_cell_78 : decode cX2_cell 78 = .ok (.getfield 79, 3) := by decide +kernel
theorem dX2_cell_81 : decode cX2_cell 81 = .ok (.bipush 6, 2) := by decide +kernel
theorem dX2_cell_83 : decode cX2_cell 83 = .ok (.iload_n 1, 1) := by decide +kernel
theorem dX2_cell_84 : decode cX2_cell 84 = .ok (.imul, 1) := by decide +kernel
theorem dX2_cell_85 : decode cX2_cell 85 = .ok (.iload_n 3, 1) := by decide +kernel
theorem dX2_cell_86 : decode cX2_cell 86 = .ok (.iadd, 1) := by decide +kernel
theorem dX2_cell_87 : decode cX2_cell 87 = .ok (.laload, 1) := by decide +kernel
theorem dX2_cell_88 : decode cX2_cell 88 = .ok (.goto 4, 3) := by decide +kernel
theorem dX2_cell_91 : decode cX2_cell 91 = .ok (.lconst 0, 1) := by decide +kernel
theorem dX2_cell_92 : decode cX2_cell 92 = .ok (.lreturn, 1) := by decide +kernel
abbrev cX2_count : ByteArray := prog_26_method_58_code
def yX2_count : MethodName := ⟨"TripleStoreModel", "count", "(I)I"⟩
theorem dX2_count_0 : decode cX2_count 0 = .ok (.aload_n 0, 1) := by decide +kernel
theorem dX2_count_1 : decode cX2_count 1 = .ok (.iload_n 1, 1) := by decide +kernel
theorem dX2_count_2 : decode cX2_count 2 = .ok (.iconst 0, 1) := by decide +kernel
theorem dX2_count_3 : decode cX2_count 3 = .ok (.bipush 6, 2) := by decide +kernel
theorem dX2_count_5 : decode cX2_count 5 = .ok (.invokestatic 94, 3) := by decide +kernel
theorem dX2_count_8 : decode cX2_count 8 = .ok (.iconst 1, 1) := by decide +kernel
theorem dX2_count_9 : decode cX2_count 9 = .ok (.invokevirtual 109, 3) := by decide +kernel
theorem dX2_count_12 : decode cX2_count 12 = .ok (.ifCond .ne 5, 3) := by decide +kernel
theorem dX2_count_15 : decode cX2_count 15 = .ok (.iconst 0, 1) := by decide +kernel
theorem dX2_count_16 : decode cX2_count 16 = .ok (.ireturn, 1) := by decide +kernel
theorem dX2_count_17 : decode cX2_count 17 = .ok (.iload_n 1, 1) := by decide +kernel
theorem dX2_count_18 : decode cX2_count 18 = .ok (.iconst 3, 1) := by decide +kernel
theorem dX2_count_19 : decode cX2_count 19 = .ok (.if_icmp .ge 31, 3) := by decide +kernel
theorem dX2_count_22 : decode cX2_count 22 = .ok (.iload_n 1, 1) := by decide +kernel
theorem dX2_count_23 : decode cX2_count 23 = .ok (.ifCond .ne 10, 3) := by decide +kernel
theorem dX2_count_26 : decode cX2_count 26 = .ok (.aload_n 0, 1) := by decide +kernel
theorem dX2_count_27 : decode cX2_count 27 = .ok (.getfield 102, 3) := by decide +kernel
theorem dX2_count_30 : decode cX2_count 30 = .ok (.goto 19, 3) := by decide +kernel
theorem dX2_count_33 : decode cX2_count 33 = .ok (.iload_n 1, 1) := by decide +kernel
theorem dX2_count_34 : decode cX2_count 34 = .ok (.iconst 1, 1) := by decide +kernel
theorem dX2_count_35 : decode cX2_count 35 = .ok (.if_icmp .ne 10, 3) := by decide +kernel
theorem dX2_count_38 : decode cX2_count 38 = .ok (.aload_n 0, 1) := by decide +kernel
theorem dX2_count_39 : decode cX2_count 39 = .ok (.getfield 364, 3) := by decide +kernel
theorem dX2_count_42 : decode cX2_count 42 = .ok (.goto 7, 3) := by decide +kernel
theorem dX2_count_45 : decode cX2_count 45 = .ok (.aload_n 0, 1) := by decide +kernel
theorem dX2_count_46 : decode cX2_count 46 = .ok (.getfield 358, 3) := by decide +kernel
theorem dX2_count_49 : decode cX2_count 49 = .ok (.ireturn, 1) := by decide +kernel
theorem dX2_count_50 : decode cX2_count 50 = .ok (.iload_n 1, 1) := by decide +kernel
theorem dX2_count_51 : decode cX2_count 51 = .ok (.iconst 3, 1) := by decide +kernel
theorem dX2_count_52 : decode cX2_count 52 = .ok (.if_icmp .ne 10, 3) := by decide +kernel
theorem dX2_count_55 : decode cX2_count 55 = .ok (.aload_n 0, 1) := by decide +kernel
theorem dX2_count_56 : decode cX2_count 56 = .ok (.getfield 130, 3) := by decide +kernel
theorem dX2_count_59 : decode cX2_count 59 = .ok (.goto 47, 3) := by decide +kernel
theorem dX2_count_62 : decode cX2_count 62 = .ok (.iload_n 1, 1) := by decide +kernel
theorem dX2_count_63 : decode cX2_count 63 = .ok (.iconst 4, 1) := by decide +kernel
theorem dX2_count_64 : decode cX2_count 64 = .ok (.if_icmp .ne 10, 3) := by decide +kernel
theorem dX2_count_67 : decode cX2_count 67 = .ok (.aload_n 0, 1) := by decide +kernel
theorem dX2_count_68 : decode cX2_count 68 = .ok (.getfield 120, 3) := by decide +kernel
theorem dX2_count_71 : decode cX2_count 71 = .ok (.goto 35, 3) := by decide +kernel
theorem dX2_count_74 : decode cX2_count 74 = .ok (.iload_n 1, 1) := by decide +kernel
theorem dX2_count_75 : decode cX2_count 75 = .ok (.iconst 5, 1) := by decide +kernel
theorem dX2_count_76 : decode cX2_count 76 = .ok (.if_icmp .ne 26, 3) := by decide +kernel
theorem dX2_count_79 : decode cX2_count 79 = .ok (.aload_n 0, 1) := by decide +kernel
theorem dX2_count_80 : decode cX2_count 80 = .ok (.getfield 123, 3) := by decide +kernel
theorem dX2_count_83 : decode cX2_count 83 = .ok (.ifCond .eq 15, 3) := by decide +kernel
theorem dX2_count_86 : decode cX2_count 86 = .ok (.aload_n 0, 1) := by decide +kernel
theorem dX2_count_87 : decode cX2_count 87 = .ok (.getfield 117, 3) := by decide +kernel
theorem dX2_count_90 : decode cX2_count 90 = .ok (.aload_n 0, 1) := by decide +kernel
theorem dX2_count_91 : decode cX2_count 91 = .ok (.getfield 148, 3) := by decide +kernel
theorem dX2_count_94 : decode cX2_count 94 = .ok (.isub, 1) := by decide +kernel
theorem dX2_count_95 : decode cX2_count 95 = .ok (.goto 11, 3) := by decide +kernel
theorem dX2_count_98 : decode cX2_count 98 = .ok (.iconst 0, 1) := by decide +kernel
theorem dX2_count_99 : decode cX2_count 99 = .ok (.goto 7, 3) := by decide +kernel
theorem dX2_count_102 : decode cX2_count 102 = .ok (.aload_n 0, 1) := by decide +kernel
theorem dX2_count_103 : decode cX2_count 103 = .ok (.getfield 161, 3) := by decide +kernel
theorem dX2_count_106 : decode cX2_count 106 = .ok (.ireturn, 1) := by decide +kernel
abbrev cX3_init : ByteArray := prog_22_method_1_code
def yX3_init : MethodName := ⟨"TripleStore$Triple", "<init>", "(LTripleStore$Term;LTripleStore$Term;LTripleStore$Term;)V"⟩
theorem dX3_init_0 : decode cX3_init 0 = .ok (.aload_n 0, 1) := by decide +kernel
theorem dX3_init_1 : decode cX3_init 1 = .ok (.invokespecial 1, 3) := by decide +kernel
theorem dX3_init_4 : decode cX3_init 4 = .ok (.iconst 3, 1) := by decide +kernel
theorem dX3_init_5 : decode cX3_init 5 = .ok (.anewarray 7, 3) := by decide +kernel
theorem dX3_init_8 : decode cX3_init 8 = .ok (.dup, 1) := by decide +kernel
theorem dX3_init_9 : decode cX3_init 9 = .ok (.iconst 0, 1) := by decide +kernel
theorem dX3_init_10 : decode cX3_init 10 = .ok (.aload_n 1, 1) := by decide +kernel
theorem dX3_init_11 : decode cX3_init 11 = .ok (.aastore, 1) := by decide +kernel
theorem dX3_init_12 : decode cX3_init 12 = .ok (.dup, 1) := by decide +kernel
theorem dX3_init_13 : decode cX3_init 13 = .ok (.iconst 1, 1) := by decide +kernel
theorem dX3_init_14 : decode cX3_init 14 = .ok (.aload_n 2, 1) := by decide +kernel
theorem dX3_init_15 : decode cX3_init 15 = .ok (.aastore, 1) := by decide +kernel
theorem dX3_init_16 : decode cX3_init 16 = .ok (.dup, 1) := by decide +kernel
theorem dX3_init_17 : decode cX3_init 17 = .ok (.iconst 2, 1) := by decide +kernel
theorem dX3_init_18 : decode cX3_init 18 = .ok (.aload_n 3, 1) := by decide +kernel
theorem dX3_init_19 : decode cX3_init 19 = .ok (.aastore, 1) := by decide +kernel
theorem dX3_init_20 : decode cX3_init 20 = .ok (.astore 4, 2) := by decide +kernel
theorem dX3_init_22 : decode cX3_init 22 = .ok (.aload_n 0, 1) := by decide +kernel
theorem dX3_init_23 : decode cX3_init 23 = .ok (.aload 4, 2) := by decide +kernel
theorem dX3_init_25 : decode cX3_init 25 = .ok (.putfield 9, 3) := by decide +kernel
theorem dX3_init_28 : decode cX3_init 28 = .ok (.return_, 1) := by decide +kernel
abbrev cX3_same : ByteArray := prog_22_method_2_code
def yX3_same : MethodName := ⟨"TripleStore$Triple", "same", "(LTripleStore$Triple;)Z"⟩
theorem dX3_same_0 : decode cX3_same 0 = .ok (.iconst 0, 1) := by decide +kernel
theorem dX3_same_1 : decode cX3_same 1 = .ok (.istore_n 2, 1) := by decide +kernel
theorem dX3_same_2 : decode cX3_same 2 = .ok (.iload_n 2, 1) := by decide +kernel
theorem dX3_same_3 : decode cX3_same 3 = .ok (.iconst 3, 1) := by decide +kernel
theorem dX3_same_4 : decode cX3_same 4 = .ok (.if_icmp .ge 29, 3) := by decide +kernel
theorem dX3_same_7 : decode cX3_same 7 = .ok (.aload_n 0, 1) := by decide +kernel
theorem dX3_same_8 : decode cX3_same 8 = .ok (.getfield 9, 3) := by decide +kernel
theorem dX3_same_11 : decode cX3_same 11 = .ok (.iload_n 2, 1) := by decide +kernel
theorem dX3_same_12 : decode cX3_same 12 = .ok (.aaload, 1) := by decide +kernel
theorem dX3_same_13 : decode cX3_same 13 = .ok (.aload_n 1, 1) := by decide +kernel
theorem dX3_same_14 : decode cX3_same 14 = .ok (.getfield 9, 3) := by decide +kernel
theorem dX3_same_17 : decode cX3_same 17 = .ok (.iload_n 2, 1) := by decide +kernel
theorem dX3_same_18 : decode cX3_same 18 = .ok (.aaload, 1) := by decide +kernel
theorem dX3_same_19 : decode cX3_same 19 = .ok (.invokevirtual 15, 3) := by decide +kernel
theorem dX3_same_22 : decode cX3_same 22 = .ok (.ifCond .ne 5, 3) := by decide +kernel
theorem dX3_same_25 : decode cX3_same 25 = .ok (.iconst 0, 1) := by decide +kernel
theorem dX3_same_26 : decode cX3_same 26 = .ok (.ireturn, 1) := by decide +kernel
theorem dX3_same_27 : decode cX3_same 27 = .ok (.iinc 2 1, 3) := by decide +kernel
theorem dX3_same_30 : decode cX3_same 30 = .ok (.goto (-28), 3) := by decide +kernel
theorem dX3_same_33 : decode cX3_same 33 = .ok (.iconst 1, 1) := by decide +kernel
theorem dX3_same_34 : decode cX3_same 34 = .ok (.ireturn, 1) := by decide +kernel
abbrev cX4_init : ByteArray := prog_20_method_1_code
def yX4_init : MethodName := ⟨"TripleStore$Term", "<init>", "()V"⟩
theorem dX4_init_0 : decode cX4_init 0 = .ok (.aload_n 0, 1) := by decide +kernel
theorem dX4_init_1 : decode cX4_init 1 = .ok (.invokespecial 1, 3) := by decide +kernel
theorem dX4_init_4 : decode cX4_init 4 = .ok (.return_, 1) := by decide +kernel
abbrev cX5_init : ByteArray := prog_12_method_1_code
def yX5_init : MethodName := ⟨"TripleStore$Numeral", "<init>", "(I)V"⟩
theorem dX5_init_0 : decode cX5_init 0 = .ok (.aload_n 0, 1) := by decide +kernel
theorem dX5_init_1 : decode cX5_init 1 = .ok (.invokespecial 1, 3) := by decide +kernel
theorem dX5_init_4 : decode cX5_init 4 = .ok (.aload_n 0, 1) := by decide +kernel
theorem dX5_init_5 : decode cX5_init 5 = .ok (.iload_n 1, 1) := by decide +kernel
theorem dX5_init_6 : decode cX5_init 6 = .ok (.putfield 7, 3) := by decide +kernel
theorem dX5_init_9 : decode cX5_init 9 = .ok (.return_, 1) := by decide +kernel
abbrev cX5_same : ByteArray := prog_12_method_2_code
def yX5_same : MethodName := ⟨"TripleStore$Numeral", "same", "(LTripleStore$Term;)Z"⟩
theorem dX5_same_0 : decode cX5_same 0 = .ok (.aload_n 1, 1) := by decide +kernel
theorem dX5_same_1 : decode cX5_same 1 = .ok (.instanceof 8, 3) := by decide +kernel
theorem dX5_same_4 : decode cX5_same 4 = .ok (.ifCond .eq 21, 3) := by decide +kernel
theorem dX5_same_7 : decode cX5_same 7 = .ok (.aload_n 1, 1) := by decide +kernel
theorem dX5_same_8 : decode cX5_same 8 = .ok (.checkcast 8, 3) := by decide +kernel
theorem dX5_same_11 : decode cX5_same 11 = .ok (.getfield 7, 3) := by decide +kernel
theorem dX5_same_14 : decode cX5_same 14 = .ok (.aload_n 0, 1) := by decide +kernel
theorem dX5_same_15 : decode cX5_same 15 = .ok (.getfield 7, 3) := by decide +kernel
theorem dX5_same_18 : decode cX5_same 18 = .ok (.if_icmp .ne 7, 3) := by decide +kernel
theorem dX5_same_21 : decode cX5_same 21 = .ok (.iconst 1, 1) := by decide +kernel
theorem dX5_same_22 : decode cX5_same 22 = .ok (.goto 4, 3) := by decide +kernel
theorem dX5_same_25 : decode cX5_same 25 = .ok (.iconst 0, 1) := by decide +kernel
theorem dX5_same_26 : decode cX5_same 26 = .ok (.ireturn, 1) := by decide +kernel
abbrev cX5_less : ByteArray := prog_12_method_3_code
def yX5_less : MethodName := ⟨"TripleStore$Numeral", "less", "(LTripleStore$Term;)Z"⟩
theorem dX5_less_0 : decode cX5_less 0 = .ok (.aload_n 1, 1) := by decide +kernel
theorem dX5_less_1 : decode cX5_less 1 = .ok (.instanceof 8, 3) := by decide +kernel
theorem dX5_less_4 : decode cX5_less 4 = .ok (.ifCond .eq 17, 3) := by decide +kernel
theorem dX5_less_7 : decode cX5_less 7 = .ok (.aload_n 0, 1) := by decide +kernel
theorem dX5_less_8 : decode cX5_less 8 = .ok (.getfield 7, 3) := by decide +kernel
theorem dX5_less_11 : decode cX5_less 11 = .ok (.aload_n 1, 1) := by decide +kernel
theorem dX5_less_12 : decode cX5_less 12 = .ok (.checkcast 8, 3) := by decide +kernel
theorem dX5_less_15 : decode cX5_less 15 = .ok (.getfield 7, 3) := by decide +kernel
theorem dX5_less_18 : decode cX5_less 18 = .ok (.if_icmp .ge 7, 3) := by decide +kernel
theorem dX5_less_21 : decode cX5_less 21 = .ok (.iconst 1, 1) := by decide +kernel
theorem dX5_less_22 : decode cX5_less 22 = .ok (.goto 4, 3) := by decide +kernel
theorem dX5_less_25 : decode cX5_less 25 = .ok (.iconst 0, 1) := by decide +kernel
theorem dX5_less_26 : decode cX5_less 26 = .ok (.ireturn, 1) := by decide +kernel
abbrev cX5_coded : ByteArray := prog_12_method_4_code
def yX5_coded : MethodName := ⟨"TripleStore$Numeral", "coded", "()J"⟩
theorem dX5_coded_0 : decode cX5_coded 0 = .ok (.ldc2_w 13, 3) := by decide +kernel
theorem dX5_coded_3 : decode cX5_coded 3 = .ok (.aload_n 0, 1) := by decide +kernel
theorem dX5_coded_4 : decode cX5_coded 4 = .ok (.getfield 7, 3) := by decide +kernel
theorem dX5_coded_7 : decode cX5_coded 7 = .ok (.i2l, 1) := by decide +kernel
theorem dX5_coded_8 : decode cX5_coded 8 = .ok (.lsub, 1) := by decide +kernel
theorem dX5_coded_9 : decode cX5_coded 9 = .ok (.lreturn, 1) := by decide +kernel
abbrev cX6_init : ByteArray := prog_24_method_1_code
def yX6_init : MethodName := ⟨"TripleStore$Word", "<init>", "(Ljava/lang/String;)V"⟩
theorem dX6_init_0 : decode cX6_init 0 = .ok (.aload_n 0, 1) := by decide +kernel
theorem dX6_init_1 : decode cX6_init 1 = .ok (.invokespecial 1, 3) := by decide +kernel
theorem dX6_init_4 : decode cX6_init 4 = .ok (.aload_n 0, 1) := by decide +kernel
theorem dX6_init_5 : decode cX6_init 5 = .ok (.aload_n 1, 1) := by decide +kernel
theorem dX6_init_6 : decode cX6_init 6 = .ok (.putfield 7, 3) := by decide +kernel
theorem dX6_init_9 : decode cX6_init 9 = .ok (.return_, 1) := by decide +kernel
abbrev cX6_same : ByteArray := prog_24_method_2_code
def yX6_same : MethodName := ⟨"TripleStore$Word", "same", "(LTripleStore$Term;)Z"⟩
theorem dX6_same_0 : decode cX6_same 0 = .ok (.aload_n 1, 1) := by decide +kernel
theorem dX6_same_1 : decode cX6_same 1 = .ok (.instanceof 8, 3) := by decide +kernel
theorem dX6_same_4 : decode cX6_same 4 = .ok (.ifCond .eq 24, 3) := by decide +kernel
theorem dX6_same_7 : decode cX6_same 7 = .ok (.aload_n 1, 1) := by decide +kernel
theorem dX6_same_8 : decode cX6_same 8 = .ok (.checkcast 8, 3) := by decide +kernel
theorem dX6_same_11 : decode cX6_same 11 = .ok (.getfield 7, 3) := by decide +kernel
theorem dX6_same_14 : decode cX6_same 14 = .ok (.aload_n 0, 1) := by decide +kernel
theorem dX6_same_15 : decode cX6_same 15 = .ok (.getfield 7, 3) := by decide +kernel
theorem dX6_same_18 : decode cX6_same 18 = .ok (.invokevirtual 13, 3) := by decide +kernel
theorem dX6_same_21 : decode cX6_same 21 = .ok (.ifCond .eq 7, 3) := by decide +kernel
theorem dX6_same_24 : decode cX6_same 24 = .ok (.iconst 1, 1) := by decide +kernel
theorem dX6_same_25 : decode cX6_same 25 = .ok (.goto 4, 3) := by decide +kernel
theorem dX6_same_28 : decode cX6_same 28 = .ok (.iconst 0, 1) := by decide +kernel
theorem dX6_same_29 : decode cX6_same 29 = .ok (.ireturn, 1) := by decide +kernel
abbrev cX6_less : ByteArray := prog_24_method_3_code
def yX6_less : MethodName := ⟨"TripleStore$Word", "less", "(LTripleStore$Term;)Z"⟩
theorem dX6_less_0 : decode cX6_less 0 = .ok (.aload_n 1, 1) := by decide +kernel
theorem dX6_less_1 : decode cX6_less 1 = .ok (.instanceof 8, 3) := by decide +kernel
theorem dX6_less_4 : decode cX6_less 4 = .ok (.ifCond .ne 5, 3) := by decide +kernel
theorem dX6_less_7 : decode cX6_less 7 = .ok (.iconst 0, 1) := by decide +kernel
theorem dX6_less_8 : decode cX6_less 8 = .ok (.ireturn, 1) := by decide +kernel
theorem dX6_less_9 : decode cX6_less 9 = .ok (.aload_n 1, 1) := by decide +kernel
theorem dX6_less_10 : decode cX6_less 10 = .ok (.checkcast 8, 3) := by decide +kernel
theorem dX6_less_13 : decode cX6_less 13 = .ok (.getfield 7, 3) := by decide +kernel
theorem dX6_less_16 : decode cX6_less 16 = .ok (.astore_n 2, 1) := by decide +kernel
theorem dX6_less_17 : decode cX6_less 17 = .ok (.iconst 0, 1) := by decide +kernel
theorem dX6_less_18 : decode cX6_less 18 = .ok (.istore_n 3, 1) := by decide +kernel
theorem dX6_less_19 : decode cX6_less 19 = .ok (.iload_n 3, 1) := by decide +kernel
theorem dX6_less_20 : decode cX6_less 20 = .ok (.aload_n 0, 1) := by decide +kernel
theorem dX6_less_21 : decode cX6_less 21 = .ok (.getfield 7, 3) := by decide +kernel
theorem dX6_less_24 : decode cX6_less 24 = .ok (.invokevirtual 19, 3) := by decide +kernel
theorem dX6_less_27 : decode cX6_less 27 = .ok (.if_icmp .ge 55, 3) := by decide +kernel
theorem dX6_less_30 : decode cX6_less 30 = .ok (.iload_n 3, 1) := by decide +kernel
theorem dX6_less_31 : decode cX6_less 31 = .ok (.aload_n 2, 1) := by decide +kernel
theorem dX6_less_32 : decode cX6_less 32 = .ok (.invokevirtual 19, 3) := by decide +kernel
theorem dX6_less_35 : decode cX6_less 35 = .ok (.if_icmp .ge 47, 3) := by decide +kernel
theorem dX6_less_38 : decode cX6_less 38 = .ok (.aload_n 0, 1) := by decide +kernel
theorem dX6_less_39 : decode cX6_less 39 = .ok (.getfield 7, 3) := by decide +kernel
theorem dX6_less_42 : decode cX6_less 42 = .ok (.iload_n 3, 1) := by decide +kernel
theorem dX6_less_43 : decode cX6_less 43 = .ok (.invokevirtual 23, 3) := by decide +kernel
theorem dX6_less_46 : decode cX6_less 46 = .ok (.aload_n 2, 1) := by decide +kernel
theorem dX6_less_47 : decode cX6_less 47 = .ok (.iload_n 3, 1) := by decide +kernel
theorem dX6_less_48 : decode cX6_less 48 = .ok (.invokevirtual 23, 3) := by decide +kernel
theorem dX6_less_51 : decode cX6_less 51 = .ok (.if_icmp .eq 25, 3) := by decide +kernel
theorem dX6_less_54 : decode cX6_less 54 = .ok (.aload_n 0, 1) := by decide +kernel
theorem dX6_less_55 : decode cX6_less 55 = .ok (.getfield 7, 3) := by decide +kernel
theorem dX6_less_58 : decode cX6_less 58 = .ok (.iload_n 3, 1) := by decide +kernel
theorem dX6_less_59 : decode cX6_less 59 = .ok (.invokevirtual 23, 3) := by decide +kernel
theorem dX6_less_62 : decode cX6_less 62 = .ok (.aload_n 2, 1) := by decide +kernel
theorem dX6_less_63 : decode cX6_less 63 = .ok (.iload_n 3, 1) := by decide +kernel
theorem dX6_less_64 : decode cX6_less 64 = .ok (.invokevirtual 23, 3) := by decide +kernel
theorem dX6_less_67 : decode cX6_less 67 = .ok (.if_icmp .ge 7, 3) := by decide +kernel
theorem dX6_less_70 : decode cX6_less 70 = .ok (.iconst 1, 1) := by decide +kernel
theorem dX6_less_71 : decode cX6_less 71 = .ok (.goto 4, 3) := by decide +kernel
theorem dX6_less_74 : decode cX6_less 74 = .ok (.iconst 0, 1) := by decide +kernel
theorem dX6_less_75 : decode cX6_less 75 = .ok (.ireturn, 1) := by decide +kernel
theorem dX6_less_76 : decode cX6_less 76 = .ok (.iinc 3 1, 3) := by decide +kernel
theorem dX6_less_79 : decode cX6_less 79 = .ok (.goto (-60), 3) := by decide +kernel
theorem dX6_less_82 : decode cX6_less 82 = .ok (.aload_n 0, 1) := by decide +kernel
theorem dX6_less_83 : decode cX6_less 83 = .ok (.getfield 7, 3) := by decide +kernel
theorem dX6_less_86 : decode cX6_less 86 = .ok (.invokevirtual 19, 3) := by decide +kernel
theorem dX6_less_89 : decode cX6_less 89 = .ok (.aload_n 2, 1) := by decide +kernel
theorem dX6_less_90 : decode cX6_less 90 = .ok (.invokevirtual 19, 3) := by decide +kernel
theorem dX6_less_93 : decode cX6_less 93 = .ok (.if_icmp .ge 7, 3) := by decide +kernel
theorem dX6_less_96 : decode cX6_less 96 = .ok (.iconst 1, 1) := by decide +kernel
theorem dX6_less_97 : decode cX6_less 97 = .ok (.goto 4, 3) := by decide +kernel
theorem dX6_less_100 : decode cX6_less 100 = .ok (.iconst 0, 1) := by decide +kernel
theorem dX6_less_101 : decode cX6_less 101 = .ok (.ireturn, 1) := by decide +kernel
abbrev cX6_coded : ByteArray := prog_24_method_4_code
def yX6_coded : MethodName := ⟨"TripleStore$Word", "coded", "()J"⟩
theorem dX6_coded_0 : decode cX6_coded 0 = .ok (.lconst 0, 1) := by decide +kernel
theorem dX6_coded_1 : decode cX6_coded 1 = .ok (.lstore_n 1, 1) := by decide +kernel
theorem dX6_coded_2 : decode cX6_coded 2 = .ok (.iconst 0, 1) := by decide +kernel
theorem dX6_coded_3 : decode cX6_coded 3 = .ok (.istore_n 3, 1) := by decide +kernel
theorem dX6_coded_4 : decode cX6_coded 4 = .ok (.iload_n 3, 1) := by decide +kernel
theorem dX6_coded_5 : decode cX6_coded 5 = .ok (.aload_n 0, 1) := by decide +kernel
theorem dX6_coded_6 : decode cX6_coded 6 = .ok (.getfield 7, 3) := by decide +kernel
theorem dX6_coded_9 : decode cX6_coded 9 = .ok (.invokevirtual 19, 3) := by decide +kernel
theorem dX6_coded_12 : decode cX6_coded 12 = .ok (.if_icmp .ge 24, 3) := by decide +kernel
theorem dX6_coded_15 : decode cX6_coded 15 = .ok (.lload_n 1, 1) := by decide +kernel
theorem dX6_coded_16 : decode cX6_coded 16 = .ok (.bipush 8, 2) := by decide +kernel
theorem dX6_coded_18 : decode cX6_coded 18 = .ok (.lshl, 1) := by decide +kernel
theorem dX6_coded_19 : decode cX6_coded 19 = .ok (.aload_n 0, 1) := by decide +kernel
theorem dX6_coded_20 : decode cX6_coded 20 = .ok (.getfield 7, 3) := by decide +kernel
theorem dX6_coded_23 : decode cX6_coded 23 = .ok (.iload_n 3, 1) := by decide +kernel
theorem dX6_coded_24 : decode cX6_coded 24 = .ok (.invokevirtual 23, 3) := by decide +kernel
theorem dX6_coded_27 : decode cX6_coded 27 = .ok (.i2l, 1) := by decide +kernel
theorem dX6_coded_28 : decode cX6_coded 28 = .ok (.lor, 1) := by decide +kernel
theorem dX6_coded_29 : decode cX6_coded 29 = .ok (.lstore_n 1, 1) := by decide +kernel
theorem dX6_coded_30 : decode cX6_coded 30 = .ok (.iinc 3 1, 3) := by decide +kernel
theorem dX6_coded_33 : decode cX6_coded 33 = .ok (.goto (-29), 3) := by decide +kernel
theorem dX6_coded_36 : decode cX6_coded 36 = .ok (.lload_n 1, 1) := by decide +kernel
theorem dX6_coded_37 : decode cX6_coded 37 = .ok (.lreturn, 1) := by decide +kernel
abbrev cX7_init : ByteArray := prog_3_method_1_code
def yX7_init : MethodName := ⟨"TripleStore$Change", "<init>", "(ZLTripleStore$Triple;LTripleStore$Change;)V"⟩
theorem dX7_init_0 : decode cX7_init 0 = .ok (.aload_n 0, 1) := by decide +kernel
theorem dX7_init_1 : decode cX7_init 1 = .ok (.invokespecial 1, 3) := by decide +kernel
theorem dX7_init_4 : decode cX7_init 4 = .ok (.aload_n 0, 1) := by decide +kernel
theorem dX7_init_5 : decode cX7_init 5 = .ok (.iload_n 1, 1) := by decide +kernel
theorem dX7_init_6 : decode cX7_init 6 = .ok (.putfield 7, 3) := by decide +kernel
theorem dX7_init_9 : decode cX7_init 9 = .ok (.aload_n 0, 1) := by decide +kernel
theorem dX7_init_10 : decode cX7_init 10 = .ok (.aload_n 2, 1) := by decide +kernel
theorem dX7_init_11 : decode cX7_init 11 = .ok (.putfield 13, 3) := by decide +kernel
theorem dX7_init_14 : decode cX7_init 14 = .ok (.aload_n 0, 1) := by decide +kernel
theorem dX7_init_15 : decode cX7_init 15 = .ok (.aload_n 3, 1) := by decide +kernel
theorem dX7_init_16 : decode cX7_init 16 = .ok (.putfield 17, 3) := by decide +kernel
theorem dX7_init_19 : decode cX7_init 19 = .ok (.return_, 1) := by decide +kernel
abbrev cX8_init : ByteArray := prog_4_method_1_code
def yX8_init : MethodName := ⟨"TripleStore$Commit", "<init>", "(LTripleStore$Change;)V"⟩
theorem dX8_init_0 : decode cX8_init 0 = .ok (.aload_n 0, 1) := by decide +kernel
theorem dX8_init_1 : decode cX8_init 1 = .ok (.invokespecial 1, 3) := by decide +kernel
theorem dX8_init_4 : decode cX8_init 4 = .ok (.aload_n 0, 1) := by decide +kernel
theorem dX8_init_5 : decode cX8_init 5 = .ok (.aload_n 1, 1) := by decide +kernel
theorem dX8_init_6 : decode cX8_init 6 = .ok (.putfield 7, 3) := by decide +kernel
theorem dX8_init_9 : decode cX8_init 9 = .ok (.return_, 1) := by decide +kernel
abbrev cX9_init : ByteArray := prog_16_method_1_code
def yX9_init : MethodName := ⟨"TripleStore$Reader", "<init>", "(LTripleStore;Ljava/lang/String;)V"⟩
theorem dX9_init_0 : decode cX9_init 0 = .ok (.aload_n 0, 1) := by decide +kernel
theorem dX9_init_1 : decode cX9_init 1 = .ok (.invokespecial 3, 3) := by decide +kernel
theorem dX9_init_4 : decode cX9_init 4 = .ok (.aload_n 0, 1) := by decide +kernel
theorem dX9_init_5 : decode cX9_init 5 = .ok (.bipush 6, 2) := by decide +kernel
theorem dX9_init_7 : decode cX9_init 7 = .ok (.anewarray 9, 3) := by decide +kernel
theorem dX9_init_10 : decode cX9_init 10 = .ok (.putfield 11, 3) := by decide +kernel
theorem dX9_init_13 : decode cX9_init 13 = .ok (.aload_n 0, 1) := by decide +kernel
theorem dX9_init_14 : decode cX9_init 14 = .ok (.aload_n 1, 1) := by decide +kernel
theorem dX9_init_15 : decode cX9_init 15 = .ok (.putfield 17, 3) := by decide +kernel
theorem dX9_init_18 : decode cX9_init 18 = .ok (.aload_n 0, 1) := by decide +kernel
theorem dX9_init_19 : decode cX9_init 19 = .ok (.aload_n 2, 1) := by decide +kernel
theorem dX9_init_20 : decode cX9_init 20 = .ok (.putfield 21, 3) := by decide +kernel
theorem dX9_init_23 : decode cX9_init 23 = .ok (.aload_n 0, 1) := by decide +kernel
theorem dX9_init_24 : decode cX9_init 24 = .ok (.invokevirtual 25, 3) := by decide +kernel
theorem dX9_init_27 : decode cX9_init 27 = .ok (.return_, 1) := by decide +kernel
abbrev cX9_advance : ByteArray := prog_16_method_8_code
def yX9_advance : MethodName := ⟨"TripleStore$Reader", "advance", "()V"⟩
theorem dX9_advance_0 : decode cX9_advance 0 = .ok (.aload_n 0, 1) := by decide +kernel
theorem dX9_advance_1 : decode cX9_advance 1 = .ok (.getfield 79, 3) := by decide +kernel
theorem dX9_advance_4 : decode cX9_advance 4 = .ok (.istore_n 1, 1) := by decide +kernel
theorem dX9_advance_5 : decode cX9_advance 5 = .ok (.aload_n 0, 1) := by decide +kernel
theorem dX9_advance_6 : decode cX9_advance 6 = .ok (.getfield 65, 3) := by decide +kernel
theorem dX9_advance_9 : decode cX9_advance 9 = .ok (.aload_n 0, 1) := by decide +kernel
theorem dX9_advance_10 : decode cX9_advance 10 = .ok (.getfield 21, 3) := by decide +kernel
theorem dX9_advance_13 : decode cX9_advance 13 = .ok (.invokevirtual 68, 3) := by decide +kernel
theorem dX9_advance_16 : decode cX9_advance 16 = .ok (.if_icmp .ge 32, 3) := by decide +kernel
theorem dX9_advance_19 : decode cX9_advance 19 = .ok (.aload_n 0, 1) := by decide +kernel
theorem dX9_advance_20 : decode cX9_advance 20 = .ok (.getfield 21, 3) := by decide +kernel
theorem dX9_advance_23 : decode cX9_advance 23 = .ok (.aload_n 0, 1) := by decide +kernel
theorem dX9_advance_24 : decode cX9_advance 24 = .ok (.getfield 65, 3) := by decide +kernel
theorem dX9_advance_27 : decode cX9_advance 27 = .ok (.invokevirtual 71, 3) := by decide +kernel
theorem dX9_advance_30 : decode cX9_advance 30 = .ok (.bipush 32, 2) := by decide +kernel
theorem dX9_advance_32 : decode cX9_advance 32 = .ok (.if_icmp .ne 16, 3) := by decide +kernel
theorem dX9_advance_35 : decode cX9_advance 35 = .ok (.aload_n 0, 1) := by decide +kernel
theorem dX9_advance_36 : decode cX9_advance 36 = .ok (.dup, 1) := by decide +kernel
theorem dX9_advance_37 : decode cX9_advance 37 = .ok (.getfield 65, 3) := by decide +kernel
theorem dX9_advance_40 : decode cX9_advance 40 = .ok (.iconst 1, 1) := by decide +kernel
theorem dX9_advance_41 : decode cX9_advance 41 = .ok (.iadd, 1) := by decide +kernel
theorem dX9_advance_42 : decode cX9_advance 42 = .ok (.putfield 65, 3) := by decide +kernel
theorem dX9_advance_45 : decode cX9_advance 45 = .ok (.goto (-40), 3) := by decide +kernel
theorem dX9_advance_48 : decode cX9_advance 48 = .ok (.aload_n 0, 1) := by decide +kernel
theorem dX9_advance_49 : decode cX9_advance 49 = .ok (.aload_n 0, 1) := by decide +kernel
theorem dX9_advance_50 : decode cX9_advance 50 = .ok (.getfield 65, 3) := by decide +kernel
theorem dX9_advance_53 : decode cX9_advance 53 = .ok (.putfield 82, 3) := by decide +kernel
theorem dX9_advance_56 : decode cX9_advance 56 = .ok (.aload_n 0, 1) := by decide +kernel
theorem dX9_advance_57 : decode cX9_advance 57 = .ok (.ldc 85, 2) := by decide +kernel
theorem dX9_advance_59 : decode cX9_advance 59 = .ok (.putfield 87, 3) := by decide +kernel
theorem dX9_advance_62 : decode cX9_advance 62 = .ok (.aload_n 0, 1) := by decide +kernel
theorem dX9_advance_63 : decode cX9_advance 63 = .ok (.getfield 65, 3) := by decide +kernel
theorem dX9_advance_66 : decode cX9_advance 66 = .ok (.aload_n 0, 1) := by decide +kernel
theorem dX9_advance_67 : decode cX9_advance 67 = .ok (.getfield 21, 3) := by decide +kernel
theorem dX9_advance_70 : decode cX9_advance 70 = .ok (.invokevirtual 68, 3) := by decide +kernel
theorem dX9_advance_73 : decode cX9_advance 73 = .ok (.if_icmp .ne 15, 3) := by decide +kernel
theorem dX9_advance_76 : decode cX9_advance 76 = .ok (.aload_n 0, 1) := by decide +kernel
theorem dX9_advance_77 : decode cX9_advance 77 = .ok (.bipush 6, 2) := by decide +kernel
theorem dX9_advance_79 : decode cX9_advance 79 = .ok (.putfield 90, 3) := by decide +kernel
theorem dX9_advance_82 : decode cX9_advance 82 = .ok (.aload_n 0, 1) := by decide +kernel
theorem dX9_advance_83 : decode cX9_advance 83 = .ok (.iload_n 1, 1) := by decide +kernel
theorem dX9_advance_84 : decode cX9_advance 84 = .ok (.putfield 82, 3) := by decide +kernel
theorem dX9_advance_87 : decode cX9_advance 87 = .ok (.return_, 1) := by decide +kernel
theorem dX9_advance_88 : decode cX9_advance 88 = .ok (.aload_n 0, 1) := by decide +kernel
theorem dX9_advance_89 : decode cX9_advance 89 = .ok (.getfield 21, 3) := by decide +kernel
theorem dX9_advance_92 : decode cX9_advance 92 = .ok (.aload_n 0, 1) := by decide +kernel
theorem dX9_advance_93 : decode cX9_advance 93 = .ok (.getfield 65, 3) := by decide +kernel
theorem dX9_advance_96 : decode cX9_advance 96 = .ok (.invokevirtual 71, 3) := by decide +kernel
theorem dX9_advance_99 : decode cX9_advance 99 = .ok (.istore_n 2, 1) := by decide +kernel
theorem dX9_advance_100 : decode cX9_advance 100 = .ok (.aload_n 0, 1) := by decide +kernel
theorem dX9_advance_101 : decode cX9_advance 101 = .ok (.dup, 1) := by decide +kernel
theorem dX9_advance_102 : decode cX9_advance 102 = .ok (.getfield 65, 3) := by decide +kernel
theorem dX9_advance_105 : decode cX9_advance 105 = .ok (.iconst 1, 1) := by decide +kernel
theorem dX9_advance_106 : decode cX9_advance 106 = .ok (.iadd, 1) := by decide +kernel
theorem dX9_advance_107 : decode cX9_advance 107 = .ok (.putfield 65, 3) := by decide +kernel
theorem dX9_advance_110 : decode cX9_advance 110 = .ok (.aload_n 0, 1) := by decide +kernel
theorem dX9_advance_111 : decode cX9_advance 111 = .ok (.iload_n 2, 1) := by decide +kernel
theorem dX9_advance_112 : decode cX9_advance 112 = .ok (.invokestatic 93, 3) := by decide +kernel
theorem dX9_advance_115 : decode cX9_advance 115 = .ok (.putfield 90, 3) := by decide +kernel
theorem dX9_advance_118 : decode cX9_advance 118 = .ok (.iload_n 2, 1) := by decide +kernel
theorem dX9_advance_119 : decode cX9_advance 119 = .ok (.invokestatic 75, 3) := by decide +kernel
theorem dX9_advance_122 : decode cX9_advance 122 = .ok (.ifCond .eq 64, 3) := by decide +kernel
theorem dX9_advance_125 : decode cX9_advance 125 = .ok (.aload_n 0, 1) := by decide +kernel
theorem dX9_advance_126 : decode cX9_advance 126 = .ok (.invokevirtual 97, 3) := by decide +kernel
theorem dX9_advance_129 : decode cX9_advance 129 = .ok (.aload_n 0, 1) := by decide +kernel
theorem dX9_advance_130 : decode cX9_advance 130 = .ok (.aload_n 0, 1) := by decide +kernel
theorem dX9_advance_131 : decode cX9_advance 131 = .ok (.getfield 21, 3) := by decide +kernel
theorem dX9_advance_134 : decode cX9_advance 134 = .ok (.aload_n 0, 1) := by decide +kernel
theorem dX9_advance_135 : decode cX9_advance 135 = .ok (.getfield 82, 3) := by decide +kernel
theorem dX9_advance_138 : decode cX9_advance 138 = .ok (.aload_n 0, 1) := by decide +kernel
theorem dX9_advance_139 : decode cX9_advance 139 = .ok (.getfield 65, 3) := by decide +kernel
theorem dX9_advance_142 : decode cX9_advance 142 = .ok (.invokevirtual 100, 3) := by decide +kernel
theorem dX9_advance_145 : decode cX9_advance 145 = .ok (.putfield 87, 3) := by decide +kernel
theorem dX9_advance_148 : decode cX9_advance 148 = .ok (.aload_n 0, 1) := by decide +kernel
theorem dX9_advance_149 : decode cX9_advance 149 = .ok (.aload_n 0, 1) := by decide +kernel
theorem dX9_advance_150 : decode cX9_advance 150 = .ok (.getfield 87, 3) := by decide +kernel
theorem dX9_advance_153 : decode cX9_advance 153 = .ok (.invokevirtual 68, 3) := by decide +kernel
theorem dX9_advance_156 : decode cX9_advance 156 = .ok (.bipush 8, 2) := by decide +kernel
theorem dX9_advance_158 : decode cX9_advance 158 = .ok (.if_icmp .le 7, 3) := by decide +kernel
theorem dX9_advance_161 : decode cX9_advance 161 = .ok (.iconst 5, 1) := by decide +kernel
theorem dX9_advance_162 : decode cX9_advance 162 = .ok (.goto 18, 3) := by decide +kernel
theorem dX9_advance_165 : decode cX9_advance 165 = .ok (.aload_n 0, 1) := by decide +kernel
theorem dX9_advance_166 : decode cX9_advance 166 = .ok (.getfield 87, 3) := by decide +kernel
theorem dX9_advance_169 : decode cX9_advance 169 = .ok (.invokestatic 104, 3) := by decide +kernel
theorem dX9_advance_172 : decode cX9_advance 172 = .ok (.ifCond .eq 7, 3) := by decide +kernel
theorem dX9_advance_175 : decode cX9_advance 175 = .ok (.iconst 2, 1) := by decide +kernel
theorem dX9_advance_176 : decode cX9_advance 176 = .ok (.goto 4, 3) := by decide +kernel
theorem dX9_advance_179 : decode cX9_advance 179 = .ok (.iconst 1, 1) := by decide +kernel
theorem dX9_advance_180 : decode cX9_advance 180 = .ok (.putfield 90, 3) := by decide +kernel
theorem dX9_advance_183 : decode cX9_advance 183 = .ok (.goto 158, 3) := by decide +kernel
theorem dX9_advance_186 : decode cX9_advance 186 = .ok (.iload_n 2, 1) := by decide +kernel
theorem dX9_advance_187 : decode cX9_advance 187 = .ok (.invokestatic 108, 3) := by decide +kernel
theorem dX9_advance_190 : decode cX9_advance 190 = .ok (.ifCond .eq 89, 3) := by decide +kernel
theorem dX9_advance_193 : decode cX9_advance 193 = .ok (.aload_n 0, 1) := by decide +kernel
theorem dX9_advance_194 : decode cX9_advance 194 = .ok (.getfield 65, 3) := by decide +kernel
theorem dX9_advance_197 : decode cX9_advance 197 = .ok (.aload_n 0, 1) := by decide +kernel
theorem dX9_advance_198 : decode cX9_advance 198 = .ok (.getfield 21, 3) := by decide +kernel
theorem dX9_advance_201 : decode cX9_advance 201 = .ok (.invokevirtual 68, 3) := by decide +kernel
theorem dX9_advance_204 : decode cX9_advance 204 = .ok (.if_icmp .ge 33, 3) := by decide +kernel
theorem dX9_advance_207 : decode cX9_advance 207 = .ok (.aload_n 0, 1) := by decide +kernel
theorem dX9_advance_208 : decode cX9_advance 208 = .ok (.getfield 21, 3) := by decide +kernel
theorem dX9_advance_211 : decode cX9_advance 211 = .ok (.aload_n 0, 1) := by decide +kernel
theorem dX9_advance_212 : decode cX9_advance 212 = .ok (.getfield 65, 3) := by decide +kernel
theorem dX9_advance_215 : decode cX9_advance 215 = .ok (.invokevirtual 71, 3) := by decide +kernel
theorem dX9_advance_218 : decode cX9_advance 218 = .ok (.invokestatic 108, 3) := by decide +kernel
theorem dX9_advance_221 : decode cX9_advance 221 = .ok (.ifCond .eq 16, 3) := by decide +kernel
theorem dX9_advance_224 : decode cX9_advance 224 = .ok (.aload_n 0, 1) := by decide +kernel
theorem dX9_advance_225 : decode cX9_advance 225 = .ok (.dup, 1) := by decide +kernel
theorem dX9_advance_226 : decode cX9_advance 226 = .ok (.getfield 65, 3) := by decide +kernel
theorem dX9_advance_229 : decode cX9_advance 229 = .ok (.iconst 1, 1) := by decide +kernel
theorem dX9_advance_230 : decode cX9_advance 230 = .ok (.iadd, 1) := by decide +kernel
theorem dX9_advance_231 : decode cX9_advance 231 = .ok (.putfield 65, 3) := by decide +kernel
theorem dX9_advance_234 : decode cX9_advance 234 = .ok (.goto (-41), 3) := by decide +kernel
theorem dX9_advance_237 : decode cX9_advance 237 = .ok (.aload_n 0, 1) := by decide +kernel
theorem dX9_advance_238 : decode cX9_advance 238 = .ok (.aload_n 0, 1) := by decide +kernel
theorem dX9_advance_239 : decode cX9_advance 239 = .ok (.getfield 21, 3) := by decide +kernel
theorem dX9_advance_242 : decode cX9_advance 242 = .ok (.aload_n 0, 1) := by decide +kernel
theorem dX9_advance_243 : decode cX9_advance 243 = .ok (.getfield 82, 3) := by decide +kernel
theorem dX9_advance_246 : decode cX9_advance 246 = .ok (.aload_n 0, 1) := by decide +kernel
theorem dX9_advance_247 : decode cX9_advance 247 = .ok (.getfield 65, 3) := by decide +kernel
theorem dX9_advance_250 : decode cX9_advance 250 = .ok (.invokevirtual 100, 3) := by decide +kernel
theorem dX9_advance_253 : decode cX9_advance 253 = .ok (.putfield 87, 3) := by decide +kernel
theorem dX9_advance_256 : decode cX9_advance 256 = .ok (.aload_n 0, 1) := by decide +kernel
theorem dX9_advance_257 : decode cX9_advance 257 = .ok (.aload_n 0, 1) := by decide +kernel
theorem dX9_advance_258 : decode cX9_advance 258 = .ok (.getfield 87, 3) := by decide +kernel
theorem dX9_advance_261 : decode cX9_advance 261 = .ok (.invokevirtual 68, 3) := by decide +kernel
theorem dX9_advance_264 : decode cX9_advance 264 = .ok (.iconst 4, 1) := by decide +kernel
theorem dX9_advance_265 : decode cX9_advance 265 = .ok (.if_icmp .le 7, 3) := by decide +kernel
theorem dX9_advance_268 : decode cX9_advance 268 = .ok (.iconst 5, 1) := by decide +kernel
theorem dX9_advance_269 : decode cX9_advance 269 = .ok (.goto 4, 3) := by decide +kernel
theorem dX9_advance_272 : decode cX9_advance 272 = .ok (.iconst 3, 1) := by decide +kernel
theorem dX9_advance_273 : decode cX9_advance 273 = .ok (.putfield 90, 3) := by decide +kernel
theorem dX9_advance_276 : decode cX9_advance 276 = .ok (.goto 65, 3) := by decide +kernel
theorem dX9_advance_279 : decode cX9_advance 279 = .ok (.iload_n 2, 1) := by decide +kernel
theorem dX9_advance_280 : decode cX9_advance 280 = .ok (.bipush 63, 2) := by decide +kernel
theorem dX9_advance_282 : decode cX9_advance 282 = .ok (.if_icmp .ne 59, 3) := by decide +kernel
theorem dX9_advance_285 : decode cX9_advance 285 = .ok (.aload_n 0, 1) := by decide +kernel
theorem dX9_advance_286 : decode cX9_advance 286 = .ok (.invokevirtual 97, 3) := by decide +kernel
theorem dX9_advance_289 : decode cX9_advance 289 = .ok (.aload_n 0, 1) := by decide +kernel
theorem dX9_advance_290 : decode cX9_advance 290 = .ok (.aload_n 0, 1) := by decide +kernel
theorem dX9_advance_291 : decode cX9_advance 291 = .ok (.getfield 21, 3) := by decide +kernel
theorem dX9_advance_294 : decode cX9_advance 294 = .ok (.aload_n 0, 1) := by decide +kernel
theorem dX9_advance_295 : decode cX9_advance 295 = .ok (.getfield 82, 3) := by decide +kernel
theorem dX9_advance_298 : decode cX9_advance 298 = .ok (.iconst 1, 1) := by decide +kernel
theorem dX9_advance_299 : decode cX9_advance 299 = .ok (.iadd, 1) := by decide +kernel
theorem dX9_advance_300 : decode cX9_advance 300 = .ok (.aload_n 0, 1) := by decide +kernel
theorem dX9_advance_301 : decode cX9_advance 301 = .ok (.getfield 65, 3) := by decide +kernel
theorem dX9_advance_304 : decode cX9_advance 304 = .ok (.invokevirtual 100, 3) := by decide +kernel
theorem dX9_advance_307 : decode cX9_advance 307 = .ok (.putfield 87, 3) := by decide +kernel
theorem dX9_advance_310 : decode cX9_advance 310 = .ok (.aload_n 0, 1) := by decide +kernel
theorem dX9_advance_311 : decode cX9_advance 311 = .ok (.aload_n 0, 1) := by decide +kernel
theorem dX9_advance_312 : decode cX9_advance 312 = .ok (.getfield 87, 3) := by decide +kernel
theorem dX9_advance_315 : decode cX9_advance 315 = .ok (.invokevirtual 68, 3) := by decide +kernel
theorem dX9_advance_318 : decode cX9_advance 318 = .ok (.ifCond .eq 15, 3) := by decide +kernel
theorem dX9_advance_321 : decode cX9_advance 321 = .ok (.aload_n 0, 1) := by decide +kernel
theorem dX9_advance_322 : decode cX9_advance 322 = .ok (.getfield 87, 3) := by decide +kernel
theorem dX9_advance_325 : decode cX9_advance 325 = .ok (.invokevirtual 68, 3) := by decide +kernel
theorem dX9_advance_328 : decode cX9_advance 328 = .ok (.bipush 8, 2) := by decide +kernel
theorem dX9_advance_330 : decode cX9_advance 330 = .ok (.if_icmp .le 7, 3) := by decide +kernel
theorem dX9_advance_333 : decode cX9_advance 333 = .ok (.iconst 5, 1) := by decide +kernel
theorem dX9_advance_334 : decode cX9_advance 334 = .ok (.goto 4, 3) := by decide +kernel
theorem dX9_advance_337 : decode cX9_advance 337 = .ok (.iconst 4, 1) := by decide +kernel
theorem dX9_advance_338 : decode cX9_advance 338 = .ok (.putfield 90, 3) := by decide +kernel
theorem dX9_advance_341 : decode cX9_advance 341 = .ok (.aload_n 0, 1) := by decide +kernel
theorem dX9_advance_342 : decode cX9_advance 342 = .ok (.aload_n 0, 1) := by decide +kernel
theorem dX9_advance_343 : decode cX9_advance 343 = .ok (.getfield 65, 3) := by decide +kernel
theorem dX9_advance_346 : decode cX9_advance 346 = .ok (.putfield 79, 3) := by decide +kernel
theorem dX9_advance_349 : decode cX9_advance 349 = .ok (.return_, 1) := by decide +kernel
abbrev cX9_kindOf : ByteArray := prog_16_method_6_code
def yX9_kindOf : MethodName := ⟨"TripleStore$Reader", "kindOf", "(C)I"⟩
theorem dX9_kindOf_0 : decode cX9_kindOf 0 = .ok (.iload_n 0, 1) := by decide +kernel
theorem dX9_kindOf_1 : decode cX9_kindOf 1 = .ok (.lookupswitch 69 #[(33, 67), (46, 67), (60, 67), (61, 67), (62, 67), (123, 67), (125, 67)], 67) := by decide +kernel
theorem dX9_kindOf_68 : decode cX9_kindOf 68 = .ok (.iload_n 0, 1) := by decide +kernel
theorem dX9_kindOf_69 : decode cX9_kindOf 69 = .ok (.ireturn, 1) := by decide +kernel
theorem dX9_kindOf_70 : decode cX9_kindOf 70 = .ok (.iconst 5, 1) := by decide +kernel
theorem dX9_kindOf_71 : decode cX9_kindOf 71 = .ok (.ireturn, 1) := by decide +kernel
abbrev cX9_letter : ByteArray := prog_16_method_3_code
def yX9_letter : MethodName := ⟨"TripleStore$Reader", "letter", "(C)Z"⟩
theorem dX9_letter_0 : decode cX9_letter 0 = .ok (.iload_n 0, 1) := by decide +kernel
theorem dX9_letter_1 : decode cX9_letter 1 = .ok (.bipush 97, 2) := by decide +kernel
theorem dX9_letter_3 : decode cX9_letter 3 = .ok (.if_icmp .lt 13, 3) := by decide +kernel
theorem dX9_letter_6 : decode cX9_letter 6 = .ok (.iload_n 0, 1) := by decide +kernel
theorem dX9_letter_7 : decode cX9_letter 7 = .ok (.bipush 122, 2) := by decide +kernel
theorem dX9_letter_9 : decode cX9_letter 9 = .ok (.if_icmp .gt 7, 3) := by decide +kernel
theorem dX9_letter_12 : decode cX9_letter 12 = .ok (.iconst 1, 1) := by decide +kernel
theorem dX9_letter_13 : decode cX9_letter 13 = .ok (.goto 4, 3) := by decide +kernel
theorem dX9_letter_16 : decode cX9_letter 16 = .ok (.iconst 0, 1) := by decide +kernel
theorem dX9_letter_17 : decode cX9_letter 17 = .ok (.ireturn, 1) := by decide +kernel
abbrev cX9_letters : ByteArray := prog_16_method_7_code
def yX9_letters : MethodName := ⟨"TripleStore$Reader", "letters", "()V"⟩
theorem dX9_letters_0 : decode cX9_letters 0 = .ok (.aload_n 0, 1) := by decide +kernel
theorem dX9_letters_1 : decode cX9_letters 1 = .ok (.getfield 65, 3) := by decide +kernel
theorem dX9_letters_4 : decode cX9_letters 4 = .ok (.aload_n 0, 1) := by decide +kernel
theorem dX9_letters_5 : decode cX9_letters 5 = .ok (.getfield 21, 3) := by decide +kernel
theorem dX9_letters_8 : decode cX9_letters 8 = .ok (.invokevirtual 68, 3) := by decide +kernel
theorem dX9_letters_11 : decode cX9_letters 11 = .ok (.if_icmp .ge 33, 3) := by decide +kernel
theorem dX9_letters_14 : decode cX9_letters 14 = .ok (.aload_n 0, 1) := by decide +kernel
theorem dX9_letters_15 : decode cX9_letters 15 = .ok (.getfield 21, 3) := by decide +kernel
theorem dX9_letters_18 : decode cX9_letters 18 = .ok (.aload_n 0, 1) := by decide +kernel
theorem dX9_letters_19 : decode cX9_letters 19 = .ok (.getfield 65, 3) := by decide +kernel
theorem dX9_letters_22 : decode cX9_letters 22 = .ok (.invokevirtual 71, 3) := by decide +kernel
theorem dX9_letters_25 : decode cX9_letters 25 = .ok (.invokestatic 75, 3) := by decide +kernel
theorem dX9_letters_28 : decode cX9_letters 28 = .ok (.ifCond .eq 16, 3) := by decide +kernel
theorem dX9_letters_31 : decode cX9_letters 31 = .ok (.aload_n 0, 1) := by decide +kernel
theorem dX9_letters_32 : decode cX9_letters 32 = .ok (.dup, 1) := by decide +kernel
theorem dX9_letters_33 : decode cX9_letters 33 = .ok (.getfield 65, 3) := by decide +kernel
theorem dX9_letters_36 : decode cX9_letters 36 = .ok (.iconst 1, 1) := by decide +kernel
theorem dX9_letters_37 : decode cX9_letters 37 = .ok (.iadd, 1) := by decide +kernel
theorem dX9_letters_38 : decode cX9_letters 38 = .ok (.putfield 65, 3) := by decide +kernel
theorem dX9_letters_41 : decode cX9_letters 41 = .ok (.goto (-41), 3) := by decide +kernel
theorem dX9_letters_44 : decode cX9_letters 44 = .ok (.return_, 1) := by decide +kernel
abbrev cX9_key : ByteArray := prog_16_method_5_code
def yX9_key : MethodName := ⟨"TripleStore$Reader", "key", "(Ljava/lang/String;)Z"⟩
theorem dX9_key_0 : decode cX9_key 0 = .ok (.aload_n 0, 1) := by decide +kernel
theorem dX9_key_1 : decode cX9_key 1 = .ok (.astore_n 1, 1) := by decide +kernel
theorem dX9_key_2 : decode cX9_key 2 = .ok (.iconst (-1), 1) := by decide +kernel
theorem dX9_key_3 : decode cX9_key 3 = .ok (.istore_n 2, 1) := by decide +kernel
theorem dX9_key_4 : decode cX9_key 4 = .ok (.aload_n 1, 1) := by decide +kernel
theorem dX9_key_5 : decode cX9_key 5 = .ok (.invokevirtual 35, 3) := by decide +kernel
theorem dX9_key_8 : decode cX9_key 8 = .ok (.lookupswitch 256 #[(-1274492040, 170), (-906021636, 100), (-79017120, 184), (109267, 229), (3079825, 142), (93927806, 244), (102976443, 156), (103901296, 199), (106006350, 128), (111433423, 214), (288698108, 114)], 100) := by decide +kernel
theorem dX9_key_108 : decode cX9_key 108 = .ok (.aload_n 1, 1) := by decide +kernel
theorem dX9_key_109 : decode cX9_key 109 = .ok (.ldc 39, 2) := by decide +kernel
theorem dX9_key_111 : decode cX9_key 111 = .ok (.invokevirtual 41, 3) := by decide +kernel
theorem dX9_key_114 : decode cX9_key 114 = .ok (.ifCond .eq 150, 3) := by decide +kernel
theorem dX9_key_117 : decode cX9_key 117 = .ok (.iconst 0, 1) := by decide +kernel
theorem dX9_key_118 : decode cX9_key 118 = .ok (.istore_n 2, 1) := by decide +kernel
theorem dX9_key_119 : decode cX9_key 119 = .ok (.goto 145, 3) := by decide +kernel
theorem dX9_key_122 : decode cX9_key 122 = .ok (.aload_n 1, 1) := by decide +kernel
theorem dX9_key_123 : decode cX9_key 123 = .ok (.ldc 45, 2) := by decide +kernel
theorem dX9_key_125 : decode cX9_key 125 = .ok (.invokevirtual 41, 3) := by decide +kernel
theorem dX9_key_128 : decode cX9_key 128 = .ok (.ifCond .eq 136, 3) := by decide +kernel
theorem dX9_key_131 : decode cX9_key 131 = .ok (.iconst 1, 1) := by decide +kernel
theorem dX9_key_132 : decode cX9_key 132 = .ok (.istore_n 2, 1) := by decide +kernel
theorem dX9_key_133 : decode cX9_key 133 = .ok (.goto 131, 3) := by decide +kernel
theorem dX9_key_136 : decode cX9_key 136 = .ok (.aload_n 1, 1) := by decide +kernel
theorem dX9_key_137 : decode cX9_key 137 = .ok (.ldc 47, 2) := by decide +kernel
theorem dX9_key_139 : decode cX9_key 139 = .ok (.invokevirtual 41, 3) := by decide +kernel
theorem dX9_key_142 : decode cX9_key 142 = .ok (.ifCond .eq 122, 3) := by decide +kernel
theorem dX9_key_145 : decode cX9_key 145 = .ok (.iconst 2, 1) := by decide +kernel
theorem dX9_key_146 : decode cX9_key 146 = .ok (.istore_n 2, 1) := by decide +kernel
theorem dX9_key_147 : decode cX9_key 147 = .ok (.goto 117, 3) := by decide +kernel
theorem dX9_key_150 : decode cX9_key 150 = .ok (.aload_n 1, 1) := by decide +kernel
theorem dX9_key_151 : decode cX9_key 151 = .ok (.ldc 49, 2) := by decide +kernel
theorem dX9_key_153 : decode cX9_key 153 = .ok (.invokevirtual 41, 3) := by decide +kernel
theorem dX9_key_156 : decode cX9_key 156 = .ok (.ifCond .eq 108, 3) := by decide +kernel
theorem dX9_key_159 : decode cX9_key 159 = .ok (.iconst 3, 1) := by decide +kernel
theorem dX9_key_160 : decode cX9_key 160 = .ok (.istore_n 2, 1) := by decide +kernel
theorem dX9_key_161 : decode cX9_key 161 = .ok (.goto 103, 3) := by decide +kernel
theorem dX9_key_164 : decode cX9_key 164 = .ok (.aload_n 1, 1) := by decide +kernel
theorem dX9_key_165 : decode cX9_key 165 = .ok (.ldc 51, 2) := by decide +kernel
theorem dX9_key_167 : decode cX9_key 167 = .ok (.invokevirtual 41, 3) := by decide +kernel
theorem dX9_key_170 : decode cX9_key 170 = .ok (.ifCond .eq 94, 3) := by decide +kernel
theorem dX9_key_173 : decode cX9_key 173 = .ok (.iconst 4, 1) := by decide +kernel
theorem dX9_key_174 : decode cX9_key 174 = .ok (.istore_n 2, 1) := by decide +kernel
theorem dX9_key_175 : decode cX9_key 175 = .ok (.goto 89, 3) := by decide +kernel
theorem dX9_key_178 : decode cX9_key 178 = .ok (.aload_n 1, 1) := by decide +kernel
theorem dX9_key_179 : decode cX9_key 179 = .ok (.ldc 53, 2) := by decide +kernel
theorem dX9_key_181 : decode cX9_key 181 = .ok (.invokevirtual 41, 3) := by decide +kernel
theorem dX9_key_184 : decode cX9_key 184 = .ok (.ifCond .eq 80, 3) := by decide +kernel
theorem dX9_key_187 : decode cX9_key 187 = .ok (.iconst 5, 1) := by decide +kernel
theorem dX9_key_188 : decode cX9_key 188 = .ok (.istore_n 2, 1) := by decide +kernel
theorem dX9_key_189 : decode cX9_key 189 = .ok (.goto 75, 3) := by decide +kernel
theorem dX9_key_192 : decode cX9_key 192 = .ok (.aload_n 1, 1) := by decide +kernel
theorem dX9_key_193 : decode cX9_key 193 = .ok (.ldc 55, 2) := by decide +kernel
theorem dX9_key_195 : decode cX9_key 195 = .ok (.invokevirtual 41, 3) := by decide +kernel
theorem dX9_key_198 : decode cX9_key 198 = .ok (.ifCond .eq 66, 3) := by decide +kernel
theorem dX9_key_201 : decode cX9_key 201 = .ok (.bipush 6, 2) := by decide +kernel
theorem dX9_key_203 : decode cX9_key 203 = .ok (.istore_n 2, 1) := by decide +kernel
theorem dX9_key_204 : decode cX9_key 204 = .ok (.goto 60, 3) := by decide +kernel
theorem dX9_key_207 : decode cX9_key 207 = .ok (.aload_n 1, 1) := by decide +kernel
theorem dX9_key_208 : decode cX9_key 208 = .ok (.ldc 57, 2) := by decide +kernel
theorem dX9_key_210 : decode cX9_key 210 = .ok (.invokevirtual 41, 3) := by decide +kernel
theorem dX9_key_213 : decode cX9_key 213 = .ok (.ifCond .eq 51, 3) := by decide +kernel
theorem dX9_key_216 : decode cX9_key 216 = .ok (.bipush 7, 2) := by decide +kernel
theorem dX9_key_218 : decode cX9_key 218 = .ok (.istore_n 2, 1) := by decide +kernel
theorem dX9_key_219 : decode cX9_key 219 = .ok (.goto 45, 3) := by decide +kernel
theorem dX9_key_222 : decode cX9_key 222 = .ok (.aload_n 1, 1) := by decide +kernel
theorem dX9_key_223 : decode cX9_key 223 = .ok (.ldc 59, 2) := by decide +kernel
theorem dX9_key_225 : decode cX9_key 225 = .ok (.invokevirtual 41, 3) := by decide +kernel
theorem dX9_key_228 : decode cX9_key 228 = .ok (.ifCond .eq 36, 3) := by decide +kernel
theorem dX9_key_231 : decode cX9_key 231 = .ok (.bipush 8, 2) := by decide +kernel
theorem dX9_key_233 : decode cX9_key 233 = .ok (.istore_n 2, 1) := by decide +kernel
theorem dX9_key_234 : decode cX9_key 234 = .ok (.goto 30, 3) := by decide +kernel
theorem dX9_key_237 : decode cX9_key 237 = .ok (.aload_n 1, 1) := by decide +kernel
theorem dX9_key_238 : decode cX9_key 238 = .ok (.ldc 61, 2) := by decide +kernel
theorem dX9_key_240 : decode cX9_key 240 = .ok (.invokevirtual 41, 3) := by decide +kernel
theorem dX9_key_243 : decode cX9_key 243 = .ok (.ifCond .eq 21, 3) := by decide +kernel
theorem dX9_key_246 : decode cX9_key 246 = .ok (.bipush 9, 2) := by decide +kernel
theorem dX9_key_248 : decode cX9_key 248 = .ok (.istore_n 2, 1) := by decide +kernel
theorem dX9_key_249 : decode cX9_key 249 = .ok (.goto 15, 3) := by decide +kernel
theorem dX9_key_252 : decode cX9_key 252 = .ok (.aload_n 1, 1) := by decide +kernel
theorem dX9_key_253 : decode cX9_key 253 = .ok (.ldc 63, 2) := by decide +kernel
theorem dX9_key_255 : decode cX9_key 255 = .ok (.invokevirtual 41, 3) := by decide +kernel
theorem dX9_key_258 : decode cX9_key 258 = .ok (.ifCond .eq 6, 3) := by decide +kernel
theorem dX9_key_261 : decode cX9_key 261 = .ok (.bipush 10, 2) := by decide +kernel
theorem dX9_key_263 : decode cX9_key 263 = .ok (.istore_n 2, 1) := by decide +kernel
theorem dX9_key_264 : decode cX9_key 264 = .ok (.iload_n 2, 1) := by decide +kernel
theorem dX9_key_265 : decode cX9_key 265 = .ok (.tableswitch 61 0 10 #[59, 59, 59, 59, 59, 59, 59, 59, 59, 59, 59], 59) := by decide +kernel
theorem dX9_key_324 : decode cX9_key 324 = .ok (.iconst 1, 1) := by decide +kernel
theorem dX9_key_325 : decode cX9_key 325 = .ok (.ireturn, 1) := by decide +kernel
theorem dX9_key_326 : decode cX9_key 326 = .ok (.iconst 0, 1) := by decide +kernel
theorem dX9_key_327 : decode cX9_key 327 = .ok (.ireturn, 1) := by decide +kernel
abbrev cX9_digit : ByteArray := prog_16_method_4_code
def yX9_digit : MethodName := ⟨"TripleStore$Reader", "digit", "(C)Z"⟩
theorem dX9_digit_0 : decode cX9_digit 0 = .ok (.iload_n 0, 1) := by decide +kernel
theorem dX9_digit_1 : decode cX9_digit 1 = .ok (.bipush 48, 2) := by decide +kernel
theorem dX9_digit_3 : decode cX9_digit 3 = .ok (.if_icmp .lt 13, 3) := by decide +kernel
theorem dX9_digit_6 : decode cX9_digit 6 = .ok (.iload_n 0, 1) := by decide +kernel
theorem dX9_digit_7 : decode cX9_digit 7 = .ok (.bipush 57, 2) := by decide +kernel
theorem dX9_digit_9 : decode cX9_digit 9 = .ok (.if_icmp .gt 7, 3) := by decide +kernel
theorem dX9_digit_12 : decode cX9_digit 12 = .ok (.iconst 1, 1) := by decide +kernel
theorem dX9_digit_13 : decode cX9_digit 13 = .ok (.goto 4, 3) := by decide +kernel
theorem dX9_digit_16 : decode cX9_digit 16 = .ok (.iconst 0, 1) := by decide +kernel
theorem dX9_digit_17 : decode cX9_digit 17 = .ok (.ireturn, 1) := by decide +kernel
abbrev cX9_read : ByteArray := prog_16_method_15_code
def yX9_read : MethodName := ⟨"TripleStore$Reader", "read", "()LTripleStore$Query;"⟩
theorem dX9_read_0 : decode cX9_read 0 = .ok (.new 142, 3) := by decide +kernel
theorem dX9_read_3 : decode cX9_read 3 = .ok (.dup, 1) := by decide +kernel
theorem dX9_read_4 : decode cX9_read 4 = .ok (.invokespecial 144, 3) := by decide +kernel
theorem dX9_read_7 : decode cX9_read 7 = .ok (.astore_n 1, 1) := by decide +kernel
theorem dX9_read_8 : decode cX9_read 8 = .ok (.aload_n 0, 1) := by decide +kernel
theorem dX9_read_9 : decode cX9_read 9 = .ok (.aload_n 0, 1) := by decide +kernel
theorem dX9_read_10 : decode cX9_read 10 = .ok (.ldc 39, 2) := by decide +kernel
theorem dX9_read_12 : decode cX9_read 12 = .ok (.invokevirtual 111, 3) := by decide +kernel
theorem dX9_read_15 : decode cX9_read 15 = .ok (.aload_n 0, 1) := by decide +kernel
theorem dX9_read_16 : decode cX9_read 16 = .ok (.getfield 82, 3) := by decide +kernel
theorem dX9_read_19 : decode cX9_read 19 = .ok (.invokevirtual 114, 3) := by decide +kernel
theorem dX9_read_22 : decode cX9_read 22 = .ok (.aload_n 0, 1) := by decide +kernel
theorem dX9_read_23 : decode cX9_read 23 = .ok (.invokevirtual 25, 3) := by decide +kernel
theorem dX9_read_26 : decode cX9_read 26 = .ok (.aload_n 1, 1) := by decide +kernel
theorem dX9_read_27 : decode cX9_read 27 = .ok (.aload_n 0, 1) := by decide +kernel
theorem dX9_read_28 : decode cX9_read 28 = .ok (.ldc 45, 2) := by decide +kernel
theorem dX9_read_30 : decode cX9_read 30 = .ok (.invokevirtual 145, 3) := by decide +kernel
theorem dX9_read_33 : decode cX9_read 33 = .ok (.putfield 148, 3) := by decide +kernel
theorem dX9_read_36 : decode cX9_read 36 = .ok (.iconst 1, 1) := by decide +kernel
theorem dX9_read_37 : decode cX9_read 37 = .ok (.istore_n 2, 1) := by decide +kernel
theorem dX9_read_38 : decode cX9_read 38 = .ok (.iload_n 2, 1) := by decide +kernel
theorem dX9_read_39 : decode cX9_read 39 = .ok (.ifCond .eq 71, 3) := by decide +kernel
theorem dX9_read_42 : decode cX9_read 42 = .ok (.aload_n 0, 1) := by decide +kernel
theorem dX9_read_43 : decode cX9_read 43 = .ok (.getfield 82, 3) := by decide +kernel
theorem dX9_read_46 : decode cX9_read 46 = .ok (.istore_n 3, 1) := by decide +kernel
theorem dX9_read_47 : decode cX9_read 47 = .ok (.aload_n 0, 1) := by decide +kernel
theorem dX9_read_48 : decode cX9_read 48 = .ok (.invokevirtual 123, 3) := by decide +kernel
theorem dX9_read_51 : decode cX9_read 51 = .ok (.istore 4, 2) := by decide +kernel
theorem dX9_read_53 : decode cX9_read 53 = .ok (.aload_n 0, 1) := by decide +kernel
theorem dX9_read_54 : decode cX9_read 54 = .ok (.aload_n 1, 1) := by decide +kernel
theorem dX9_read_55 : decode cX9_read 55 = .ok (.getfield 151, 3) := by decide +kernel
theorem dX9_read_58 : decode cX9_read 58 = .ok (.bipush 6, 2) := by decide +kernel
theorem dX9_read_60 : decode cX9_read 60 = .ok (.if_icmp .ge 7, 3) := by decide +kernel
theorem dX9_read_63 : decode cX9_read 63 = .ok (.iconst 1, 1) := by decide +kernel
theorem dX9_read_64 : decode cX9_read 64 = .ok (.goto 4, 3) := by decide +kernel
theorem dX9_read_67 : decode cX9_read 67 = .ok (.iconst 0, 1) := by decide +kernel
theorem dX9_read_68 : decode cX9_read 68 = .ok (.iload_n 3, 1) := by decide +kernel
theorem dX9_read_69 : decode cX9_read 69 = .ok (.invokevirtual 114, 3) := by decide +kernel
theorem dX9_read_72 : decode cX9_read 72 = .ok (.aload_n 1, 1) := by decide +kernel
theorem dX9_read_73 : decode cX9_read 73 = .ok (.getfield 154, 3) := by decide +kernel
theorem dX9_read_76 : decode cX9_read 76 = .ok (.aload_n 1, 1) := by decide +kernel
theorem dX9_read_77 : decode cX9_read 77 = .ok (.getfield 151, 3) := by decide +kernel
theorem dX9_read_80 : decode cX9_read 80 = .ok (.iload 4, 2) := by decide +kernel
theorem dX9_read_82 : decode cX9_read 82 = .ok (.iastore, 1) := by decide +kernel
theorem dX9_read_83 : decode cX9_read 83 = .ok (.aload_n 1, 1) := by decide +kernel
theorem dX9_read_84 : decode cX9_read 84 = .ok (.dup, 1) := by decide +kernel
theorem dX9_read_85 : decode cX9_read 85 = .ok (.getfield 151, 3) := by decide +kernel
theorem dX9_read_88 : decode cX9_read 88 = .ok (.iconst 1, 1) := by decide +kernel
theorem dX9_read_89 : decode cX9_read 89 = .ok (.iadd, 1) := by decide +kernel
theorem dX9_read_90 : decode cX9_read 90 = .ok (.putfield 151, 3) := by decide +kernel
theorem dX9_read_93 : decode cX9_read 93 = .ok (.aload_n 0, 1) := by decide +kernel
theorem dX9_read_94 : decode cX9_read 94 = .ok (.getfield 90, 3) := by decide +kernel
theorem dX9_read_97 : decode cX9_read 97 = .ok (.iconst 4, 1) := by decide +kernel
theorem dX9_read_98 : decode cX9_read 98 = .ok (.if_icmp .ne 7, 3) := by decide +kernel
theorem dX9_read_101 : decode cX9_read 101 = .ok (.iconst 1, 1) := by decide +kernel
theorem dX9_read_102 : decode cX9_read 102 = .ok (.goto 4, 3) := by decide +kernel
theorem dX9_read_105 : decode cX9_read 105 = .ok (.iconst 0, 1) := by decide +kernel
theorem dX9_read_106 : decode cX9_read 106 = .ok (.istore_n 2, 1) := by decide +kernel
theorem dX9_read_107 : decode cX9_read 107 = .ok (.goto (-69), 3) := by decide +kernel
theorem dX9_read_110 : decode cX9_read 110 = .ok (.aload_n 1, 1) := by decide +kernel
theorem dX9_read_111 : decode cX9_read 111 = .ok (.aload_n 0, 1) := by decide +kernel
theorem dX9_read_112 : decode cX9_read 112 = .ok (.invokevirtual 158, 3) := by decide +kernel
theorem dX9_read_115 : decode cX9_read 115 = .ok (.putfield 162, 3) := by decide +kernel
theorem dX9_read_118 : decode cX9_read 118 = .ok (.aload_n 0, 1) := by decide +kernel
theorem dX9_read_119 : decode cX9_read 119 = .ok (.ldc 47, 2) := by decide +kernel
theorem dX9_read_121 : decode cX9_read 121 = .ok (.invokevirtual 145, 3) := by decide +kernel
theorem dX9_read_124 : decode cX9_read 124 = .ok (.ifCond .eq 21, 3) := by decide +kernel
theorem dX9_read_127 : decode cX9_read 127 = .ok (.aload_n 1, 1) := by decide +kernel
theorem dX9_read_128 : decode cX9_read 128 = .ok (.aload_n 0, 1) := by decide +kernel
theorem dX9_read_129 : decode cX9_read 129 = .ok (.invokevirtual 123, 3) := by decide +kernel
theorem dX9_read_132 : decode cX9_read 132 = .ok (.putfield 165, 3) := by decide +kernel
theorem dX9_read_135 : decode cX9_read 135 = .ok (.aload_n 1, 1) := by decide +kernel
theorem dX9_read_136 : decode cX9_read 136 = .ok (.aload_n 0, 1) := by decide +kernel
theorem dX9_read_137 : decode cX9_read 137 = .ok (.ldc 49, 2) := by decide +kernel
theorem dX9_read_139 : decode cX9_read 139 = .ok (.invokevirtual 145, 3) := by decide +kernel
theorem dX9_read_142 : decode cX9_read 142 = .ok (.putfield 167, 3) := by decide +kernel
theorem dX9_read_145 : decode cX9_read 145 = .ok (.aload_n 0, 1) := by decide +kernel
theorem dX9_read_146 : decode cX9_read 146 = .ok (.ldc 51, 2) := by decide +kernel
theorem dX9_read_148 : decode cX9_read 148 = .ok (.invokevirtual 145, 3) := by decide +kernel
theorem dX9_read_151 : decode cX9_read 151 = .ok (.ifCond .eq 11, 3) := by decide +kernel
theorem dX9_read_154 : decode cX9_read 154 = .ok (.aload_n 1, 1) := by decide +kernel
theorem dX9_read_155 : decode cX9_read 155 = .ok (.aload_n 0, 1) := by decide +kernel
theorem dX9_read_156 : decode cX9_read 156 = .ok (.invokevirtual 131, 3) := by decide +kernel
theorem dX9_read_159 : decode cX9_read 159 = .ok (.putfield 170, 3) := by decide +kernel
theorem dX9_read_162 : decode cX9_read 162 = .ok (.aload_n 0, 1) := by decide +kernel
theorem dX9_read_163 : decode cX9_read 163 = .ok (.aload_n 0, 1) := by decide +kernel
theorem dX9_read_164 : decode cX9_read 164 = .ok (.getfield 90, 3) := by decide +kernel
theorem dX9_read_167 : decode cX9_read 167 = .ok (.bipush 6, 2) := by decide +kernel
theorem dX9_read_169 : decode cX9_read 169 = .ok (.if_icmp .ne 7, 3) := by decide +kernel
theorem dX9_read_172 : decode cX9_read 172 = .ok (.iconst 1, 1) := by decide +kernel
theorem dX9_read_173 : decode cX9_read 173 = .ok (.goto 4, 3) := by decide +kernel
theorem dX9_read_176 : decode cX9_read 176 = .ok (.iconst 0, 1) := by decide +kernel
theorem dX9_read_177 : decode cX9_read 177 = .ok (.aload_n 0, 1) := by decide +kernel
theorem dX9_read_178 : decode cX9_read 178 = .ok (.getfield 82, 3) := by decide +kernel
theorem dX9_read_181 : decode cX9_read 181 = .ok (.invokevirtual 114, 3) := by decide +kernel
theorem dX9_read_184 : decode cX9_read 184 = .ok (.aload_n 1, 1) := by decide +kernel
theorem dX9_read_185 : decode cX9_read 185 = .ok (.areturn, 1) := by decide +kernel
abbrev cX9_isKey : ByteArray := prog_16_method_9_code
def yX9_isKey : MethodName := ⟨"TripleStore$Reader", "isKey", "(Ljava/lang/String;)Z"⟩
theorem dX9_isKey_0 : decode cX9_isKey 0 = .ok (.aload_n 0, 1) := by decide +kernel
theorem dX9_isKey_1 : decode cX9_isKey 1 = .ok (.getfield 90, 3) := by decide +kernel
theorem dX9_isKey_4 : decode cX9_isKey 4 = .ok (.iconst 2, 1) := by decide +kernel
theorem dX9_isKey_5 : decode cX9_isKey 5 = .ok (.if_icmp .ne 18, 3) := by decide +kernel
theorem dX9_isKey_8 : decode cX9_isKey 8 = .ok (.aload_n 0, 1) := by decide +kernel
theorem dX9_isKey_9 : decode cX9_isKey 9 = .ok (.getfield 87, 3) := by decide +kernel
theorem dX9_isKey_12 : decode cX9_isKey 12 = .ok (.aload_n 1, 1) := by decide +kernel
theorem dX9_isKey_13 : decode cX9_isKey 13 = .ok (.invokevirtual 41, 3) := by decide +kernel
theorem dX9_isKey_16 : decode cX9_isKey 16 = .ok (.ifCond .eq 7, 3) := by decide +kernel
theorem dX9_isKey_19 : decode cX9_isKey 19 = .ok (.iconst 1, 1) := by decide +kernel
theorem dX9_isKey_20 : decode cX9_isKey 20 = .ok (.goto 4, 3) := by decide +kernel
theorem dX9_isKey_23 : decode cX9_isKey 23 = .ok (.iconst 0, 1) := by decide +kernel
theorem dX9_isKey_24 : decode cX9_isKey 24 = .ok (.ireturn, 1) := by decide +kernel
abbrev cX9_check : ByteArray := prog_16_method_2_code
def yX9_check : MethodName := ⟨"TripleStore$Reader", "check", "(ZI)V"⟩
theorem dX9_check_0 : decode cX9_check 0 = .ok (.iload_n 1, 1) := by decide +kernel
theorem dX9_check_1 : decode cX9_check 1 = .ok (.ifCond .eq 4, 3) := by decide +kernel
theorem dX9_check_4 : decode cX9_check 4 = .ok (.return_, 1) := by decide +kernel
theorem dX9_check_5 : decode cX9_check 5 = .ok (.aload_n 0, 1) := by decide +kernel
theorem dX9_check_6 : decode cX9_check 6 = .ok (.getfield 17, 3) := by decide +kernel
theorem dX9_check_9 : decode cX9_check 9 = .ok (.iload_n 2, 1) := by decide +kernel
theorem dX9_check_10 : decode cX9_check 10 = .ok (.putfield 28, 3) := by decide +kernel
theorem dX9_check_13 : decode cX9_check 13 = .ok (.new 32, 3) := by decide +kernel
theorem dX9_check_16 : decode cX9_check 16 = .ok (.dup, 1) := by decide +kernel
theorem dX9_check_17 : decode cX9_check 17 = .ok (.invokespecial 34, 3) := by decide +kernel
theorem dX9_check_20 : decode cX9_check 20 = .ok (.athrow, 1) := by decide +kernel
abbrev cX9_takeKey : ByteArray := prog_16_method_10_code
def yX9_takeKey : MethodName := ⟨"TripleStore$Reader", "takeKey", "(Ljava/lang/String;)Z"⟩
theorem dX9_takeKey_0 : decode cX9_takeKey 0 = .ok (.aload_n 0, 1) := by decide +kernel
theorem dX9_takeKey_1 : decode cX9_takeKey 1 = .ok (.aload_n 1, 1) := by decide +kernel
theorem dX9_takeKey_2 : decode cX9_takeKey 2 = .ok (.invokevirtual 111, 3) := by decide +kernel
theorem dX9_takeKey_5 : decode cX9_takeKey 5 = .ok (.ifCond .ne 5, 3) := by decide +kernel
theorem dX9_takeKey_8 : decode cX9_takeKey 8 = .ok (.iconst 0, 1) := by decide +kernel
theorem dX9_takeKey_9 : decode cX9_takeKey 9 = .ok (.ireturn, 1) := by decide +kernel
theorem dX9_takeKey_10 : decode cX9_takeKey 10 = .ok (.aload_n 0, 1) := by decide +kernel
theorem dX9_takeKey_11 : decode cX9_takeKey 11 = .ok (.invokevirtual 25, 3) := by decide +kernel
theorem dX9_takeKey_14 : decode cX9_takeKey 14 = .ok (.iconst 1, 1) := by decide +kernel
theorem dX9_takeKey_15 : decode cX9_takeKey 15 = .ok (.ireturn, 1) := by decide +kernel
abbrev cX9_variable : ByteArray := prog_16_method_13_code
def yX9_variable : MethodName := ⟨"TripleStore$Reader", "variable", "()I"⟩
theorem dX9_variable_0 : decode cX9_variable 0 = .ok (.aload_n 0, 1) := by decide +kernel
theorem dX9_variable_1 : decode cX9_variable 1 = .ok (.aload_n 0, 1) := by decide +kernel
theorem dX9_variable_2 : decode cX9_variable 2 = .ok (.getfield 90, 3) := by decide +kernel
theorem dX9_variable_5 : decode cX9_variable 5 = .ok (.iconst 4, 1) := by decide +kernel
theorem dX9_variable_6 : decode cX9_variable 6 = .ok (.if_icmp .ne 7, 3) := by decide +kernel
theorem dX9_variable_9 : decode cX9_variable 9 = .ok (.iconst 1, 1) := by decide +kernel
theorem dX9_variable_10 : decode cX9_variable 10 = .ok (.goto 4, 3) := by decide +kernel
theorem dX9_variable_13 : decode cX9_variable 13 = .ok (.iconst 0, 1) := by decide +kernel
theorem dX9_variable_14 : decode cX9_variable 14 = .ok (.aload_n 0, 1) := by decide +kernel
theorem dX9_variable_15 : decode cX9_variable 15 = .ok (.getfield 82, 3) := by decide +kernel
theorem dX9_variable_18 : decode cX9_variable 18 = .ok (.invokevirtual 114, 3) := by decide +kernel
theorem dX9_variable_21 : decode cX9_variable 21 = .ok (.iconst 0, 1) := by decide +kernel
theorem dX9_variable_22 : decode cX9_variable 22 = .ok (.istore_n 1, 1) := by decide +kernel
theorem dX9_variable_23 : decode cX9_variable 23 = .ok (.iload_n 1, 1) := by decide +kernel
theorem dX9_variable_24 : decode cX9_variable 24 = .ok (.aload_n 0, 1) := by decide +kernel
theorem dX9_variable_25 : decode cX9_variable 25 = .ok (.getfield 118, 3) := by decide +kernel
theorem dX9_variable_28 : decode cX9_variable 28 = .ok (.if_icmp .ge 25, 3) := by decide +kernel
theorem dX9_variable_31 : decode cX9_variable 31 = .ok (.aload_n 0, 1) := by decide +kernel
theorem dX9_variable_32 : decode cX9_variable 32 = .ok (.getfield 11, 3) := by decide +kernel
theorem dX9_variable_35 : decode cX9_variable 35 = .ok (.iload_n 1, 1) := by decide +kernel
theorem dX9_variable_36 : decode cX9_variable 36 = .ok (.aaload, 1) := by decide +kernel
theorem dX9_variable_37 : decode cX9_variable 37 = .ok (.aload_n 0, 1) := by decide +kernel
theorem dX9_variable_38 : decode cX9_variable 38 = .ok (.getfield 87, 3) := by decide +kernel
theorem dX9_variable_41 : decode cX9_variable 41 = .ok (.invokevirtual 41, 3) := by decide +kernel
theorem dX9_variable_44 : decode cX9_variable 44 = .ok (.ifCond .ne 9, 3) := by decide +kernel
theorem dX9_variable_47 : decode cX9_variable 47 = .ok (.iinc 1 1, 3) := by decide +kernel
theorem dX9_variable_50 : decode cX9_variable 50 = .ok (.goto (-27), 3) := by decide +kernel
theorem dX9_variable_53 : decode cX9_variable 53 = .ok (.aload_n 0, 1) := by decide +kernel
theorem dX9_variable_54 : decode cX9_variable 54 = .ok (.iload_n 1, 1) := by decide +kernel
theorem dX9_variable_55 : decode cX9_variable 55 = .ok (.bipush 6, 2) := by decide +kernel
theorem dX9_variable_57 : decode cX9_variable 57 = .ok (.if_icmp .ge 7, 3) := by decide +kernel
theorem dX9_variable_60 : decode cX9_variable 60 = .ok (.iconst 1, 1) := by decide +kernel
theorem dX9_variable_61 : decode cX9_variable 61 = .ok (.goto 4, 3) := by decide +kernel
theorem dX9_variable_64 : decode cX9_variable 64 = .ok (.iconst 0, 1) := by decide +kernel
theorem dX9_variable_65 : decode cX9_variable 65 = .ok (.aload_n 0, 1) := by decide +kernel
theorem dX9_variable_66 : decode cX9_variable 66 = .ok (.getfield 82, 3) := by decide +kernel
theorem dX9_variable_69 : decode cX9_variable 69 = .ok (.invokevirtual 114, 3) := by decide +kernel
theorem dX9_variable_72 : decode cX9_variable 72 = .ok (.iload_n 1, 1) := by decide +kernel
theorem dX9_variable_73 : decode cX9_variable 73 = .ok (.aload_n 0, 1) := by decide +kernel
theorem dX9_variable_74 : decode cX9_variable 74 = .ok (.getfield 118, 3) := by decide +kernel
theorem dX9_variable_77 : decode cX9_variable 77 = .ok (.if_icmp .ne 23, 3) := by decide +kernel
theorem dX9_variable_80 : decode cX9_variable 80 = .ok (.aload_n 0, 1) := by decide +kernel
theorem dX9_variable_81 : decode cX9_variable 81 = .ok (.getfield 11, 3) := by decide +kernel
theorem dX9_variable_84 : decode cX9_variable 84 = .ok (.iload_n 1, 1) := by decide +kernel
theorem dX9_variable_85 : decode cX9_variable 85 = .ok (.aload_n 0, 1) := by decide +kernel
theorem dX9_variable_86 : decode cX9_variable 86 = .ok (.getfield 87, 3) := by decide +kernel
theorem dX9_variable_89 : decode cX9_variable 89 = .ok (.aastore, 1) := by decide +kernel
theorem dX9_variable_90 : decode cX9_variable 90 = .ok (.aload_n 0, 1) := by decide +kernel
theorem dX9_variable_91 : decode cX9_variable 91 = .ok (.dup, 1) := by decide +kernel
theorem dX9_variable_92 : decode cX9_variable 92 = .ok (.getfield 118, 3) := by decide +kernel
theorem dX9_variable_95 : decode cX9_variable 95 = .ok (.iconst 1, 1) := by decide +kernel
theorem dX9_variable_96 : decode cX9_variable 96 = .ok (.iadd, 1) := by decide +kernel
theorem dX9_variable_97 : decode cX9_variable 97 = .ok (.putfield 118, 3) := by decide +kernel
theorem dX9_variable_100 : decode cX9_variable 100 = .ok (.aload_n 0, 1) := by decide +kernel
theorem dX9_variable_101 : decode cX9_variable 101 = .ok (.invokevirtual 25, 3) := by decide +kernel
theorem dX9_variable_104 : decode cX9_variable 104 = .ok (.iload_n 1, 1) := by decide +kernel
theorem dX9_variable_105 : decode cX9_variable 105 = .ok (.ireturn, 1) := by decide +kernel
abbrev cX9_group : ByteArray := prog_16_method_16_code
def yX9_group : MethodName := ⟨"TripleStore$Reader", "group", "()LTripleStore$Group;"⟩
theorem dX9_group_0 : decode cX9_group 0 = .ok (.aload_n 0, 1) := by decide +kernel
theorem dX9_group_1 : decode cX9_group 1 = .ok (.aload_n 0, 1) := by decide +kernel
theorem dX9_group_2 : decode cX9_group 2 = .ok (.getfield 90, 3) := by decide +kernel
theorem dX9_group_5 : decode cX9_group 5 = .ok (.bipush 123, 2) := by decide +kernel
theorem dX9_group_7 : decode cX9_group 7 = .ok (.if_icmp .ne 15, 3) := by decide +kernel
theorem dX9_group_10 : decode cX9_group 10 = .ok (.aload_n 0, 1) := by decide +kernel
theorem dX9_group_11 : decode cX9_group 11 = .ok (.getfield 172, 3) := by decide +kernel
theorem dX9_group_14 : decode cX9_group 14 = .ok (.iconst 4, 1) := by decide +kernel
theorem dX9_group_15 : decode cX9_group 15 = .ok (.if_icmp .ge 7, 3) := by decide +kernel
theorem dX9_group_18 : decode cX9_group 18 = .ok (.iconst 1, 1) := by decide +kernel
theorem dX9_group_19 : decode cX9_group 19 = .ok (.goto 4, 3) := by decide +kernel
theorem dX9_group_22 : decode cX9_group 22 = .ok (.iconst 0, 1) := by decide +kernel
theorem dX9_group_23 : decode cX9_group 23 = .ok (.aload_n 0, 1) := by decide +kernel
theorem dX9_group_24 : decode cX9_group 24 = .ok (.getfield 82, 3) := by decide +kernel
theorem dX9_group_27 : decode cX9_group 27 = .ok (.invokevirtual 114, 3) := by decide +kernel
theorem dX9_group_30 : decode cX9_group 30 = .ok (.aload_n 0, 1) := by decide +kernel
theorem dX9_group_31 : decode cX9_group 31 = .ok (.dup, 1) := by decide +kernel
theorem dX9_group_32 : decode cX9_group 32 = .ok (.getfield 172, 3) := by decide +kernel
theorem dX9_group_35 : decode cX9_group 35 = .ok (.iconst 1, 1) := by decide +kernel
theorem dX9_group_36 : decode cX9_group 36 = .ok (.iadd, 1) := by decide +kernel
theorem dX9_group_37 : decode cX9_group 37 = .ok (.putfield 172, 3) := by decide +kernel
theorem dX9_group_40 : decode cX9_group 40 = .ok (.aload_n 0, 1) := by decide +kernel
theorem dX9_group_41 : decode cX9_group 41 = .ok (.invokevirtual 25, 3) := by decide +kernel
theorem dX9_group_44 : decode cX9_group 44 = .ok (.new 175, 3) := by decide +kernel
theorem dX9_group_47 : decode cX9_group 47 = .ok (.dup, 1) := by decide +kernel
theorem dX9_group_48 : decode cX9_group 48 = .ok (.invokespecial 177, 3) := by decide +kernel
theorem dX9_group_51 : decode cX9_group 51 = .ok (.astore_n 1, 1) := by decide +kernel
theorem dX9_group_52 : decode cX9_group 52 = .ok (.aload_n 0, 1) := by decide +kernel
theorem dX9_group_53 : decode cX9_group 53 = .ok (.getfield 90, 3) := by decide +kernel
theorem dX9_group_56 : decode cX9_group 56 = .ok (.bipush 125, 2) := by decide +kernel
theorem dX9_group_58 : decode cX9_group 58 = .ok (.if_icmp .eq 35, 3) := by decide +kernel
theorem dX9_group_61 : decode cX9_group 61 = .ok (.aload_n 1, 1) := by decide +kernel
theorem dX9_group_62 : decode cX9_group 62 = .ok (.aload_n 0, 1) := by decide +kernel
theorem dX9_group_63 : decode cX9_group 63 = .ok (.invokevirtual 178, 3) := by decide +kernel
theorem dX9_group_66 : decode cX9_group 66 = .ok (.invokevirtual 182, 3) := by decide +kernel
theorem dX9_group_69 : decode cX9_group 69 = .ok (.aload_n 0, 1) := by decide +kernel
theorem dX9_group_70 : decode cX9_group 70 = .ok (.getfield 90, 3) := by decide +kernel
theorem dX9_group_73 : decode cX9_group 73 = .ok (.bipush 46, 2) := by decide +kernel
theorem dX9_group_75 : decode cX9_group 75 = .ok (.if_icmp .ne 18, 3) := by decide +kernel
theorem dX9_group_78 : decode cX9_group 78 = .ok (.aload_n 0, 1) := by decide +kernel
theorem dX9_group_79 : decode cX9_group 79 = .ok (.invokevirtual 25, 3) := by decide +kernel
theorem dX9_group_82 : decode cX9_group 82 = .ok (.aload_n 1, 1) := by decide +kernel
theorem dX9_group_83 : decode cX9_group 83 = .ok (.aload_n 0, 1) := by decide +kernel
theorem dX9_group_84 : decode cX9_group 84 = .ok (.invokevirtual 178, 3) := by decide +kernel
theorem dX9_group_87 : decode cX9_group 87 = .ok (.invokevirtual 182, 3) := by decide +kernel
theorem dX9_group_90 : decode cX9_group 90 = .ok (.goto (-21), 3) := by decide +kernel
theorem dX9_group_93 : decode cX9_group 93 = .ok (.aload_n 0, 1) := by decide +kernel
theorem dX9_group_94 : decode cX9_group 94 = .ok (.bipush 125, 2) := by decide +kernel
theorem dX9_group_96 : decode cX9_group 96 = .ok (.invokevirtual 186, 3) := by decide +kernel
theorem dX9_group_99 : decode cX9_group 99 = .ok (.aload_n 0, 1) := by decide +kernel
theorem dX9_group_100 : decode cX9_group 100 = .ok (.dup, 1) := by decide +kernel
theorem dX9_group_101 : decode cX9_group 101 = .ok (.getfield 172, 3) := by decide +kernel
theorem dX9_group_104 : decode cX9_group 104 = .ok (.iconst 1, 1) := by decide +kernel
theorem dX9_group_105 : decode cX9_group 105 = .ok (.isub, 1) := by decide +kernel
theorem dX9_group_106 : decode cX9_group 106 = .ok (.putfield 172, 3) := by decide +kernel
theorem dX9_group_109 : decode cX9_group 109 = .ok (.aload_n 1, 1) := by decide +kernel
theorem dX9_group_110 : decode cX9_group 110 = .ok (.areturn, 1) := by decide +kernel
abbrev cX9_element : ByteArray := prog_16_method_17_code
def yX9_element : MethodName := ⟨"TripleStore$Reader", "element", "()LTripleStore$Element;"⟩
theorem dX9_element_0 : decode cX9_element 0 = .ok (.aload_n 0, 1) := by decide +kernel
theorem dX9_element_1 : decode cX9_element 1 = .ok (.getfield 90, 3) := by decide +kernel
theorem dX9_element_4 : decode cX9_element 4 = .ok (.bipush 123, 2) := by decide +kernel
theorem dX9_element_6 : decode cX9_element 6 = .ok (.if_icmp .eq 54, 3) := by decide +kernel
theorem dX9_element_9 : decode cX9_element 9 = .ok (.aload_n 0, 1) := by decide +kernel
theorem dX9_element_10 : decode cX9_element 10 = .ok (.ldc 53, 2) := by decide +kernel
theorem dX9_element_12 : decode cX9_element 12 = .ok (.invokevirtual 111, 3) := by decide +kernel
theorem dX9_element_15 : decode cX9_element 15 = .ok (.ifCond .ne 45, 3) := by decide +kernel
theorem dX9_element_18 : decode cX9_element 18 = .ok (.aload_n 0, 1) := by decide +kernel
theorem dX9_element_19 : decode cX9_element 19 = .ok (.ldc 55, 2) := by decide +kernel
theorem dX9_element_21 : decode cX9_element 21 = .ok (.invokevirtual 111, 3) := by decide +kernel
theorem dX9_element_24 : decode cX9_element 24 = .ok (.ifCond .ne 36, 3) := by decide +kernel
theorem dX9_element_27 : decode cX9_element 27 = .ok (.aload_n 0, 1) := by decide +kernel
theorem dX9_element_28 : decode cX9_element 28 = .ok (.ldc 57, 2) := by decide +kernel
theorem dX9_element_30 : decode cX9_element 30 = .ok (.invokevirtual 111, 3) := by decide +kernel
theorem dX9_element_33 : decode cX9_element 33 = .ok (.ifCond .ne 27, 3) := by decide +kernel
theorem dX9_element_36 : decode cX9_element 36 = .ok (.aload_n 0, 1) := by decide +kernel
theorem dX9_element_37 : decode cX9_element 37 = .ok (.getfield 90, 3) := by decide +kernel
theorem dX9_element_40 : decode cX9_element 40 = .ok (.iconst 1, 1) := by decide +kernel
theorem dX9_element_41 : decode cX9_element 41 = .ok (.if_icmp .eq 19, 3) := by decide +kernel
theorem dX9_element_44 : decode cX9_element 44 = .ok (.aload_n 0, 1) := by decide +kernel
theorem dX9_element_45 : decode cX9_element 45 = .ok (.getfield 90, 3) := by decide +kernel
theorem dX9_element_48 : decode cX9_element 48 = .ok (.iconst 3, 1) := by decide +kernel
theorem dX9_element_49 : decode cX9_element 49 = .ok (.if_icmp .eq 11, 3) := by decide +kernel
theorem dX9_element_52 : decode cX9_element 52 = .ok (.aload_n 0, 1) := by decide +kernel
theorem dX9_element_53 : decode cX9_element 53 = .ok (.getfield 90, 3) := by decide +kernel
theorem dX9_element_56 : decode cX9_element 56 = .ok (.iconst 4, 1) := by decide +kernel
theorem dX9_element_57 : decode cX9_element 57 = .ok (.if_icmp .ne 7, 3) := by decide +kernel
theorem dX9_element_60 : decode cX9_element 60 = .ok (.iconst 1, 1) := by decide +kernel
theorem dX9_element_61 : decode cX9_element 61 = .ok (.goto 4, 3) := by decide +kernel
theorem dX9_element_64 : decode cX9_element 64 = .ok (.iconst 0, 1) := by decide +kernel
theorem dX9_element_65 : decode cX9_element 65 = .ok (.istore_n 1, 1) := by decide +kernel
theorem dX9_element_66 : decode cX9_element 66 = .ok (.aload_n 0, 1) := by decide +kernel
theorem dX9_element_67 : decode cX9_element 67 = .ok (.iload_n 1, 1) := by decide +kernel
theorem dX9_element_68 : decode cX9_element 68 = .ok (.ifCond .eq 16, 3) := by decide +kernel
theorem dX9_element_71 : decode cX9_element 71 = .ok (.aload_n 0, 1) := by decide +kernel
theorem dX9_element_72 : decode cX9_element 72 = .ok (.getfield 189, 3) := by decide +kernel
theorem dX9_element_75 : decode cX9_element 75 = .ok (.bipush 12, 2) := by decide +kernel
theorem dX9_element_77 : decode cX9_element 77 = .ok (.if_icmp .ge 7, 3) := by decide +kernel
theorem dX9_element_80 : decode cX9_element 80 = .ok (.iconst 1, 1) := by decide +kernel
theorem dX9_element_81 : decode cX9_element 81 = .ok (.goto 4, 3) := by decide +kernel
theorem dX9_element_84 : decode cX9_element 84 = .ok (.iconst 0, 1) := by decide +kernel
theorem dX9_element_85 : decode cX9_element 85 = .ok (.aload_n 0, 1) := by decide +kernel
theorem dX9_element_86 : decode cX9_element 86 = .ok (.getfield 82, 3) := by decide +kernel
theorem dX9_element_89 : decode cX9_element 89 = .ok (.invokevirtual 114, 3) := by decide +kernel
theorem dX9_element_92 : decode cX9_element 92 = .ok (.aload_n 0, 1) := by decide +kernel
theorem dX9_element_93 : decode cX9_element 93 = .ok (.dup, 1) := by decide +kernel
theorem dX9_element_94 : decode cX9_element 94 = .ok (.getfield 189, 3) := by decide +kernel
theorem dX9_element_97 : decode cX9_element 97 = .ok (.iconst 1, 1) := by decide +kernel
theorem dX9_element_98 : decode cX9_element 98 = .ok (.iadd, 1) := by decide +kernel
theorem dX9_element_99 : decode cX9_element 99 = .ok (.putfield 189, 3) := by decide +kernel
theorem dX9_element_102 : decode cX9_element 102 = .ok (.aload_n 0, 1) := by decide +kernel
theorem dX9_element_103 : decode cX9_element 103 = .ok (.ldc 53, 2) := by decide +kernel
theorem dX9_element_105 : decode cX9_element 105 = .ok (.invokevirtual 145, 3) := by decide +kernel
theorem dX9_element_108 : decode cX9_element 108 = .ok (.ifCond .eq 16, 3) := by decide +kernel
theorem dX9_element_111 : decode cX9_element 111 = .ok (.new 192, 3) := by decide +kernel
theorem dX9_element_114 : decode cX9_element 114 = .ok (.dup, 1) := by decide +kernel
theorem dX9_element_115 : decode cX9_element 115 = .ok (.aload_n 0, 1) := by decide +kernel
theorem dX9_element_116 : decode cX9_element 116 = .ok (.iconst 0, 1) := by decide +kernel
theorem dX9_element_117 : decode cX9_element 117 = .ok (.invokevirtual 194, 3) := by decide +kernel
theorem dX9_element_120 : decode cX9_element 120 = .ok (.invokespecial 198, 3) := by decide +kernel
theorem dX9_element_123 : decode cX9_element 123 = .ok (.areturn, 1) := by decide +kernel
theorem dX9_element_124 : decode cX9_element 124 = .ok (.aload_n 0, 1) := by decide +kernel
theorem dX9_element_125 : decode cX9_element 125 = .ok (.ldc 55, 2) := by decide +kernel
theorem dX9_element_127 : decode cX9_element 127 = .ok (.invokevirtual 145, 3) := by decide +kernel
theorem dX9_element_130 : decode cX9_element 130 = .ok (.ifCond .eq 15, 3) := by decide +kernel
theorem dX9_element_133 : decode cX9_element 133 = .ok (.new 201, 3) := by decide +kernel
theorem dX9_element_136 : decode cX9_element 136 = .ok (.dup, 1) := by decide +kernel
theorem dX9_element_137 : decode cX9_element 137 = .ok (.aload_n 0, 1) := by decide +kernel
theorem dX9_element_138 : decode cX9_element 138 = .ok (.invokevirtual 158, 3) := by decide +kernel
theorem dX9_element_141 : decode cX9_element 141 = .ok (.invokespecial 203, 3) := by decide +kernel
theorem dX9_element_144 : decode cX9_element 144 = .ok (.areturn, 1) := by decide +kernel
theorem dX9_element_145 : decode cX9_element 145 = .ok (.aload_n 0, 1) := by decide +kernel
theorem dX9_element_146 : decode cX9_element 146 = .ok (.ldc 57, 2) := by decide +kernel
theorem dX9_element_148 : decode cX9_element 148 = .ok (.invokevirtual 145, 3) := by decide +kernel
theorem dX9_element_151 : decode cX9_element 151 = .ok (.ifCond .eq 15, 3) := by decide +kernel
theorem dX9_element_154 : decode cX9_element 154 = .ok (.new 206, 3) := by decide +kernel
theorem dX9_element_157 : decode cX9_element 157 = .ok (.dup, 1) := by decide +kernel
theorem dX9_element_158 : decode cX9_element 158 = .ok (.aload_n 0, 1) := by decide +kernel
theorem dX9_element_159 : decode cX9_element 159 = .ok (.invokevirtual 158, 3) := by decide +kernel
theorem dX9_element_162 : decode cX9_element 162 = .ok (.invokespecial 208, 3) := by decide +kernel
theorem dX9_element_165 : decode cX9_element 165 = .ok (.areturn, 1) := by decide +kernel
theorem dX9_element_166 : decode cX9_element 166 = .ok (.aload_n 0, 1) := by decide +kernel
theorem dX9_element_167 : decode cX9_element 167 = .ok (.getfield 90, 3) := by decide +kernel
theorem dX9_element_170 : decode cX9_element 170 = .ok (.bipush 123, 2) := by decide +kernel
theorem dX9_element_172 : decode cX9_element 172 = .ok (.if_icmp .ne 63, 3) := by decide +kernel
theorem dX9_element_175 : decode cX9_element 175 = .ok (.new 209, 3) := by decide +kernel
theorem dX9_element_178 : decode cX9_element 178 = .ok (.dup, 1) := by decide +kernel
theorem dX9_element_179 : decode cX9_element 179 = .ok (.invokespecial 211, 3) := by decide +kernel
theorem dX9_element_182 : decode cX9_element 182 = .ok (.astore_n 2, 1) := by decide +kernel
theorem dX9_element_183 : decode cX9_element 183 = .ok (.aload_n 2, 1) := by decide +kernel
theorem dX9_element_184 : decode cX9_element 184 = .ok (.aload_n 0, 1) := by decide +kernel
theorem dX9_element_185 : decode cX9_element 185 = .ok (.invokevirtual 158, 3) := by decide +kernel
theorem dX9_element_188 : decode cX9_element 188 = .ok (.invokevirtual 212, 3) := by decide +kernel
theorem dX9_element_191 : decode cX9_element 191 = .ok (.aload_n 0, 1) := by decide +kernel
theorem dX9_element_192 : decode cX9_element 192 = .ok (.ldc 59, 2) := by decide +kernel
theorem dX9_element_194 : decode cX9_element 194 = .ok (.invokevirtual 145, 3) := by decide +kernel
theorem dX9_element_197 : decode cX9_element 197 = .ok (.ifCond .eq 36, 3) := by decide +kernel
theorem dX9_element_200 : decode cX9_element 200 = .ok (.aload_n 0, 1) := by decide +kernel
theorem dX9_element_201 : decode cX9_element 201 = .ok (.aload_n 2, 1) := by decide +kernel
theorem dX9_element_202 : decode cX9_element 202 = .ok (.getfield 214, 3) := by decide +kernel
theorem dX9_element_205 : decode cX9_element 205 = .ok (.bipush 12, 2) := by decide +kernel
theorem dX9_element_207 : decode cX9_element 207 = .ok (.if_icmp .ge 7, 3) := by decide +kernel
theorem dX9_element_210 : decode cX9_element 210 = .ok (.iconst 1, 1) := by decide +kernel
theorem dX9_element_211 : decode cX9_element 211 = .ok (.goto 4, 3) := by decide +kernel
theorem dX9_element_214 : decode cX9_element 214 = .ok (.iconst 0, 1) := by decide +kernel
theorem dX9_element_215 : decode cX9_element 215 = .ok (.aload_n 0, 1) := by decide +kernel
theorem dX9_element_216 : decode cX9_element 216 = .ok (.getfield 82, 3) := by decide +kernel
theorem dX9_element_219 : decode cX9_element 219 = .ok (.invokevirtual 114, 3) := by decide +kernel
theorem dX9_element_222 : decode cX9_element 222 = .ok (.aload_n 2, 1) := by decide +kernel
theorem dX9_element_223 : decode cX9_element 223 = .ok (.aload_n 0, 1) := by decide +kernel
theorem dX9_element_224 : decode cX9_element 224 = .ok (.invokevirtual 158, 3) := by decide +kernel
theorem dX9_element_227 : decode cX9_element 227 = .ok (.invokevirtual 212, 3) := by decide +kernel
theorem dX9_element_230 : decode cX9_element 230 = .ok (.goto (-39), 3) := by decide +kernel
theorem dX9_element_233 : decode cX9_element 233 = .ok (.aload_n 2, 1) := by decide +kernel
theorem dX9_element_234 : decode cX9_element 234 = .ok (.areturn, 1) := by decide +kernel
theorem dX9_element_235 : decode cX9_element 235 = .ok (.iconst 3, 1) := by decide +kernel
theorem dX9_element_236 : decode cX9_element 236 = .ok (.anewarray 121, 3) := by decide +kernel
theorem dX9_element_239 : decode cX9_element 239 = .ok (.dup, 1) := by decide +kernel
theorem dX9_element_240 : decode cX9_element 240 = .ok (.iconst 0, 1) := by decide +kernel
theorem dX9_element_241 : decode cX9_element 241 = .ok (.aload_n 0, 1) := by decide +kernel
theorem dX9_element_242 : decode cX9_element 242 = .ok (.invokevirtual 217, 3) := by decide +kernel
theorem dX9_element_245 : decode cX9_element 245 = .ok (.aastore, 1) := by decide +kernel
theorem dX9_element_246 : decode cX9_element 246 = .ok (.dup, 1) := by decide +kernel
theorem dX9_element_247 : decode cX9_element 247 = .ok (.iconst 1, 1) := by decide +kernel
theorem dX9_element_248 : decode cX9_element 248 = .ok (.aload_n 0, 1) := by decide +kernel
theorem dX9_element_249 : decode cX9_element 249 = .ok (.invokevirtual 217, 3) := by decide +kernel
theorem dX9_element_252 : decode cX9_element 252 = .ok (.aastore, 1) := by decide +kernel
theorem dX9_element_253 : decode cX9_element 253 = .ok (.dup, 1) := by decide +kernel
theorem dX9_element_254 : decode cX9_element 254 = .ok (.iconst 2, 1) := by decide +kernel
theorem dX9_element_255 : decode cX9_element 255 = .ok (.aload_n 0, 1) := by decide +kernel
theorem dX9_element_256 : decode cX9_element 256 = .ok (.invokevirtual 217, 3) := by decide +kernel
theorem dX9_element_259 : decode cX9_element 259 = .ok (.aastore, 1) := by decide +kernel
theorem dX9_element_260 : decode cX9_element 260 = .ok (.astore_n 2, 1) := by decide +kernel
theorem dX9_element_261 : decode cX9_element 261 = .ok (.new 221, 3) := by decide +kernel
theorem dX9_element_264 : decode cX9_element 264 = .ok (.dup, 1) := by decide +kernel
theorem dX9_element_265 : decode cX9_element 265 = .ok (.aload_n 2, 1) := by decide +kernel
theorem dX9_element_266 : decode cX9_element 266 = .ok (.invokespecial 223, 3) := by decide +kernel
theorem dX9_element_269 : decode cX9_element 269 = .ok (.areturn, 1) := by decide +kernel
abbrev cX9_test : ByteArray := prog_16_method_18_code
def yX9_test : MethodName := ⟨"TripleStore$Reader", "test", "(I)LTripleStore$Test;"⟩
theorem dX9_test_0 : decode cX9_test 0 = .ok (.aload_n 0, 1) := by decide +kernel
theorem dX9_test_1 : decode cX9_test 1 = .ok (.ldc 61, 2) := by decide +kernel
theorem dX9_test_3 : decode cX9_test 3 = .ok (.invokevirtual 111, 3) := by decide +kernel
theorem dX9_test_6 : decode cX9_test 6 = .ok (.ifCond .eq 40, 3) := by decide +kernel
theorem dX9_test_9 : decode cX9_test 9 = .ok (.aload_n 0, 1) := by decide +kernel
theorem dX9_test_10 : decode cX9_test 10 = .ok (.iload_n 1, 1) := by decide +kernel
theorem dX9_test_11 : decode cX9_test 11 = .ok (.iconst 4, 1) := by decide +kernel
theorem dX9_test_12 : decode cX9_test 12 = .ok (.if_icmp .ge 7, 3) := by decide +kernel
theorem dX9_test_15 : decode cX9_test 15 = .ok (.iconst 1, 1) := by decide +kernel
theorem dX9_test_16 : decode cX9_test 16 = .ok (.goto 4, 3) := by decide +kernel
theorem dX9_test_19 : decode cX9_test 19 = .ok (.iconst 0, 1) := by decide +kernel
theorem dX9_test_20 : decode cX9_test 20 = .ok (.aload_n 0, 1) := by decide +kernel
theorem dX9_test_21 : decode cX9_test 21 = .ok (.getfield 82, 3) := by decide +kernel
theorem dX9_test_24 : decode cX9_test 24 = .ok (.invokevirtual 114, 3) := by decide +kernel
theorem dX9_test_27 : decode cX9_test 27 = .ok (.aload_n 0, 1) := by decide +kernel
theorem dX9_test_28 : decode cX9_test 28 = .ok (.invokevirtual 25, 3) := by decide +kernel
theorem dX9_test_31 : decode cX9_test 31 = .ok (.new 226, 3) := by decide +kernel
theorem dX9_test_34 : decode cX9_test 34 = .ok (.dup, 1) := by decide +kernel
theorem dX9_test_35 : decode cX9_test 35 = .ok (.aload_n 0, 1) := by decide +kernel
theorem dX9_test_36 : decode cX9_test 36 = .ok (.iload_n 1, 1) := by decide +kernel
theorem dX9_test_37 : decode cX9_test 37 = .ok (.iconst 1, 1) := by decide +kernel
theorem dX9_test_38 : decode cX9_test 38 = .ok (.iadd, 1) := by decide +kernel
theorem dX9_test_39 : decode cX9_test 39 = .ok (.invokevirtual 194, 3) := by decide +kernel
theorem dX9_test_42 : decode cX9_test 42 = .ok (.invokespecial 228, 3) := by decide +kernel
theorem dX9_test_45 : decode cX9_test 45 = .ok (.areturn, 1) := by decide +kernel
theorem dX9_test_46 : decode cX9_test 46 = .ok (.aload_n 0, 1) := by decide +kernel
theorem dX9_test_47 : decode cX9_test 47 = .ok (.ldc 63, 2) := by decide +kernel
theorem dX9_test_49 : decode cX9_test 49 = .ok (.invokevirtual 145, 3) := by decide +kernel
theorem dX9_test_52 : decode cX9_test 52 = .ok (.ifCond .eq 15, 3) := by decide +kernel
theorem dX9_test_55 : decode cX9_test 55 = .ok (.new 229, 3) := by decide +kernel
theorem dX9_test_58 : decode cX9_test 58 = .ok (.dup, 1) := by decide +kernel
theorem dX9_test_59 : decode cX9_test 59 = .ok (.aload_n 0, 1) := by decide +kernel
theorem dX9_test_60 : decode cX9_test 60 = .ok (.invokevirtual 123, 3) := by decide +kernel
theorem dX9_test_63 : decode cX9_test 63 = .ok (.invokespecial 231, 3) := by decide +kernel
theorem dX9_test_66 : decode cX9_test 66 = .ok (.areturn, 1) := by decide +kernel
theorem dX9_test_67 : decode cX9_test 67 = .ok (.aload_n 0, 1) := by decide +kernel
theorem dX9_test_68 : decode cX9_test 68 = .ok (.invokevirtual 217, 3) := by decide +kernel
theorem dX9_test_71 : decode cX9_test 71 = .ok (.astore_n 2, 1) := by decide +kernel
theorem dX9_test_72 : decode cX9_test 72 = .ok (.aload_n 0, 1) := by decide +kernel
theorem dX9_test_73 : decode cX9_test 73 = .ok (.getfield 90, 3) := by decide +kernel
theorem dX9_test_76 : decode cX9_test 76 = .ok (.i2c, 1) := by decide +kernel
theorem dX9_test_77 : decode cX9_test 77 = .ok (.istore_n 3, 1) := by decide +kernel
theorem dX9_test_78 : decode cX9_test 78 = .ok (.aload_n 0, 1) := by decide +kernel
theorem dX9_test_79 : decode cX9_test 79 = .ok (.aload_n 0, 1) := by decide +kernel
theorem dX9_test_80 : decode cX9_test 80 = .ok (.getfield 90, 3) := by decide +kernel
theorem dX9_test_83 : decode cX9_test 83 = .ok (.bipush 61, 2) := by decide +kernel
theorem dX9_test_85 : decode cX9_test 85 = .ok (.if_icmp .eq 30, 3) := by decide +kernel
theorem dX9_test_88 : decode cX9_test 88 = .ok (.aload_n 0, 1) := by decide +kernel
theorem dX9_test_89 : decode cX9_test 89 = .ok (.getfield 90, 3) := by decide +kernel
theorem dX9_test_92 : decode cX9_test 92 = .ok (.bipush 60, 2) := by decide +kernel
theorem dX9_test_94 : decode cX9_test 94 = .ok (.if_icmp .eq 21, 3) := by decide +kernel
theorem dX9_test_97 : decode cX9_test 97 = .ok (.aload_n 0, 1) := by decide +kernel
theorem dX9_test_98 : decode cX9_test 98 = .ok (.getfield 90, 3) := by decide +kernel
theorem dX9_test_101 : decode cX9_test 101 = .ok (.bipush 62, 2) := by decide +kernel
theorem dX9_test_103 : decode cX9_test 103 = .ok (.if_icmp .eq 12, 3) := by decide +kernel
theorem dX9_test_106 : decode cX9_test 106 = .ok (.aload_n 0, 1) := by decide +kernel
theorem dX9_test_107 : decode cX9_test 107 = .ok (.getfield 90, 3) := by decide +kernel
theorem dX9_test_110 : decode cX9_test 110 = .ok (.bipush 33, 2) := by decide +kernel
theorem dX9_test_112 : decode cX9_test 112 = .ok (.if_icmp .ne 7, 3) := by decide +kernel
theorem dX9_test_115 : decode cX9_test 115 = .ok (.iconst 1, 1) := by decide +kernel
theorem dX9_test_116 : decode cX9_test 116 = .ok (.goto 4, 3) := by decide +kernel
theorem dX9_test_119 : decode cX9_test 119 = .ok (.iconst 0, 1) := by decide +kernel
theorem dX9_test_120 : decode cX9_test 120 = .ok (.aload_n 0, 1) := by decide +kernel
theorem dX9_test_121 : decode cX9_test 121 = .ok (.getfield 82, 3) := by decide +kernel
theorem dX9_test_124 : decode cX9_test 124 = .ok (.invokevirtual 114, 3) := by decide +kernel
theorem dX9_test_127 : decode cX9_test 127 = .ok (.aload_n 0, 1) := by decide +kernel
theorem dX9_test_128 : decode cX9_test 128 = .ok (.invokevirtual 25, 3) := by decide +kernel
theorem dX9_test_131 : decode cX9_test 131 = .ok (.new 232, 3) := by decide +kernel
theorem dX9_test_134 : decode cX9_test 134 = .ok (.dup, 1) := by decide +kernel
theorem dX9_test_135 : decode cX9_test 135 = .ok (.aload_n 2, 1) := by decide +kernel
theorem dX9_test_136 : decode cX9_test 136 = .ok (.iload_n 3, 1) := by decide +kernel
theorem dX9_test_137 : decode cX9_test 137 = .ok (.aload_n 0, 1) := by decide +kernel
theorem dX9_test_138 : decode cX9_test 138 = .ok (.invokevirtual 217, 3) := by decide +kernel
theorem dX9_test_141 : decode cX9_test 141 = .ok (.invokespecial 234, 3) := by decide +kernel
theorem dX9_test_144 : decode cX9_test 144 = .ok (.areturn, 1) := by decide +kernel
