set_option maxRecDepth 100000
abbrev cX1_cell : ByteArray := prog_1_method_24_code
def yX1_cell : MethodName := ⟨"TripleStore", "cell", "(II)J"⟩
theorem dX1_cell_0 : decode cX1_cell 0 = .ok (.iload_n 1, 1) := by decide +kernel
theorem dX1_cell_1 : decode cX1_cell 1 = .ok (.ifCond .lt 23, 3) := by decide +kernel
theorem dX1_cell_4 : decode cX1_cell 4 = .ok (.iload_n 1, 1) := by decide +kernel
theorem dX1_cell_5 : decode cX1_cell 5 = .ok (.aload_n 0, 1) := by decide +kernel
theorem dX1_cell_6 : decode cX1_cell 6 = .ok (.getfield 175, 3) := by decide +kernel
theorem dX1_cell_9 : decode cX1_cell 9 = .ok (.if_icmp .ge 15, 3) := by decide +kernel
theorem dX1_cell_12 : decode cX1_cell 12 = .ok (.iload_n 2, 1) := by decide +kernel
theorem dX1_cell_13 : decode cX1_cell 13 = .ok (.ifCond .lt 11, 3) := by decide +kernel
theorem dX1_cell_16 : decode cX1_cell 16 = .ok (.iload_n 2, 1) := by decide +kernel
theorem dX1_cell_17 : decode cX1_cell 17 = .ok (.aload_n 0, 1) := by decide +kernel
theorem dX1_cell_18 : decode cX1_cell 18 = .ok (.getfield 203, 3) := by decide +kernel
theorem dX1_cell_21 : decode cX1_cell 21 = .ok (.if_icmp .lt 11, 3) := by decide +kernel
theorem dX1_cell_24 : decode cX1_cell 24 = .ok (.new 238, 3) := by decide +kernel
theorem dX1_cell_27 : decode cX1_cell 27 = .ok (.dup, 1) := by decide +kernel
theorem dX1_cell_28 : decode cX1_cell 28 = .ok (.invokespecial 240, 3) := by decide +kernel
theorem dX1_cell_31 : decode cX1_cell 31 = .ok (.athrow, 1) := by decide +kernel
theorem dX1_cell_32 : decode cX1_cell 32 = .ok (.aload_n 0, 1) := by decide +kernel
theorem dX1_cell_33 : decode cX1_cell 33 = .ok (.getfield 30, 3) := by decide +kernel
theorem dX1_cell_36 : decode cX1_cell 36 = .ok (.iload_n 1, 1) := by decide +kernel
theorem dX1_cell_37 : decode cX1_cell 37 = .ok (.aaload, 1) := by decide +kernel
theorem dX1_cell_38 : decode cX1_cell 38 = .ok (.getfield 241, 3) := by decide +kernel
theorem dX1_cell_41 : decode cX1_cell 41 = .ok (.iload_n 2, 1) := by decide +kernel
theorem dX1_cell_42 : decode cX1_cell 42 = .ok (.aaload, 1) := by decide +kernel
theorem dX1_cell_43 : decode cX1_cell 43 = .ok (.astore_n 3, 1) := by decide +kernel
theorem dX1_cell_44 : decode cX1_cell 44 = .ok (.aload_n 3, 1) := by decide +kernel
theorem dX1_cell_45 : decode cX1_cell 45 = .ok (.ifnonnull 11, 3) := by decide +kernel
theorem dX1_cell_48 : decode cX1_cell 48 = .ok (.new 244, 3) := by decide +kernel
theorem dX1_cell_51 : decode cX1_cell 51 = .ok (.dup, 1) := by decide +kernel
theorem dX1_cell_52 : decode cX1_cell 52 = .ok (.invokespecial 246, 3) := by decide +kernel
theorem dX1_cell_55 : decode cX1_cell 55 = .ok (.athrow, 1) := by decide +kernel
theorem dX1_cell_56 : decode cX1_cell 56 = .ok (.aload_n 3, 1) := by decide +kernel
theorem dX1_cell_57 : decode cX1_cell 57 = .ok (.invokevirtual 247, 3) := by decide +kernel
theorem dX1_cell_60 : decode cX1_cell 60 = .ok (.lreturn, 1) := by decide +kernel
abbrev cX1_count : ByteArray := prog_1_method_25_code
def yX1_count : MethodName := ⟨"TripleStore", "count", "(I)I"⟩
theorem dX1_count_0 : decode cX1_count 0 = .ok (.iload_n 1, 1) := by decide +kernel
theorem dX1_count_1 : decode cX1_count 1 = .ok (.tableswitch 81 0 6 #[43, 48, 53, 58, 63, 68, 73], 43) := by decide +kernel
theorem dX1_count_44 : decode cX1_count 44 = .ok (.aload_n 0, 1) := by decide +kernel
theorem dX1_count_45 : decode cX1_count 45 = .ok (.getfield 72, 3) := by decide +kernel
theorem dX1_count_48 : decode cX1_count 48 = .ok (.ireturn, 1) := by decide +kernel
theorem dX1_count_49 : decode cX1_count 49 = .ok (.aload_n 0, 1) := by decide +kernel
theorem dX1_count_50 : decode cX1_count 50 = .ok (.getfield 203, 3) := by decide +kernel
theorem dX1_count_53 : decode cX1_count 53 = .ok (.ireturn, 1) := by decide +kernel
theorem dX1_count_54 : decode cX1_count 54 = .ok (.aload_n 0, 1) := by decide +kernel
theorem dX1_count_55 : decode cX1_count 55 = .ok (.getfield 175, 3) := by decide +kernel
theorem dX1_count_58 : decode cX1_count 58 = .ok (.ireturn, 1) := by decide +kernel
theorem dX1_count_59 : decode cX1_count 59 = .ok (.aload_n 0, 1) := by decide +kernel
theorem dX1_count_60 : decode cX1_count 60 = .ok (.getfield 113, 3) := by decide +kernel
theorem dX1_count_63 : decode cX1_count 63 = .ok (.ireturn, 1) := by decide +kernel
theorem dX1_count_64 : decode cX1_count 64 = .ok (.aload_n 0, 1) := by decide +kernel
theorem dX1_count_65 : decode cX1_count 65 = .ok (.getfield 116, 3) := by decide +kernel
theorem dX1_count_68 : decode cX1_count 68 = .ok (.ireturn, 1) := by decide +kernel
theorem dX1_count_69 : decode cX1_count 69 = .ok (.aload_n 0, 1) := by decide +kernel
theorem dX1_count_70 : decode cX1_count 70 = .ok (.getfield 88, 3) := by decide +kernel
theorem dX1_count_73 : decode cX1_count 73 = .ok (.ireturn, 1) := by decide +kernel
theorem dX1_count_74 : decode cX1_count 74 = .ok (.aload_n 0, 1) := by decide +kernel
theorem dX1_count_75 : decode cX1_count 75 = .ok (.getfield 20, 3) := by decide +kernel
theorem dX1_count_78 : decode cX1_count 78 = .ok (.invokevirtual 44, 3) := by decide +kernel
theorem dX1_count_81 : decode cX1_count 81 = .ok (.ireturn, 1) := by decide +kernel
theorem dX1_count_82 : decode cX1_count 82 = .ok (.new 36, 3) := by decide +kernel
theorem dX1_count_85 : decode cX1_count 85 = .ok (.dup, 1) := by decide +kernel
theorem dX1_count_86 : decode cX1_count 86 = .ok (.invokespecial 38, 3) := by decide +kernel
theorem dX1_count_89 : decode cX1_count 89 = .ok (.athrow, 1) := by decide +kernel
abbrev cX2_init : ByteArray := prog_26_method_1_code
def yX2_init : MethodName := ⟨"TripleStoreModel", "<init>", "()V"⟩
theorem dX2_init_0 : decode cX2_init 0 = .ok (.aload_n 0, 1) := by decide +kernel
theorem dX2_init_1 : decode cX2_init 1 = .ok (.invokespecial 1, 3) := by decide +kernel
theorem dX2_init_4 : decode cX2_init 4 = .ok (.aload_n 0, 1) := by decide +kernel
theorem dX2_init_5 : decode cX2_init 5 = .ok (.sipush 144, 3) := by decide +kernel
theorem dX2_init_8 : decode cX2_init 8 = .ok (.newarray .long, 2) := by decide +kernel
theorem dX2_init_10 : decode cX2_init 10 = .ok (.putfield 7, 3) := by decide +kernel
theorem dX2_init_13 : decode cX2_init 13 = .ok (.aload_n 0, 1) := by decide +kernel
theorem dX2_init_14 : decode cX2_init 14 = .ok (.sipush 144, 3) := by decide +kernel
theorem dX2_init_17 : decode cX2_init 17 = .ok (.newarray .long, 2) := by decide +kernel
theorem dX2_init_19 : decode cX2_init 19 = .ok (.putfield 13, 3) := by decide +kernel
theorem dX2_init_22 : decode cX2_init 22 = .ok (.aload_n 0, 1) := by decide +kernel
theorem dX2_init_23 : decode cX2_init 23 = .ok (.sipush 2400, 3) := by decide +kernel
theorem dX2_init_26 : decode cX2_init 26 = .ok (.newarray .long, 2) := by decide +kernel
theorem dX2_init_28 : decode cX2_init 28 = .ok (.putfield 16, 3) := by decide +kernel
theorem dX2_init_31 : decode cX2_init 31 = .ok (.aload_n 0, 1) := by decide +kernel
theorem dX2_init_32 : decode cX2_init 32 = .ok (.sipush 800, 3) := by decide +kernel
theorem dX2_init_35 : decode cX2_init 35 = .ok (.newarray .boolean, 2) := by decide +kernel
theorem dX2_init_37 : decode cX2_init 37 = .ok (.putfield 19, 3) := by decide +kernel
theorem dX2_init_40 : decode cX2_init 40 = .ok (.aload_n 0, 1) := by decide +kernel
theorem dX2_init_41 : decode cX2_init 41 = .ok (.sipush 800, 3) := by decide +kernel
theorem dX2_init_44 : decode cX2_init 44 = .ok (.newarray .int, 2) := by decide +kernel
theorem dX2_init_46 : decode cX2_init 46 = .ok (.putfield 23, 3) := by decide +kernel
theorem dX2_init_49 : decode cX2_init 49 = .ok (.aload_n 0, 1) := by decide +kernel
theorem dX2_init_50 : decode cX2_init 50 = .ok (.sipush 160, 3) := by decide +kernel
theorem dX2_init_53 : decode cX2_init 53 = .ok (.newarray .int, 2) := by decide +kernel
theorem dX2_init_55 : decode cX2_init 55 = .ok (.putfield 27, 3) := by decide +kernel
theorem dX2_init_58 : decode cX2_init 58 = .ok (.aload_n 0, 1) := by decide +kernel
theorem dX2_init_59 : decode cX2_init 59 = .ok (.iconst (-1), 1) := by decide +kernel
theorem dX2_init_60 : decode cX2_init 60 = .ok (.putfield 30, 3) := by decide +kernel
theorem dX2_init_63 : decode cX2_init 63 = .ok (.aload_n 0, 1) := by decide +kernel
theorem dX2_init_64 : decode cX2_init 64 = .ok (.bipush 6, 2) := by decide +kernel
theorem dX2_init_66 : decode cX2_init 66 = .ok (.newarray .long, 2) := by decide +kernel
theorem dX2_init_68 : decode cX2_init 68 = .ok (.putfield 34, 3) := by decide +kernel
theorem dX2_init_71 : decode cX2_init 71 = .ok (.aload_n 0, 1) := by decide +kernel
theorem dX2_init_72 : decode cX2_init 72 = .ok (.iconst 5, 1) := by decide +kernel
theorem dX2_init_73 : decode cX2_init 73 = .ok (.newarray .int, 2) := by decide +kernel
theorem dX2_init_75 : decode cX2_init 75 = .ok (.putfield 37, 3) := by decide +kernel
theorem dX2_init_78 : decode cX2_init 78 = .ok (.aload_n 0, 1) := by decide +kernel
theorem dX2_init_79 : decode cX2_init 79 = .ok (.iconst 5, 1) := by decide +kernel
theorem dX2_init_80 : decode cX2_init 80 = .ok (.newarray .int, 2) := by decide +kernel
theorem dX2_init_82 : decode cX2_init 82 = .ok (.putfield 40, 3) := by decide +kernel
theorem dX2_init_85 : decode cX2_init 85 = .ok (.aload_n 0, 1) := by decide +kernel
theorem dX2_init_86 : decode cX2_init 86 = .ok (.sipush 400, 3) := by decide +kernel
theorem dX2_init_89 : decode cX2_init 89 = .ok (.newarray .int, 2) := by decide +kernel
theorem dX2_init_91 : decode cX2_init 91 = .ok (.putfield 43, 3) := by decide +kernel
theorem dX2_init_94 : decode cX2_init 94 = .ok (.aload_n 0, 1) := by decide +kernel
theorem dX2_init_95 : decode cX2_init 95 = .ok (.sipush 400, 3) := by decide +kernel
theorem dX2_init_98 : decode cX2_init 98 = .ok (.newarray .int, 2) := by decide +kernel
theorem dX2_init_100 : decode cX2_init 100 = .ok (.putfield 46, 3) := by decide +kernel
theorem dX2_init_103 : decode cX2_init 103 = .ok (.aload_n 0, 1) := by decide +kernel
theorem dX2_init_104 : decode cX2_init 104 = .ok (.bipush 120, 2) := by decide +kernel
theorem dX2_init_106 : decode cX2_init 106 = .ok (.newarray .int, 2) := by decide +kernel
theorem dX2_init_108 : decode cX2_init 108 = .ok (.putfield 49, 3) := by decide +kernel
theorem dX2_init_111 : decode cX2_init 111 = .ok (.aload_n 0, 1) := by decide +kernel
theorem dX2_init_112 : decode cX2_init 112 = .ok (.bipush 120, 2) := by decide +kernel
theorem dX2_init_114 : decode cX2_init 114 = .ok (.newarray .long, 2) := by decide +kernel
theorem dX2_init_116 : decode cX2_init 116 = .ok (.putfield 52, 3) := by decide +kernel
theorem dX2_init_119 : decode cX2_init 119 = .ok (.aload_n 0, 1) := by decide +kernel
theorem dX2_init_120 : decode cX2_init 120 = .ok (.bipush 14, 2) := by decide +kernel
theorem dX2_init_122 : decode cX2_init 122 = .ok (.newarray .int, 2) := by decide +kernel
theorem dX2_init_124 : decode cX2_init 124 = .ok (.putfield 55, 3) := by decide +kernel
theorem dX2_init_127 : decode cX2_init 127 = .ok (.aload_n 0, 1) := by decide +kernel
theorem dX2_init_128 : decode cX2_init 128 = .ok (.bipush 14, 2) := by decide +kernel
theorem dX2_init_130 : decode cX2_init 130 = .ok (.newarray .int, 2) := by decide +kernel
theorem dX2_init_132 : decode cX2_init 132 = .ok (.putfield 58, 3) := by decide +kernel
theorem dX2_init_135 : decode cX2_init 135 = .ok (.aload_n 0, 1) := by decide +kernel
theorem dX2_init_136 : decode cX2_init 136 = .ok (.bipush 14, 2) := by decide +kernel
theorem dX2_init_138 : decode cX2_init 138 = .ok (.newarray .boolean, 2) := by decide +kernel
theorem dX2_init_140 : decode cX2_init 140 = .ok (.putfield 61, 3) := by decide +kernel
theorem dX2_init_143 : decode cX2_init 143 = .ok (.aload_n 0, 1) := by decide +kernel
theorem dX2_init_144 : decode cX2_init 144 = .ok (.bipush 80, 2) := by decide +kernel
theorem dX2_init_146 : decode cX2_init 146 = .ok (.newarray .int, 2) := by decide +kernel
theorem dX2_init_148 : decode cX2_init 148 = .ok (.putfield 64, 3) := by decide +kernel
theorem dX2_init_151 : decode cX2_init 151 = .ok (.aload_n 0, 1) := by decide +kernel
theorem dX2_init_152 : decode cX2_init 152 = .ok (.iconst 5, 1) := by decide +kernel
theorem dX2_init_153 : decode cX2_init 153 = .ok (.newarray .int, 2) := by decide +kernel
theorem dX2_init_155 : decode cX2_init 155 = .ok (.putfield 67, 3) := by decide +kernel
theorem dX2_init_158 : decode cX2_init 158 = .ok (.aload_n 0, 1) := by decide +kernel
theorem dX2_init_159 : decode cX2_init 159 = .ok (.sipush 9900, 3) := by decide +kernel
theorem dX2_init_162 : decode cX2_init 162 = .ok (.newarray .long, 2) := by decide +kernel
theorem dX2_init_164 : decode cX2_init 164 = .ok (.putfield 70, 3) := by decide +kernel
theorem dX2_init_167 : decode cX2_init 167 = .ok (.aload_n 0, 1) := by decide +kernel
theorem dX2_init_168 : decode cX2_init 168 = .ok (.sipush 1650, 3) := by decide +kernel
theorem dX2_init_171 : decode cX2_init 171 = .ok (.newarray .int, 2) := by decide +kernel
theorem dX2_init_173 : decode cX2_init 173 = .ok (.putfield 73, 3) := by decide +kernel
theorem dX2_init_176 : decode cX2_init 176 = .ok (.aload_n 0, 1) := by decide +kernel
theorem dX2_init_177 : decode cX2_init 177 = .ok (.bipush 11, 2) := by decide +kernel
theorem dX2_init_179 : decode cX2_init 179 = .ok (.newarray .int, 2) := by decide +kernel
theorem dX2_init_181 : decode cX2_init 181 = .ok (.putfield 76, 3) := by decide +kernel
theorem dX2_init_184 : decode cX2_init 184 = .ok (.aload_n 0, 1) := by decide +kernel
theorem dX2_init_185 : decode cX2_init 185 = .ok (.sipush 900, 3) := by decide +kernel
theorem dX2_init_188 : decode cX2_init 188 = .ok (.newarray .long, 2) := by decide +kernel
theorem dX2_init_190 : decode cX2_init 190 = .ok (.putfield 79, 3) := by decide +kernel
theorem dX2_init_193 : decode cX2_init 193 = .ok (.aload_n 0, 1) := by decide +kernel
theorem dX2_init_194 : decode cX2_init 194 = .ok (.sipush 150, 3) := by decide +kernel
theorem dX2_init_197 : decode cX2_init 197 = .ok (.newarray .int, 2) := by decide +kernel
theorem dX2_init_199 : decode cX2_init 199 = .ok (.putfield 82, 3) := by decide +kernel
theorem dX2_init_202 : decode cX2_init 202 = .ok (.aload_n 0, 1) := by decide +kernel
theorem dX2_init_203 : decode cX2_init 203 = .ok (.sipush 150, 3) := by decide +kernel
theorem dX2_init_206 : decode cX2_init 206 = .ok (.newarray .int, 2) := by decide +kernel
theorem dX2_init_208 : decode cX2_init 208 = .ok (.putfield 85, 3) := by decide +kernel
theorem dX2_init_211 : decode cX2_init 211 = .ok (.aload_n 0, 1) := by decide +kernel
theorem dX2_init_212 : decode cX2_init 212 = .ok (.bipush 80, 2) := by decide +kernel
theorem dX2_init_214 : decode cX2_init 214 = .ok (.newarray .int, 2) := by decide +kernel
theorem dX2_init_216 : decode cX2_init 216 = .ok (.putfield 88, 3) := by decide +kernel
theorem dX2_init_219 : decode cX2_init 219 = .ok (.return_, 1) := by decide +kernel
abbrev cX2_thrown : ByteArray := prog_26_method_2_code
def yX2_thrown : MethodName := ⟨"TripleStoreModel", "thrown", "()I"⟩
theorem dX2_thrown_0 : decode cX2_thrown 0 = .ok (.aload_n 0, 1) := by decide +kernel
theorem dX2_thrown_1 : decode cX2_thrown 1 = .ok (.getfield 91, 3) := by decide +kernel
theorem dX2_thrown_4 : decode cX2_thrown 4 = .ok (.ireturn, 1) := by decide +kernel
abbrev cX2_add : ByteArray := prog_26_method_13_code
def yX2_add : MethodName := ⟨"TripleStoreModel", "add", "(JJJ)I"⟩
theorem dX2_add_0 : decode cX2_add 0 = .ok (.aload_n 0, 1) := by decide +kernel
theorem dX2_add_1 : decode cX2_add 1 = .ok (.lload_n 1, 1) := by decide +kernel
theorem dX2_add_2 : decode cX2_add 2 = .ok (.lload_n 3, 1) := by decide +kernel
theorem dX2_add_3 : decode cX2_add 3 = .ok (.lload 5, 2) := by decide +kernel
theorem dX2_add_5 : decode cX2_add 5 = .ok (.invokevirtual 140, 3) := by decide +kernel
theorem dX2_add_8 : decode cX2_add 8 = .ok (.ifCond .eq 15, 3) := by decide +kernel
theorem dX2_add_11 : decode cX2_add 11 = .ok (.aload_n 0, 1) := by decide +kernel
theorem dX2_add_12 : decode cX2_add 12 = .ok (.iconst 1, 1) := by decide +kernel
theorem dX2_add_13 : decode cX2_add 13 = .ok (.lload_n 1, 1) := by decide +kernel
theorem dX2_add_14 : decode cX2_add 14 = .ok (.lload_n 3, 1) := by decide +kernel
theorem dX2_add_15 : decode cX2_add 15 = .ok (.lload 5, 2) := by decide +kernel
theorem dX2_add_17 : decode cX2_add 17 = .ok (.invokevirtual 144, 3) := by decide +kernel
theorem dX2_add_20 : decode cX2_add 20 = .ok (.goto 4, 3) := by decide +kernel
theorem dX2_add_23 : decode cX2_add 23 = .ok (.iconst 0, 1) := by decide +kernel
theorem dX2_add_24 : decode cX2_add 24 = .ok (.ireturn, 1) := by decide +kernel
abbrev cX2_isTriple : ByteArray := prog_26_method_12_code
def yX2_isTriple : MethodName := ⟨"TripleStoreModel", "isTriple", "(JJJ)Z"⟩
theorem dX2_isTriple_0 : decode cX2_isTriple 0 = .ok (.aload_n 0, 1) := by decide +kernel
theorem dX2_isTriple_1 : decode cX2_isTriple 1 = .ok (.lload_n 1, 1) := by decide +kernel
theorem dX2_isTriple_2 : decode cX2_isTriple 2 = .ok (.invokestatic 133, 3) := by decide +kernel
theorem dX2_isTriple_5 : decode cX2_isTriple 5 = .ok (.ifCond .eq 30, 3) := by decide +kernel
theorem dX2_isTriple_8 : decode cX2_isTriple 8 = .ok (.lload_n 3, 1) := by decide +kernel
theorem dX2_isTriple_9 : decode cX2_isTriple 9 = .ok (.invokestatic 133, 3) := by decide +kernel
theorem dX2_isTriple_12 : decode cX2_isTriple 12 = .ok (.ifCond .eq 23, 3) := by decide +kernel
theorem dX2_isTriple_15 : decode cX2_isTriple 15 = .ok (.lload 5, 2) := by decide +kernel
theorem dX2_isTriple_17 : decode cX2_isTriple 17 = .ok (.invokestatic 133, 3) := by decide +kernel
theorem dX2_isTriple_20 : decode cX2_isTriple 20 = .ok (.ifCond .ne 11, 3) := by decide +kernel
theorem dX2_isTriple_23 : decode cX2_isTriple 23 = .ok (.lload 5, 2) := by decide +kernel
theorem dX2_isTriple_25 : decode cX2_isTriple 25 = .ok (.invokestatic 137, 3) := by decide +kernel
theorem dX2_isTriple_28 : decode cX2_isTriple 28 = .ok (.ifCond .eq 7, 3) := by decide +kernel
theorem dX2_isTriple_31 : decode cX2_isTriple 31 = .ok (.iconst 1, 1) := by decide +kernel
theorem dX2_isTriple_32 : decode cX2_isTriple 32 = .ok (.goto 4, 3) := by decide +kernel
theorem dX2_isTriple_35 : decode cX2_isTriple 35 = .ok (.iconst 0, 1) := by decide +kernel
theorem dX2_isTriple_36 : decode cX2_isTriple 36 = .ok (.iconst 1, 1) := by decide +kernel
theorem dX2_isTriple_37 : decode cX2_isTriple 37 = .ok (.invokevirtual 109, 3) := by decide +kernel
theorem dX2_isTriple_40 : decode cX2_isTriple 40 = .ok (.ireturn, 1) := by decide +kernel
abbrev cX2_isWord : ByteArray := prog_26_method_5_code
def yX2_isWord : MethodName := ⟨"TripleStoreModel", "isWord", "(J)Z"⟩
theorem dX2_isWord_0 : decode cX2_isWord 0 = .ok (.lload_n 0, 1) := by decide +kernel
theorem dX2_isWord_1 : decode cX2_isWord 1 = .ok (.lconst 0, 1) := by decide +kernel
theorem dX2_isWord_2 : decode cX2_isWord 2 = .ok (.lcmp, 1) := by decide +kernel
theorem dX2_isWord_3 : decode cX2_isWord 3 = .ok (.ifCond .gt 5, 3) := by decide +kernel
theorem dX2_isWord_6 : decode cX2_isWord 6 = .ok (.iconst 0, 1) := by decide +kernel
theorem dX2_isWord_7 : decode cX2_isWord 7 = .ok (.ireturn, 1) := by decide +kernel
theorem dX2_isWord_8 : decode cX2_isWord 8 = .ok (.iconst 0, 1) := by decide +kernel
theorem dX2_isWord_9 : decode cX2_isWord 9 = .ok (.istore_n 2, 1) := by decide +kernel
theorem dX2_isWord_10 : decode cX2_isWord 10 = .ok (.iconst 0, 1) := by decide +kernel
theorem dX2_isWord_11 : decode cX2_isWord 11 = .ok (.istore_n 3, 1) := by decide +kernel
theorem dX2_isWord_12 : decode cX2_isWord 12 = .ok (.iload_n 3, 1) := by decide +kernel
theorem dX2_isWord_13 : decode cX2_isWord 13 = .ok (.bipush 8, 2) := by decide +kernel
theorem dX2_isWord_15 : decode cX2_isWord 15 = .ok (.if_icmp .ge 59, 3) := by decide +kernel
theorem dX2_isWord_18 : decode cX2_isWord 18 = .ok (.lload_n 0, 1) := by decide +kernel
theorem dX2_isWord_19 : decode cX2_isWord 19 = .ok (.bipush 8, 2) := by decide +kernel
theorem dX2_isWord_21 : decode cX2_isWord 21 = .ok (.iload_n 3, 1) := by decide +kernel
theorem dX2_isWord_22 : decode cX2_isWord 22 = .ok (.imul, 1) := by decide +kernel
theorem dX2_isWord_23 : decode cX2_isWord 23 = .ok (.lshr, 1) := by decide +kernel
theorem dX2_isWord_24 : decode cX2_isWord 24 = .ok (.l2i, 1) := by decide +kernel
theorem dX2_isWord_25 : decode cX2_isWord 25 = .ok (.sipush 255, 3) := by decide +kernel
theorem dX2_isWord_28 : decode cX2_isWord 28 = .ok (.iand, 1) := by decide +kernel
theorem dX2_isWord_29 : decode cX2_isWord 29 = .ok (.istore 4, 2) := by decide +kernel
theorem dX2_isWord_31 : decode cX2_isWord 31 = .ok (.iload 4, 2) := by decide +kernel
theorem dX2_isWord_33 : decode cX2_isWord 33 = .ok (.ifCond .ne 10, 3) := by decide +kernel
theorem dX2_isWord_36 : decode cX2_isWord 36 = .ok (.iload_n 3, 1) := by decide +kernel
theorem dX2_isWord_37 : decode cX2_isWord 37 = .ok (.ifCond .ne 24, 3) := by decide +kernel
theorem dX2_isWord_40 : decode cX2_isWord 40 = .ok (.goto 19, 3) := by decide +kernel
theorem dX2_isWord_43 : decode cX2_isWord 43 = .ok (.iload_n 2, 1) := by decide +kernel
theorem dX2_isWord_44 : decode cX2_isWord 44 = .ok (.ifCond .ne 15, 3) := by decide +kernel
theorem dX2_isWord_47 : decode cX2_isWord 47 = .ok (.iload 4, 2) := by decide +kernel
theorem dX2_isWord_49 : decode cX2_isWord 49 = .ok (.bipush 97, 2) := by decide +kernel
theorem dX2_isWord_51 : decode cX2_isWord 51 = .ok (.bipush 122, 2) := by decide +kernel
theorem dX2_isWord_53 : decode cX2_isWord 53 = .ok (.invokestatic 94, 3) := by decide +kernel
theorem dX2_isWord_56 : decode cX2_isWord 56 = .ok (.ifCond .ne 5, 3) := by decide +kernel
theorem dX2_isWord_59 : decode cX2_isWord 59 = .ok (.iconst 0, 1) := by decide +kernel
theorem dX2_isWord_60 : decode cX2_isWord 60 = .ok (.ireturn, 1) := by decide +kernel
theorem dX2_isWord_61 : decode cX2_isWord 61 = .ok (.iload 4, 2) := by decide +kernel
theorem dX2_isWord_63 : decode cX2_isWord 63 = .ok (.ifCond .ne 5, 3) := by decide +kernel
theorem dX2_isWord_66 : decode cX2_isWord 66 = .ok (.iconst 1, 1) := by decide +kernel
theorem dX2_isWord_67 : decode cX2_isWord 67 = .ok (.istore_n 2, 1) := by decide +kernel
theorem dX2_isWord_68 : decode cX2_isWord 68 = .ok (.iinc 3 1, 3) := by decide +kernel
theorem dX2_isWord_71 : decode cX2_isWord 71 = .ok (.goto (-59), 3) := by decide +kernel
theorem dX2_isWord_74 : decode cX2_isWord 74 = .ok (.iconst 1, 1) := by decide +kernel
theorem dX2_isWord_75 : decode cX2_isWord 75 = .ok (.ireturn, 1) := by decide +kernel
abbrev cX2_in : ByteArray := prog_26_method_3_code
def yX2_in : MethodName := ⟨"TripleStoreModel", "in", "(III)Z"⟩
theorem dX2_in_0 : decode cX2_in 0 = .ok (.iload_n 0, 1) := by decide +kernel
theorem dX2_in_1 : decode cX2_in 1 = .ok (.iload_n 1, 1) := by decide +kernel
theorem dX2_in_2 : decode cX2_in 2 = .ok (.if_icmp .lt 12, 3) := by decide +kernel
theorem dX2_in_5 : decode cX2_in 5 = .ok (.iload_n 0, 1) := by decide +kernel
theorem dX2_in_6 : decode cX2_in 6 = .ok (.iload_n 2, 1) := by decide +kernel
theorem dX2_in_7 : decode cX2_in 7 = .ok (.if_icmp .gt 7, 3) := by decide +kernel
theorem dX2_in_10 : decode cX2_in 10 = .ok (.iconst 1, 1) := by decide +kernel
theorem dX2_in_11 : decode cX2_in 11 = .ok (.goto 4, 3) := by decide +kernel
theorem dX2_in_14 : decode cX2_in 14 = .ok (.iconst 0, 1) := by decide +kernel
theorem dX2_in_15 : decode cX2_in 15 = .ok (.ireturn, 1) := by decide +kernel
abbrev cX2_isNumber : ByteArray := prog_26_method_6_code
def yX2_isNumber : MethodName := ⟨"TripleStoreModel", "isNumber", "(J)Z"⟩
theorem dX2_isNumber_0 : decode cX2_isNumber 0 = .ok (.lload_n 0, 1) := by decide +kernel
theorem dX2_isNumber_1 : decode cX2_isNumber 1 = .ok (.ldc2_w 98, 3) := by decide +kernel
theorem dX2_isNumber_4 : decode cX2_isNumber 4 = .ok (.lcmp, 1) := by decide +kernel
theorem dX2_isNumber_5 : decode cX2_isNumber 5 = .ok (.ifCond .gt 15, 3) := by decide +kernel
theorem dX2_isNumber_8 : decode cX2_isNumber 8 = .ok (.lload_n 0, 1) := by decide +kernel
theorem dX2_isNumber_9 : decode cX2_isNumber 9 = .ok (.ldc2_w 100, 3) := by decide +kernel
theorem dX2_isNumber_12 : decode cX2_isNumber 12 = .ok (.lcmp, 1) := by decide +kernel
theorem dX2_isNumber_13 : decode cX2_isNumber 13 = .ok (.ifCond .lt 7, 3) := by decide +kernel
theorem dX2_isNumber_16 : decode cX2_isNumber 16 = .ok (.iconst 1, 1) := by decide +kernel
theorem dX2_isNumber_17 : decode cX2_isNumber 17 = .ok (.goto 4, 3) := by decide +kernel
theorem dX2_isNumber_20 : decode cX2_isNumber 20 = .ok (.iconst 0, 1) := by decide +kernel
theorem dX2_isNumber_21 : decode cX2_isNumber 21 = .ok (.ireturn, 1) := by decide +kernel
abbrev cX2_good : ByteArray := prog_26_method_4_code
def yX2_good : MethodName := ⟨"TripleStoreModel", "good", "(ZI)Z"⟩
theorem dX2_good_0 : decode cX2_good 0 = .ok (.aload_n 0, 1) := by decide +kernel
theorem dX2_good_1 : decode cX2_good 1 = .ok (.iload_n 1, 1) := by decide +kernel
theorem dX2_good_2 : decode cX2_good 2 = .ok (.ifCond .eq 7, 3) := by decide +kernel
theorem dX2_good_5 : decode cX2_good 5 = .ok (.iconst 0, 1) := by decide +kernel
theorem dX2_good_6 : decode cX2_good 6 = .ok (.goto 4, 3) := by decide +kernel
theorem dX2_good_9 : decode cX2_good 9 = .ok (.iload_n 2, 1) := by decide +kernel
theorem dX2_good_10 : decode cX2_good 10 = .ok (.putfield 91, 3) := by decide +kernel
theorem dX2_good_13 : decode cX2_good 13 = .ok (.iload_n 1, 1) := by decide +kernel
theorem dX2_good_14 : decode cX2_good 14 = .ok (.ireturn, 1) := by decide +kernel
abbrev cX2_does : ByteArray := prog_26_method_10_code
def yX2_does : MethodName := ⟨"TripleStoreModel", "does", "(ZJJJ)I"⟩
theorem dX2_does_0 : decode cX2_does 0 = .ok (.aload_n 0, 1) := by decide +kernel
theorem dX2_does_1 : decode cX2_does 1 = .ok (.lload_n 2, 1) := by decide +kernel
theorem dX2_does_2 : decode cX2_does 2 = .ok (.lload 4, 2) := by decide +kernel
theorem dX2_does_4 : decode cX2_does 4 = .ok (.lload 6, 2) := by decide +kernel
theorem dX2_does_6 : decode cX2_does 6 = .ok (.invokevirtual 105, 3) := by decide +kernel
theorem dX2_does_9 : decode cX2_does 9 = .ok (.aload_n 0, 1) := by decide +kernel
theorem dX2_does_10 : decode cX2_does 10 = .ok (.getfield 102, 3) := by decide +kernel
theorem dX2_does_13 : decode cX2_does 13 = .ok (.if_icmp .ge 7, 3) := by decide +kernel
theorem dX2_does_16 : decode cX2_does 16 = .ok (.iconst 1, 1) := by decide +kernel
theorem dX2_does_17 : decode cX2_does 17 = .ok (.goto 4, 3) := by decide +kernel
theorem dX2_does_20 : decode cX2_does 20 = .ok (.iconst 0, 1) := by decide +kernel
theorem dX2_does_21 : decode cX2_does 21 = .ok (.istore 8, 2) := by decide +kernel
theorem dX2_does_23 : decode cX2_does 23 = .ok (.iload 8, 2) := by decide +kernel
theorem dX2_does_25 : decode cX2_does 25 = .ok (.iload_n 1, 1) := by decide +kernel
theorem dX2_does_26 : decode cX2_does 26 = .ok (.if_icmp .ne 5, 3) := by decide +kernel
theorem dX2_does_29 : decode cX2_does 29 = .ok (.iconst 0, 1) := by decide +kernel
theorem dX2_does_30 : decode cX2_does 30 = .ok (.ireturn, 1) := by decide +kernel
theorem dX2_does_31 : decode cX2_does 31 = .ok (.iload_n 1, 1) := by decide +kernel
theorem dX2_does_32 : decode cX2_does 32 = .ok (.ifCond .eq 27, 3) := by decide +kernel
theorem dX2_does_35 : decode cX2_does 35 = .ok (.aload_n 0, 1) := by decide +kernel
theorem dX2_does_36 : decode cX2_does 36 = .ok (.aload_n 0, 1) := by decide +kernel
theorem dX2_does_37 : decode cX2_does 37 = .ok (.getfield 102, 3) := by decide +kernel
theorem dX2_does_40 : decode cX2_does 40 = .ok (.bipush 48, 2) := by decide +kernel
theorem dX2_does_42 : decode cX2_does 42 = .ok (.if_icmp .ge 7, 3) := by decide +kernel
theorem dX2_does_45 : decode cX2_does 45 = .ok (.iconst 1, 1) := by decide +kernel
theorem dX2_does_46 : decode cX2_does 46 = .ok (.goto 4, 3) := by decide +kernel
theorem dX2_does_49 : decode cX2_does 49 = .ok (.iconst 0, 1) := by decide +kernel
theorem dX2_does_50 : decode cX2_does 50 = .ok (.iconst 2, 1) := by decide +kernel
theorem dX2_does_51 : decode cX2_does 51 = .ok (.invokevirtual 109, 3) := by decide +kernel
theorem dX2_does_54 : decode cX2_does 54 = .ok (.ifCond .ne 5, 3) := by decide +kernel
theorem dX2_does_57 : decode cX2_does 57 = .ok (.iconst 0, 1) := by decide +kernel
theorem dX2_does_58 : decode cX2_does 58 = .ok (.ireturn, 1) := by decide +kernel
theorem dX2_does_59 : decode cX2_does 59 = .ok (.aload_n 0, 1) := by decide +kernel
theorem dX2_does_60 : decode cX2_does 60 = .ok (.iload_n 1, 1) := by decide +kernel
theorem dX2_does_61 : decode cX2_does 61 = .ok (.lload_n 2, 1) := by decide +kernel
theorem dX2_does_62 : decode cX2_does 62 = .ok (.lload 4, 2) := by decide +kernel
theorem dX2_does_64 : decode cX2_does 64 = .ok (.lload 6, 2) := by decide +kernel
theorem dX2_does_66 : decode cX2_does 66 = .ok (.invokevirtual 113, 3) := by decide +kernel
theorem dX2_does_69 : decode cX2_does 69 = .ok (.aload_n 0, 1) := by decide +kernel
theorem dX2_does_70 : decode cX2_does 70 = .ok (.getfield 16, 3) := by decide +kernel
theorem dX2_does_73 : decode cX2_does 73 = .ok (.iconst 3, 1) := by decide +kernel
theorem dX2_does_74 : decode cX2_does 74 = .ok (.aload_n 0, 1) := by decide +kernel
theorem dX2_does_75 : decode cX2_does 75 = .ok (.getfield 117, 3) := by decide +kernel
theorem dX2_does_78 : decode cX2_does 78 = .ok (.imul, 1) := by decide +kernel
theorem dX2_does_79 : decode cX2_does 79 = .ok (.lload_n 2, 1) := by decide +kernel
theorem dX2_does_80 : decode cX2_does 80 = .ok (.lastore, 1) := by decide +kernel
theorem dX2_does_81 : decode cX2_does 81 = .ok (.aload_n 0, 1) := by decide +kernel
theorem dX2_does_82 : decode cX2_does 82 = .ok (.getfield 16, 3) := by decide +kernel
theorem dX2_does_85 : decode cX2_does 85 = .ok (.iconst 3, 1) := by decide +kernel
theorem dX2_does_86 : decode cX2_does 86 = .ok (.aload_n 0, 1) := by decide +kernel
theorem dX2_does_87 : decode cX2_does 87 = .ok (.getfield 117, 3) := by decide +kernel
theorem dX2_does_90 : decode cX2_does 90 = .ok (.imul, 1) := by decide +kernel
theorem dX2_does_91 : decode cX2_does 91 = .ok (.iconst 1, 1) := by decide +kernel
theorem dX2_does_92 : decode cX2_does 92 = .ok (.iadd, 1) := by decide +kernel
theorem dX2_does_93 : decode cX2_does 93 = .ok (.lload 4, 2) := by decide +kernel
theorem dX2_does_95 : decode cX2_does 95 = .ok (.lastore, 1) := by decide +kernel
theorem dX2_does_96 : decode cX2_does 96 = .ok (.aload_n 0, 1) := by decide +kernel
theorem dX2_does_97 : decode cX2_does 97 = .ok (.getfield 16, 3) := by decide +kernel
theorem dX2_does_100 : decode cX2_does 100 = .ok (.iconst 3, 1) := by decide +kernel
theorem dX2_does_101 : decode cX2_does 101 = .ok (.aload_n 0, 1) := by decide +kernel
theorem dX2_does_102 : decode cX2_does 102 = .ok (.getfield 117, 3) := by decide +kernel
theorem dX2_does_105 : decode cX2_does 105 = .ok (.imul, 1) := by decide +kernel
theorem dX2_does_106 : decode cX2_does 106 = .ok (.iconst 2, 1) := by decide +kernel
theorem dX2_does_107 : decode cX2_does 107 = .ok (.iadd, 1) := by decide +kernel
theorem dX2_does_108 : decode cX2_does 108 = .ok (.lload 6, 2) := by decide +kernel
theorem dX2_does_110 : decode cX2_does 110 = .ok (.lastore, 1) := by decide +kernel
theorem dX2_does_111 : decode cX2_does 111 = .ok (.aload_n 0, 1) := by decide +kernel
theorem dX2_does_112 : decode cX2_does 112 = .ok (.getfield 19, 3) := by decide +kernel
theorem dX2_does_115 : decode cX2_does 115 = .ok (.aload_n 0, 1) := by decide +kernel
theorem dX2_does_116 : decode cX2_does 116 = .ok (.getfield 117, 3) := by decide +kernel
theorem dX2_does_119 : decode cX2_does 119 = .ok (.iload_n 1, 1) := by decide +kernel
theorem dX2_does_120 : decode cX2_does 120 = .ok (.bastore, 1) := by decide +kernel
theorem dX2_does_121 : decode cX2_does 121 = .ok (.aload_n 0, 1) := by decide +kernel
theorem dX2_does_122 : decode cX2_does 122 = .ok (.getfield 23, 3) := by decide +kernel
theorem dX2_does_125 : decode cX2_does 125 = .ok (.aload_n 0, 1) := by decide +kernel
theorem dX2_does_126 : decode cX2_does 126 = .ok (.getfield 117, 3) := by decide +kernel
theorem dX2_does_129 : decode cX2_does 129 = .ok (.aload_n 0, 1) := by decide +kernel
theorem dX2_does_130 : decode cX2_does 130 = .ok (.getfield 120, 3) := by decide +kernel
theorem dX2_does_133 : decode cX2_does 133 = .ok (.iastore, 1) := by decide +kernel
theorem dX2_does_134 : decode cX2_does 134 = .ok (.aload_n 0, 1) := by decide +kernel
theorem dX2_does_135 : decode cX2_does 135 = .ok (.dup, 1) := by decide +kernel
theorem dX2_does_136 : decode cX2_does 136 = .ok (.getfield 117, 3) := by decide +kernel
theorem dX2_does_139 : decode cX2_does 139 = .ok (.iconst 1, 1) := by decide +kernel
theorem dX2_does_140 : decode cX2_does 140 = .ok (.iadd, 1) := by decide +kernel
theorem dX2_does_141 : decode cX2_does 141 = .ok (.putfield 117, 3) := by decide +kernel
theorem dX2_does_144 : decode cX2_does 144 = .ok (.aload_n 0, 1) := by decide +kernel
theorem dX2_does_145 : decode cX2_does 145 = .ok (.getfield 123, 3) := by decide +kernel
theorem dX2_does_148 : decode cX2_does 148 = .ok (.ifCond .ne 7, 3) := by decide +kernel
theorem dX2_does_151 : decode cX2_does 151 = .ok (.aload_n 0, 1) := by decide +kernel
theorem dX2_does_152 : decode cX2_does 152 = .ok (.invokevirtual 127, 3) := by decide +kernel
theorem dX2_does_155 : decode cX2_does 155 = .ok (.iconst 1, 1) := by decide +kernel
theorem dX2_does_156 : decode cX2_does 156 = .ok (.ireturn, 1) := by decide +kernel
abbrev cX2_find : ByteArray := prog_26_method_8_code
def yX2_find : MethodName := ⟨"TripleStoreModel", "find", "(JJJ)I"⟩
theorem dX2_find_0 : decode cX2_find 0 = .ok (.iconst 0, 1) := by decide +kernel
theorem dX2_find_1 : decode cX2_find 1 = .ok (.istore 7, 2) := by decide +kernel
theorem dX2_find_3 : decode cX2_find 3 = .ok (.iload 7, 2) := by decide +kernel
theorem dX2_find_5 : decode cX2_find 5 = .ok (.aload_n 0, 1) := by decide +kernel
theorem dX2_find_6 : decode cX2_find 6 = .ok (.getfield 102, 3) := by decide +kernel
theorem dX2_find_9 : decode cX2_find 9 = .ok (.if_icmp .ge 56, 3) := by decide +kernel
theorem dX2_find_12 : decode cX2_find 12 = .ok (.aload_n 0, 1) := by decide +kernel
theorem dX2_find_13 : decode cX2_find 13 = .ok (.getfield 7, 3) := by decide +kernel
theorem dX2_find_16 : decode cX2_find 16 = .ok (.iconst 3, 1) := by decide +kernel
theorem dX2_find_17 : decode cX2_find 17 = .ok (.iload 7, 2) := by decide +kernel
theorem dX2_find_19 : decode cX2_find 19 = .ok (.imul, 1) := by decide +kernel
theorem dX2_find_20 : decode cX2_find 20 = .ok (.laload, 1) := by decide +kernel
theorem dX2_find_21 : decode cX2_find 21 = .ok (.lload_n 1, 1) := by decide +kernel
theorem dX2_find_22 : decode cX2_find 22 = .ok (.lcmp, 1) := by decide +kernel
theorem dX2_find_23 : decode cX2_find 23 = .ok (.ifCond .ne 36, 3) := by decide +kernel
theorem dX2_find_26 : decode cX2_find 26 = .ok (.aload_n 0, 1) := by decide +kernel
theorem dX2_find_27 : decode cX2_find 27 = .ok (.getfield 7, 3) := by decide +kernel
theorem dX2_find_30 : decode cX2_find 30 = .ok (.iconst 3, 1) := by decide +kernel
theorem dX2_find_31 : decode cX2_find 31 = .ok (.iload 7, 2) := by decide +kernel
theorem dX2_find_33 : decode cX2_find 33 = .ok (.imul, 1) := by decide +kernel
theorem dX2_find_34 : decode cX2_find 34 = .ok (.iconst 1, 1) := by decide +kernel
theorem dX2_find_35 : decode cX2_find 35 = .ok (.iadd, 1) := by decide +kernel
theorem dX2_find_36 : decode cX2_find 36 = .ok (.laload, 1) := by decide +kernel
theorem dX2_find_37 : decode cX2_find 37 = .ok (.lload_n 3, 1) := by decide +kernel
theorem dX2_find_38 : decode cX2_find 38 = .ok (.lcmp, 1) := by decide +kernel
theorem dX2_find_39 : decode cX2_find 39 = .ok (.ifCond .ne 20, 3) := by decide +kernel
theorem dX2_find_42 : decode cX2_find 42 = .ok (.aload_n 0, 1) := by decide +kernel
theorem dX2_find_43 : decode cX2_find 43 = .ok (.getfield 7, 3) := by decide +kernel
theorem dX2_find_46 : decode cX2_find 46 = .ok (.iconst 3, 1) := by decide +kernel
theorem dX2_find_47 : decode cX2_find 47 = .ok (.iload 7, 2) := by decide +kernel
theorem dX2_find_49 : decode cX2_find 49 = .ok (.imul, 1) := by decide +kernel
theorem dX2_find_50 : decode cX2_find 50 = .ok (.iconst 2, 1) := by decide +kernel
theorem dX2_find_51 : decode cX2_find 51 = .ok (.iadd, 1) := by decide +kernel
theorem dX2_find_52 : decode cX2_find 52 = .ok (.laload, 1) := by decide +kernel
theorem dX2_find_53 : decode cX2_find 53 = .ok (.lload 5, 2) := by decide +kernel
theorem dX2_find_55 : decode cX2_find 55 = .ok (.lcmp, 1) := by decide +kernel
theorem dX2_find_56 : decode cX2_find 56 = .ok (.ifCond .eq 9, 3) := by decide +kernel
theorem dX2_find_59 : decode cX2_find 59 = .ok (.iinc 7 1, 3) := by decide +kernel
theorem dX2_find_62 : decode cX2_find 62 = .ok (.goto (-59), 3) := by decide +kernel
theorem dX2_find_65 : decode cX2_find 65 = .ok (.iload 7, 2) := by decide +kernel
theorem dX2_find_67 : decode cX2_find 67 = .ok (.ireturn, 1) := by decide +kernel
abbrev cX2_apply : ByteArray := prog_26_method_9_code
def yX2_apply : MethodName := ⟨"TripleStoreModel", "apply", "(ZJJJ)V"⟩
theorem dX2_apply_0 : decode cX2_apply 0 = .ok (.aload_n 0, 1) := by decide +kernel
theorem dX2_apply_1 : decode cX2_apply 1 = .ok (.lload_n 2, 1) := by decide +kernel
theorem dX2_apply_2 : decode cX2_apply 2 = .ok (.lload 4, 2) := by decide +kernel
theorem dX2_apply_4 : decode cX2_apply 4 = .ok (.lload 6, 2) := by decide +kernel
theorem dX2_apply_6 : decode cX2_apply 6 = .ok (.invokevirtual 105, 3) := by decide +kernel
theorem dX2_apply_9 : decode cX2_apply 9 = .ok (.istore 8, 2) := by decide +kernel
theorem dX2_apply_11 : decode cX2_apply 11 = .ok (.iload_n 1, 1) := by decide +kernel
theorem dX2_apply_12 : decode cX2_apply 12 = .ok (.ifCond .eq 56, 3) := by decide +kernel
theorem dX2_apply_15 : decode cX2_apply 15 = .ok (.aload_n 0, 1) := by decide +kernel
theorem dX2_apply_16 : decode cX2_apply 16 = .ok (.getfield 7, 3) := by decide +kernel
theorem dX2_apply_19 : decode cX2_apply 19 = .ok (.iconst 3, 1) := by decide +kernel
theorem dX2_apply_20 : decode cX2_apply 20 = .ok (.aload_n 0, 1) := by decide +kernel
theorem dX2_apply_21 : decode cX2_apply 21 = .ok (.getfield 102, 3) := by decide +kernel
theorem dX2_apply_24 : decode cX2_apply 24 = .ok (.imul, 1) := by decide +kernel
theorem dX2_apply_25 : decode cX2_apply 25 = .ok (.lload_n 2, 1) := by decide +kernel
theorem dX2_apply_26 : decode cX2_apply 26 = .ok (.lastore, 1) := by decide +kernel
theorem dX2_apply_27 : decode cX2_apply 27 = .ok (.aload_n 0, 1) := by decide +kernel
theorem dX2_apply_28 : decode cX2_apply 28 = .ok (.getfield 7, 3) := by decide +kernel
theorem dX2_apply_31 : decode cX2_apply 31 = .ok (.iconst 3, 1) := by decide +kernel
theorem dX2_apply_32 : decode cX2_apply 32 = .ok (.aload_n 0, 1) := by decide +kernel
theorem dX2_apply_33 : decode cX2_apply 33 = .ok (.getfield 102, 3) := by decide +kernel
theorem dX2_apply_36 : decode cX2_apply 36 = .ok (.imul, 1) := by decide +kernel
theorem dX2_apply_37 : decode cX2_apply 37 = .ok (.iconst 1, 1) := by decide +kernel
theorem dX2_apply_38 : decode cX2_apply 38 = .ok (.iadd, 1) := by decide +kernel
theorem dX2_apply_39 : decode cX2_apply 39 = .ok (.lload 4, 2) := by decide +kernel
theorem dX2_apply_41 : decode cX2_apply 41 = .ok (.lastore, 1) := by decide +kernel
theorem dX2_apply_42 : decode cX2_apply 42 = .ok (.aload_n 0, 1) := by decide +kernel
theorem dX2_apply_43 : decode cX2_apply 43 = .ok (.getfield 7, 3) := by decide +kernel
theorem dX2_apply_46 : decode cX2_apply 46 = .ok (.iconst 3, 1) := by decide +kernel
theorem dX2_apply_47 : decode cX2_apply 47 = .ok (.aload_n 0, 1) := by decide +kernel
theorem dX2_apply_48 : decode cX2_apply 48 = .ok (.getfield 102, 3) := by decide +kernel
theorem dX2_apply_51 : decode cX2_apply 51 = .ok (.imul, 1) := by decide +kernel
theorem dX2_apply_52 : decode cX2_apply 52 = .ok (.iconst 2, 1) := by decide +kernel
theorem dX2_apply_53 : decode cX2_apply 53 = .ok (.iadd, 1) := by decide +kernel
theorem dX2_apply_54 : decode cX2_apply 54 = .ok (.lload 6, 2) := by decide +kernel
theorem dX2_apply_56 : decode cX2_apply 56 = .ok (.lastore, 1) := by decide +kernel
theorem dX2_apply_57 : decode cX2_apply 57 = .ok (.aload_n 0, 1) := by decide +kernel
theorem dX2_apply_58 : decode cX2_apply 58 = .ok (.dup, 1) := by decide +kernel
theorem dX2_apply_59 : decode cX2_apply 59 = .ok (.getfield 102, 3) := by decide +kernel
theorem dX2_apply_62 : decode cX2_apply 62 = .ok (.iconst 1, 1) := by decide +kernel
theorem dX2_apply_63 : decode cX2_apply 63 = .ok (.iadd, 1) := by decide +kernel
theorem dX2_apply_64 : decode cX2_apply 64 = .ok (.putfield 102, 3) := by decide +kernel
theorem dX2_apply_67 : decode cX2_apply 67 = .ok (.return_, 1) := by decide +kernel
theorem dX2_apply_68 : decode cX2_apply 68 = .ok (.aload_n 0, 1) := by decide +kernel
theorem dX2_apply_69 : decode cX2_apply 69 = .ok (.dup, 1) := by decide +kernel
theorem dX2_apply_70 : decode cX2_apply 70 = .ok (.getfield 102, 3) := by decide +kernel
theorem dX2_apply_73 : decode cX2_apply 73 = .ok (.iconst 1, 1) := by decide +kernel
theorem dX2_apply_74 : decode cX2_apply 74 = .ok (.isub, 1) := by decide +kernel
theorem dX2_apply_75 : decode cX2_apply 75 = .ok (.putfield 102, 3) := by decide +kernel
theorem dX2_apply_78 : decode cX2_apply 78 = .ok (.iconst 0, 1) := by decide +kernel
theorem dX2_apply_79 : decode cX2_apply 79 = .ok (.istore 9, 2) := by decide +kernel
theorem dX2_apply_81 : decode cX2_apply 81 = .ok (.iload 9, 2) := by decide +kernel
theorem dX2_apply_83 : decode cX2_apply 83 = .ok (.iconst 3, 1) := by decide +kernel
theorem dX2_apply_84 : decode cX2_apply 84 = .ok (.if_icmp .ge 35, 3) := by decide +kernel
theorem dX2_apply_87 : decode cX2_apply 87 = .ok (.aload_n 0, 1) := by decide +kernel
theorem dX2_apply_88 : decode cX2_apply 88 = .ok (.getfield 7, 3) := by decide +kernel
theorem dX2_apply_91 : decode cX2_apply 91 = .ok (.iconst 3, 1) := by decide +kernel
theorem dX2_apply_92 : decode cX2_apply 92 = .ok (.iload 8, 2) := by decide +kernel
theorem dX2_apply_94 : decode cX2_apply 94 = .ok (.imul, 1) := by decide +kernel
theorem dX2_apply_95 : decode cX2_apply 95 = .ok (.iload 9, 2) := by decide +kernel
theorem dX2_apply_97 : decode cX2_apply 97 = .ok (.iadd, 1) := by decide +kernel
theorem dX2_apply_98 : decode cX2_apply 98 = .ok (.aload_n 0, 1) := by decide +kernel
theorem dX2_apply_99 : decode cX2_apply 99 = .ok (.getfield 7, 3) := by decide +kernel
theorem dX2_apply_102 : decode cX2_apply 102 = .ok (.iconst 3, 1) := by decide +kernel
theorem dX2_apply_103 : decode cX2_apply 103 = .ok (.aload_n 0, 1) := by decide +kernel
theorem dX2_apply_104 : decode cX2_apply 104 = .ok (.getfield 102, 3) := by decide +kernel
theorem dX2_apply_107 : decode cX2_apply 107 = .ok (.imul, 1) := by decide +kernel
theorem dX2_apply_108 : decode cX2_apply 108 = .ok (.iload 9, 2) := by decide +kernel
theorem dX2_apply_110 : decode cX2_apply 110 = .ok (.iadd, 1) := by decide +kernel
theorem dX2_apply_111 : decode cX2_apply 111 = .ok (.laload, 1) := by decide +kernel
theorem dX2_apply_112 : decode cX2_apply 112 = .ok (.lastore, 1) := by decide +kernel
theorem dX2_apply_113 : decode cX2_apply 113 = .ok (.iinc 9 1, 3) := by decide +kernel
theorem dX2_apply_116 : decode cX2_apply 116 = .ok (.goto (-35), 3) := by decide +kernel
theorem dX2_apply_119 : decode cX2_apply 119 = .ok (.return_, 1) := by decide +kernel
abbrev cX2_close : ByteArray := prog_26_method_11_code
def yX2_close : MethodName := ⟨"TripleStoreModel", "close", "()V"⟩
theorem dX2_close_0 : decode cX2_close 0 = .ok (.aload_n 0, 1) := by decide +kernel
theorem dX2_close_1 : decode cX2_close 1 = .ok (.dup, 1) := by decide +kernel
theorem dX2_close_2 : decode cX2_close 2 = .ok (.getfield 130, 3) := by decide +kernel
theorem dX2_close_5 : decode cX2_close 5 = .ok (.iconst 1, 1) := by decide +kernel
theorem dX2_close_6 : decode cX2_close 6 = .ok (.iadd, 1) := by decide +kernel
theorem dX2_close_7 : decode cX2_close 7 = .ok (.putfield 130, 3) := by decide +kernel
theorem dX2_close_10 : decode cX2_close 10 = .ok (.aload_n 0, 1) := by decide +kernel
theorem dX2_close_11 : decode cX2_close 11 = .ok (.dup, 1) := by decide +kernel
theorem dX2_close_12 : decode cX2_close 12 = .ok (.getfield 120, 3) := by decide +kernel
theorem dX2_close_15 : decode cX2_close 15 = .ok (.iconst 1, 1) := by decide +kernel
theorem dX2_close_16 : decode cX2_close 16 = .ok (.iadd, 1) := by decide +kernel
theorem dX2_close_17 : decode cX2_close 17 = .ok (.putfield 120, 3) := by decide +kernel
theorem dX2_close_20 : decode cX2_close 20 = .ok (.aload_n 0, 1) := by decide +kernel
theorem dX2_close_21 : decode cX2_close 21 = .ok (.iconst 0, 1) := by decide +kernel
theorem dX2_close_22 : decode cX2_close 22 = .ok (.putfield 123, 3) := by decide +kernel
theorem dX2_close_25 : decode cX2_close 25 = .ok (.return_, 1) := by decide +kernel
abbrev cX2_remove : ByteArray := prog_26_method_14_code
def yX2_remove : MethodName := ⟨"TripleStoreModel", "remove", "(JJJ)I"⟩
theorem dX2_remove_0 : decode cX2_remove 0 = .ok (.aload_n 0, 1) := by decide +kernel
theorem dX2_remove_1 : decode cX2_remove 1 = .ok (.lload_n 1, 1) := by decide +kernel
theorem dX2_remove_2 : decode cX2_remove 2 = .ok (.lload_n 3, 1) := by decide +kernel
theorem dX2_remove_3 : decode cX2_remove 3 = .ok (.lload 5, 2) := by decide +kernel
theorem dX2_remove_5 : decode cX2_remove 5 = .ok (.invokevirtual 140, 3) := by decide +kernel
theorem dX2_remove_8 : decode cX2_remove 8 = .ok (.ifCond .eq 15, 3) := by decide +kernel
theorem dX2_remove_11 : decode cX2_remove 11 = .ok (.aload_n 0, 1) := by decide +kernel
theorem dX2_remove_12 : decode cX2_remove 12 = .ok (.iconst 0, 1) := by decide +kernel
theorem dX2_remove_13 : decode cX2_remove 13 = .ok (.lload_n 1, 1) := by decide +kernel
theorem dX2_remove_14 : decode cX2_remove 14 = .ok (.lload_n 3, 1) := by decide +kernel
theorem dX2_remove_15 : decode cX2_remove 15 = .ok (.lload 5, 2) := by decide +kernel
theorem dX2_remove_17 : decode cX2_remove 17 = .ok (.invokevirtual 144, 3) := by decide +kernel
theorem dX2_remove_20 : decode cX2_remove 20 = .ok (.goto 4, 3) := by decide +kernel
theorem dX2_remove_23 : decode cX2_remove 23 = .ok (.iconst 0, 1) := by decide +kernel
theorem dX2_remove_24 : decode cX2_remove 24 = .ok (.ireturn, 1) := by decide +kernel
abbrev cX2_begin : ByteArray := prog_26_method_15_code
def yX2_begin : MethodName := ⟨"TripleStoreModel", "begin", "()I"⟩
theorem dX2_begin_0 : decode cX2_begin 0 = .ok (.aload_n 0, 1) := by decide +kernel
theorem dX2_begin_1 : decode cX2_begin 1 = .ok (.aload_n 0, 1) := by decide +kernel
theorem dX2_begin_2 : decode cX2_begin 2 = .ok (.getfield 123, 3) := by decide +kernel
theorem dX2_begin_5 : decode cX2_begin 5 = .ok (.ifCond .ne 7, 3) := by decide +kernel
theorem dX2_begin_8 : decode cX2_begin 8 = .ok (.iconst 1, 1) := by decide +kernel
theorem dX2_begin_9 : decode cX2_begin 9 = .ok (.goto 4, 3) := by decide +kernel
theorem dX2_begin_12 : decode cX2_begin 12 = .ok (.iconst 0, 1) := by decide +kernel
theorem dX2_begin_13 : decode cX2_begin 13 = .ok (.iconst 1, 1) := by decide +kernel
theorem dX2_begin_14 : decode cX2_begin 14 = .ok (.invokevirtual 109, 3) := by decide +kernel
theorem dX2_begin_17 : decode cX2_begin 17 = .ok (.ifCond .ne 5, 3) := by decide +kernel
theorem dX2_begin_20 : decode cX2_begin 20 = .ok (.iconst 0, 1) := by decide +kernel
theorem dX2_begin_21 : decode cX2_begin 21 = .ok (.ireturn, 1) := by decide +kernel
theorem dX2_begin_22 : decode cX2_begin 22 = .ok (.aload_n 0, 1) := by decide +kernel
theorem dX2_begin_23 : decode cX2_begin 23 = .ok (.iconst 1, 1) := by decide +kernel
theorem dX2_begin_24 : decode cX2_begin 24 = .ok (.putfield 123, 3) := by decide +kernel
theorem dX2_begin_27 : decode cX2_begin 27 = .ok (.aload_n 0, 1) := by decide +kernel
theorem dX2_begin_28 : decode cX2_begin 28 = .ok (.aload_n 0, 1) := by decide +kernel
theorem dX2_begin_29 : decode cX2_begin 29 = .ok (.getfield 117, 3) := by decide +kernel
theorem dX2_begin_32 : decode cX2_begin 32 = .ok (.putfield 148, 3) := by decide +kernel
theorem dX2_begin_35 : decode cX2_begin 35 = .ok (.aload_n 0, 1) := by decide +kernel
theorem dX2_begin_36 : decode cX2_begin 36 = .ok (.getfield 130, 3) := by decide +kernel
theorem dX2_begin_39 : decode cX2_begin 39 = .ok (.ireturn, 1) := by decide +kernel
abbrev cX2_commit : ByteArray := prog_26_method_16_code
def yX2_commit : MethodName := ⟨"TripleStoreModel", "commit", "()I"⟩
theorem dX2_commit_0 : decode cX2_commit 0 = .ok (.aload_n 0, 1) := by decide +kernel
theorem dX2_commit_1 : decode cX2_commit 1 = .ok (.aload_n 0, 1) := by decide +kernel
theorem dX2_commit_2 : decode cX2_commit 2 = .ok (.getfield 123, 3) := by decide +kernel
theorem dX2_commit_5 : decode cX2_commit 5 = .ok (.iconst 1, 1) := by decide +kernel
theorem dX2_commit_6 : decode cX2_commit 6 = .ok (.invokevirtual 109, 3) := by decide +kernel
theorem dX2_commit_9 : decode cX2_commit 9 = .ok (.ifCond .ne 5, 3) := by decide +kernel
theorem dX2_commit_12 : decode cX2_commit 12 = .ok (.iconst 0, 1) := by decide +kernel
theorem dX2_commit_13 : decode cX2_commit 13 = .ok (.ireturn, 1) := by decide +kernel
theorem dX2_commit_14 : decode cX2_commit 14 = .ok (.aload_n 0, 1) := by decide +kernel
theorem dX2_commit_15 : decode cX2_commit 15 = .ok (.invokevirtual 127, 3) := by decide +kernel
theorem dX2_commit_18 : decode cX2_commit 18 = .ok (.aload_n 0, 1) := by decide +kernel
theorem dX2_commit_19 : decode cX2_commit 19 = .ok (.getfield 117, 3) := by decide +kernel
theorem dX2_commit_22 : decode cX2_commit 22 = .ok (.aload_n 0, 1) := by decide +kernel
theorem dX2_commit_23 : decode cX2_commit 23 = .ok (.getfield 148, 3) := by decide +kernel
theorem dX2_commit_26 : decode cX2_commit 26 = .ok (.isub, 1) := by decide +kernel
theorem dX2_commit_27 : decode cX2_commit 27 = .ok (.ireturn, 1) := by decide +kernel
abbrev cX2_rollback : ByteArray := prog_26_method_18_code
def yX2_rollback : MethodName := ⟨"TripleStoreModel", "rollback", "()I"⟩
theorem dX2_rollback_0 : decode cX2_rollback 0 = .ok (.aload_n 0, 1) := by decide +kernel
theorem dX2_rollback_1 : decode cX2_rollback 1 = .ok (.aload_n 0, 1) := by decide +kernel
theorem dX2_rollback_2 : decode cX2_rollback 2 = .ok (.getfield 123, 3) := by decide +kernel
theorem dX2_rollback_5 : decode cX2_rollback 5 = .ok (.iconst 1, 1) := by decide +kernel
theorem dX2_rollback_6 : decode cX2_rollback 6 = .ok (.invokevirtual 109, 3) := by decide +kernel
theorem dX2_rollback_9 : decode cX2_rollback 9 = .ok (.ifCond .ne 5, 3) := by decide +kernel
theorem dX2_rollback_12 : decode cX2_rollback 12 = .ok (.iconst 0, 1) := by decide +kernel
theorem dX2_rollback_13 : decode cX2_rollback 13 = .ok (.ireturn, 1) := by decide +kernel
theorem dX2_rollback_14 : decode cX2_rollback 14 = .ok (.aload_n 0, 1) := by decide +kernel
theorem dX2_rollback_15 : decode cX2_rollback 15 = .ok (.getfield 117, 3) := by decide +kernel
theorem dX2_rollback_18 : decode cX2_rollback 18 = .ok (.aload_n 0, 1) := by decide +kernel
theorem dX2_rollback_19 : decode cX2_rollback 19 = .ok (.getfield 148, 3) := by decide +kernel
theorem dX2_rollback_22 : decode cX2_rollback 22 = .ok (.isub, 1) := by decide +kernel
theorem dX2_rollback_23 : decode cX2_rollback 23 = .ok (.istore_n 1, 1) := by decide +kernel
theorem dX2_rollback_24 : decode cX2_rollback 24 = .ok (.aload_n 0, 1) := by decide +kernel
theorem dX2_rollback_25 : decode cX2_rollback 25 = .ok (.aload_n 0, 1) := by decide +kernel
theorem dX2_rollback_26 : decode cX2_rollback 26 = .ok (.getfield 148, 3) := by decide +kernel
theorem dX2_rollback_29 : decode cX2_rollback 29 = .ok (.invokevirtual 151, 3) := by decide +kernel
theorem dX2_rollback_32 : decode cX2_rollback 32 = .ok (.aload_n 0, 1) := by decide +kernel
theorem dX2_rollback_33 : decode cX2_rollback 33 = .ok (.iconst 0, 1) := by decide +kernel
theorem dX2_rollback_34 : decode cX2_rollback 34 = .ok (.putfield 123, 3) := by decide +kernel
theorem dX2_rollback_37 : decode cX2_rollback 37 = .ok (.iload_n 1, 1) := by decide +kernel
theorem dX2_rollback_38 : decode cX2_rollback 38 = .ok (.ireturn, 1) := by decide +kernel
abbrev cX2_undo : ByteArray := prog_26_method_17_code
def yX2_undo : MethodName := ⟨"TripleStoreModel", "undo", "(I)V"⟩
theorem dX2_undo_0 : decode cX2_undo 0 = .ok (.aload_n 0, 1) := by decide +kernel
theorem dX2_undo_1 : decode cX2_undo 1 = .ok (.getfield 117, 3) := by decide +kernel
theorem dX2_undo_4 : decode cX2_undo 4 = .ok (.iload_n 1, 1) := by decide +kernel
theorem dX2_undo_5 : decode cX2_undo 5 = .ok (.if_icmp .le 74, 3) := by decide +kernel
theorem dX2_undo_8 : decode cX2_undo 8 = .ok (.aload_n 0, 1) := by decide +kernel
theorem dX2_undo_9 : decode cX2_undo 9 = .ok (.dup, 1) := by decide +kernel
theorem dX2_undo_10 : decode cX2_undo 10 = .ok (.getfield 117, 3) := by decide +kernel
theorem dX2_undo_13 : decode cX2_undo 13 = .ok (.iconst 1, 1) := by decide +kernel
theorem dX2_undo_14 : decode cX2_undo 14 = .ok (.isub, 1) := by decide +kernel
theorem dX2_undo_15 : decode cX2_undo 15 = .ok (.putfield 117, 3) := by decide +kernel
theorem dX2_undo_18 : decode cX2_undo 18 = .ok (.aload_n 0, 1) := by decide +kernel
theorem dX2_undo_19 : decode cX2_undo 19 = .ok (.aload_n 0, 1) := by decide +kernel
theorem dX2_undo_20 : decode cX2_undo 20 = .ok (.getfield 19, 3) := by decide +kernel
theorem dX2_undo_23 : decode cX2_undo 23 = .ok (.aload_n 0, 1) := by decide +kernel
theorem dX2_undo_24 : decode cX2_undo 24 = .ok (.getfield 117, 3) := by decide +kernel
theorem dX2_undo_27 : decode cX2_undo 27 = .ok (.baload, 1) := by decide +kernel
theorem dX2_undo_28 : decode cX2_undo 28 = .ok (.ifCond .ne 7, 3) := by decide +kernel
theorem dX2_undo_31 : decode cX2_undo 31 = .ok (.iconst 1, 1) := by decide +kernel
theorem dX2_undo_32 : decode cX2_undo 32 = .ok (.goto 4, 3) := by decide +kernel
theorem dX2_undo_35 : decode cX2_undo 35 = .ok (.iconst 0, 1) := by decide +kernel
theorem dX2_undo_36 : decode cX2_undo 36 = .ok (.aload_n 0, 1) := by decide +kernel
theorem dX2_undo_37 : decode cX2_undo 37 = .ok (.getfield 16, 3) := by decide +kernel
theorem dX2_undo_40 : decode cX2_undo 40 = .ok (.iconst 3, 1) := by decide +kernel
theorem dX2_undo_41 : decode cX2_undo 41 = .ok (.aload_n 0, 1) := by decide +kernel
theorem dX2_undo_42 : decode cX2_undo 42 = .ok (.getfield 117, 3) := by decide +kernel
theorem dX2_undo_45 : decode cX2_undo 45 = .ok (.imul, 1) := by decide +kernel
theorem dX2_undo_46 : decode cX2_undo 46 = .ok (.laload, 1) := by decide +kernel
theorem dX2_undo_47 : decode cX2_undo 47 = .ok (.aload_n 0, 1) := by decide +kernel
theorem dX2_undo_48 : decode cX2_undo 48 = .ok (.getfield 16, 3) := by decide +kernel
theorem dX2_undo_51 : decode cX2_undo 51 = .ok (.iconst 3, 1) := by decide +kernel
theorem dX2_undo_52 : decode cX2_undo 52 = .ok (.aload_n 0, 1) := by decide +kernel
theorem dX2_undo_53 : decode cX2_undo 53 = .ok (.getfield 117, 3) := by decide +kernel
theorem dX2_undo_56 : decode cX2_undo 56 = .ok (.imul, 1) := by decide +kernel
theorem dX2_undo_57 : decode cX2_undo 57 = .ok (.iconst 1, 1) := by decide +kernel
theorem dX2_undo_58 : decode cX2_undo 58 = .ok (.iadd, 1) := by decide +kernel
theorem dX2_undo_59 : decode cX2_undo 59 = .ok (.laload, 1) := by decide +kernel
theorem dX2_undo_60 : decode cX2_undo 60 = .ok (.aload_n 0, 1) := by decide +kernel
theorem dX2_undo_61 : decode cX2_undo 61 = .ok (.getfield 16, 3) := by decide +kernel
theorem dX2_undo_64 : decode cX2_undo 64 = .ok (.iconst 3, 1) := by decide +kernel
theorem dX2_undo_65 : decode cX2_undo 65 = .ok (.aload_n 0, 1) := by decide +kernel
theorem dX2_undo_66 : decode cX2_undo 66 = .ok (.getfield 117, 3) := by decide +kernel
theorem dX2_undo_69 : decode cX2_undo 69 = .ok (.imul, 1) := by decide +kernel
theorem dX2_undo_70 : decode cX2_undo 70 = .ok (.iconst 2, 1) := by decide +kernel
theorem dX2_undo_71 : decode cX2_undo 71 = .ok (.iadd, 1) := by decide +kernel
theorem dX2_undo_72 : decode cX2_undo 72 = .ok (.laload, 1) := by decide +kernel
theorem dX2_undo_73 : decode cX2_undo 73 = .ok (.invokevirtual 113, 3) := by decide +kernel
theorem dX2_undo_76 : decode cX2_undo 76 = .ok (.goto (-76), 3) := by decide +kernel
theorem dX2_undo_79 : decode cX2_undo 79 = .ok (.return_, 1) := by decide +kernel
abbrev cX2_sync : ByteArray := prog_26_method_20_code
def yX2_sync : MethodName := ⟨"TripleStoreModel", "sync", "()I"⟩
theorem dX2_sync_0 : decode cX2_sync 0 = .ok (.aload_n 0, 1) := by decide +kernel
theorem dX2_sync_1 : decode cX2_sync 1 = .ok (.iconst 0, 1) := by decide +kernel
theorem dX2_sync_2 : decode cX2_sync 2 = .ok (.putfield 91, 3) := by decide +kernel
theorem dX2_sync_5 : decode cX2_sync 5 = .ok (.aload_n 0, 1) := by decide +kernel
theorem dX2_sync_6 : decode cX2_sync 6 = .ok (.getfield 120, 3) := by decide +kernel
theorem dX2_sync_9 : decode cX2_sync 9 = .ok (.istore_n 1, 1) := by decide +kernel
theorem dX2_sync_10 : decode cX2_sync 10 = .ok (.aload_n 0, 1) := by decide +kernel
theorem dX2_sync_11 : decode cX2_sync 11 = .ok (.invokevirtual 158, 3) := by decide +kernel
theorem dX2_sync_14 : decode cX2_sync 14 = .ok (.iload_n 1, 1) := by decide +kernel
theorem dX2_sync_15 : decode cX2_sync 15 = .ok (.ireturn, 1) := by decide +kernel
abbrev cX2_settle : ByteArray := prog_26_method_19_code
def yX2_settle : MethodName := ⟨"TripleStoreModel", "settle", "()V"⟩
theorem dX2_settle_0 : decode cX2_settle 0 = .ok (.aload_n 0, 1) := by decide +kernel
theorem dX2_settle_1 : decode cX2_settle 1 = .ok (.getfield 123, 3) := by decide +kernel
theorem dX2_settle_4 : decode cX2_settle 4 = .ok (.ifCond .eq 15, 3) := by decide +kernel
theorem dX2_settle_7 : decode cX2_settle 7 = .ok (.aload_n 0, 1) := by decide +kernel
theorem dX2_settle_8 : decode cX2_settle 8 = .ok (.getfield 117, 3) := by decide +kernel
theorem dX2_settle_11 : decode cX2_settle 11 = .ok (.aload_n 0, 1) := by decide +kernel
theorem dX2_settle_12 : decode cX2_settle 12 = .ok (.getfield 148, 3) := by decide +kernel
theorem dX2_settle_15 : decode cX2_settle 15 = .ok (.isub, 1) := by decide +kernel
theorem dX2_settle_16 : decode cX2_settle 16 = .ok (.goto 4, 3) := by decide +kernel
theorem dX2_settle_19 : decode cX2_settle 19 = .ok (.iconst 0, 1) := by decide +kernel
theorem dX2_settle_20 : decode cX2_settle 20 = .ok (.istore_n 1, 1) := by decide +kernel
theorem dX2_settle_21 : decode cX2_settle 21 = .ok (.aload_n 0, 1) := by decide +kernel
theorem dX2_settle_22 : decode cX2_settle 22 = .ok (.getfield 117, 3) := by decide +kernel
theorem dX2_settle_25 : decode cX2_settle 25 = .ok (.iload_n 1, 1) := by decide +kernel
theorem dX2_settle_26 : decode cX2_settle 26 = .ok (.isub, 1) := by decide +kernel
theorem dX2_settle_27 : decode cX2_settle 27 = .ok (.istore_n 2, 1) := by decide +kernel
theorem dX2_settle_28 : decode cX2_settle 28 = .ok (.aload_n 0, 1) := by decide +kernel
theorem dX2_settle_29 : decode cX2_settle 29 = .ok (.getfield 117, 3) := by decide +kernel
theorem dX2_settle_32 : decode cX2_settle 32 = .ok (.iconst 1, 1) := by decide +kernel
theorem dX2_settle_33 : decode cX2_settle 33 = .ok (.isub, 1) := by decide +kernel
theorem dX2_settle_34 : decode cX2_settle 34 = .ok (.istore_n 3, 1) := by decide +kernel
theorem dX2_settle_35 : decode cX2_settle 35 = .ok (.iload_n 3, 1) := by decide +kernel
theorem dX2_settle_36 : decode cX2_settle 36 = .ok (.iload_n 2, 1) := by decide +kernel
theorem dX2_settle_37 : decode cX2_settle 37 = .ok (.if_icmp .lt 55, 3) := by decide +kernel
theorem dX2_settle_40 : decode cX2_settle 40 = .ok (.aload_n 0, 1) := by decide +kernel
theorem dX2_settle_41 : decode cX2_settle 41 = .ok (.aload_n 0, 1) := by decide +kernel
theorem dX2_settle_42 : decode cX2_settle 42 = .ok (.getfield 19, 3) := by decide +kernel
theorem dX2_settle_45 : decode cX2_settle 45 = .ok (.iload_n 3, 1) := by decide +kernel
theorem dX2_settle_46 : decode cX2_settle 46 = .ok (.baload, 1) := by decide +kernel
theorem dX2_settle_47 : decode cX2_settle 47 = .ok (.ifCond .ne 7, 3) := by decide +kernel
theorem dX2_settle_50 : decode cX2_settle 50 = .ok (.iconst 1, 1) := by decide +kernel
theorem dX2_settle_51 : decode cX2_settle 51 = .ok (.goto 4, 3) := by decide +kernel
theorem dX2_settle_54 : decode cX2_settle 54 = .ok (.iconst 0, 1) := by decide +kernel
theorem dX2_settle_55 : decode cX2_settle 55 = .ok (.aload_n 0, 1) := by decide +kernel
theorem dX2_settle_56 : decode cX2_settle 56 = .ok (.getfield 16, 3) := by decide +kernel
theorem dX2_settle_59 : decode cX2_settle 59 = .ok (.iconst 3, 1) := by decide +kernel
theorem dX2_settle_60 : decode cX2_settle 60 = .ok (.iload_n 3, 1) := by decide +kernel
theorem dX2_settle_61 : decode cX2_settle 61 = .ok (.imul, 1) := by decide +kernel
theorem dX2_settle_62 : decode cX2_settle 62 = .ok (.laload, 1) := by decide +kernel
theorem dX2_settle_63 : decode cX2_settle 63 = .ok (.aload_n 0, 1) := by decide +kernel
theorem dX2_settle_64 : decode cX2_settle 64 = .ok (.getfield 16, 3) := by decide +kernel
theorem dX2_settle_67 : decode cX2_settle 67 = .ok (.iconst 3, 1) := by decide +kernel
theorem dX2_settle_68 : decode cX2_settle 68 = .ok (.iload_n 3, 1) := by decide +kernel
theorem dX2_settle_69 : decode cX2_settle 69 = .ok (.imul, 1) := by decide +kernel
theorem dX2_settle_70 : decode cX2_settle 70 = .ok (.iconst 1, 1) := by decide +kernel
theorem dX2_settle_71 : decode cX2_settle 71 = .ok (.iadd, 1) := by decide +kernel
theorem dX2_settle_72 : decode cX2_settle 72 = .ok (.laload, 1) := by decide +kernel
theorem dX2_settle_73 : decode cX2_settle 73 = .ok (.aload_n 0, 1) := by decide +kernel
theorem dX2_settle_74 : decode cX2_settle 74 = .ok (.getfield 16, 3) := by decide +kernel
theorem dX2_settle_77 : decode cX2_settle 77 = .ok (.iconst 3, 1) := by decide +kernel
theorem dX2_settle_78 : decode cX2_settle 78 = .ok (.iload_n 3, 1) := by decide +kernel
theorem dX2_settle_79 : decode cX2_settle 79 = .ok (.imul, 1) := by decide +kernel
theorem dX2_settle_80 : decode cX2_settle 80 = .ok (.iconst 2, 1) := by decide +kernel
theorem dX2_settle_81 : decode cX2_settle 81 = .ok (.iadd, 1) := by decide +kernel
theorem dX2_settle_82 : decode cX2_settle 82 = .ok (.laload, 1) := by decide +kernel
theorem dX2_settle_83 : decode cX2_settle 83 = .ok (.invokevirtual 113, 3) := by decide +kernel
theorem dX2_settle_86 : decode cX2_settle 86 = .ok (.iinc 3 (-1), 3) := by decide +kernel
theorem dX2_settle_89 : decode cX2_settle 89 = .ok (.goto (-54), 3) := by decide +kernel
theorem dX2_settle_92 : decode cX2_settle 92 = .ok (.iconst 0, 1) := by decide +kernel
theorem dX2_settle_93 : decode cX2_settle 93 = .ok (.istore_n 3, 1) := by decide +kernel
theorem dX2_settle_94 : decode cX2_settle 94 = .ok (.iload_n 3, 1) := by decide +kernel
theorem dX2_settle_95 : decode cX2_settle 95 = .ok (.iconst 3, 1) := by decide +kernel
theorem dX2_settle_96 : decode cX2_settle 96 = .ok (.aload_n 0, 1) := by decide +kernel
theorem dX2_settle_97 : decode cX2_settle 97 = .ok (.getfield 102, 3) := by decide +kernel
theorem dX2_settle_100 : decode cX2_settle 100 = .ok (.imul, 1) := by decide +kernel
theorem dX2_settle_101 : decode cX2_settle 101 = .ok (.if_icmp .ge 21, 3) := by decide +kernel
theorem dX2_settle_104 : decode cX2_settle 104 = .ok (.aload_n 0, 1) := by decide +kernel
theorem dX2_settle_105 : decode cX2_settle 105 = .ok (.getfield 13, 3) := by decide +kernel
theorem dX2_settle_108 : decode cX2_settle 108 = .ok (.iload_n 3, 1) := by decide +kernel
theorem dX2_settle_109 : decode cX2_settle 109 = .ok (.aload_n 0, 1) := by decide +kernel
theorem dX2_settle_110 : decode cX2_settle 110 = .ok (.getfield 7, 3) := by decide +kernel
theorem dX2_settle_113 : decode cX2_settle 113 = .ok (.iload_n 3, 1) := by decide +kernel
theorem dX2_settle_114 : decode cX2_settle 114 = .ok (.laload, 1) := by decide +kernel
theorem dX2_settle_115 : decode cX2_settle 115 = .ok (.lastore, 1) := by decide +kernel
theorem dX2_settle_116 : decode cX2_settle 116 = .ok (.iinc 3 1, 3) := by decide +kernel
theorem dX2_settle_119 : decode cX2_settle 119 = .ok (.goto (-25), 3) := by decide +kernel
theorem dX2_settle_122 : decode cX2_settle 122 = .ok (.aload_n 0, 1) := by decide +kernel
theorem dX2_settle_123 : decode cX2_settle 123 = .ok (.aload_n 0, 1) := by decide +kernel
theorem dX2_settle_124 : decode cX2_settle 124 = .ok (.getfield 102, 3) := by decide +kernel
theorem dX2_settle_127 : decode cX2_settle 127 = .ok (.putfield 155, 3) := by decide +kernel
theorem dX2_settle_130 : decode cX2_settle 130 = .ok (.iconst 0, 1) := by decide +kernel
theorem dX2_settle_131 : decode cX2_settle 131 = .ok (.istore_n 3, 1) := by decide +kernel
theorem dX2_settle_132 : decode cX2_settle 132 = .ok (.iload_n 3, 1) := by decide +kernel
theorem dX2_settle_133 : decode cX2_settle 133 = .ok (.iload_n 1, 1) := by decide +kernel
theorem dX2_settle_134 : decode cX2_settle 134 = .ok (.if_icmp .ge 107, 3) := by decide +kernel
theorem dX2_settle_137 : decode cX2_settle 137 = .ok (.iconst 0, 1) := by decide +kernel
theorem dX2_settle_138 : decode cX2_settle 138 = .ok (.istore 4, 2) := by decide +kernel
theorem dX2_settle_140 : decode cX2_settle 140 = .ok (.iload 4, 2) := by decide +kernel
theorem dX2_settle_142 : decode cX2_settle 142 = .ok (.iconst 3, 1) := by decide +kernel
theorem dX2_settle_143 : decode cX2_settle 143 = .ok (.if_icmp .ge 33, 3) := by decide +kernel
theorem dX2_settle_146 : decode cX2_settle 146 = .ok (.aload_n 0, 1) := by decide +kernel
theorem dX2_settle_147 : decode cX2_settle 147 = .ok (.getfield 16, 3) := by decide +kernel
theorem dX2_settle_150 : decode cX2_settle 150 = .ok (.iconst 3, 1) := by decide +kernel
theorem dX2_settle_151 : decode cX2_settle 151 = .ok (.iload_n 3, 1) := by decide +kernel
theorem dX2_settle_152 : decode cX2_settle 152 = .ok (.imul, 1) := by decide +kernel
theorem dX2_settle_153 : decode cX2_settle 153 = .ok (.iload 4, 2) := by decide +kernel
theorem dX2_settle_155 : decode cX2_settle 155 = .ok (.iadd, 1) := by decide +kernel
theorem dX2_settle_156 : decode cX2_settle 156 = .ok (.aload_n 0, 1) := by decide +kernel
theorem dX2_settle_157 : decode cX2_settle 157 = .ok (.getfield 16, 3) := by decide +kernel
theorem dX2_settle_160 : decode cX2_settle 160 = .ok (.iconst 3, 1) := by decide +kernel
theorem dX2_settle_161 : decode cX2_settle 161 = .ok (.iload_n 2, 1) := by decide +kernel
theorem dX2_settle_162 : decode cX2_settle 162 = .ok (.iload_n 3, 1) := by decide +kernel
theorem dX2_settle_163 : decode cX2_settle 163 = .ok (.iadd, 1) := by decide +kernel
theorem dX2_settle_164 : decode cX2_settle 164 = .ok (.imul, 1) := by decide +kernel
theorem dX2_settle_165 : decode cX2_settle 165 = .ok (.iload 4, 2) := by decide +kernel
theorem dX2_settle_167 : decode cX2_settle 167 = .ok (.iadd, 1) := by decide +kernel
theorem dX2_settle_168 : decode cX2_settle 168 = .ok (.laload, 1) := by decide +kernel
theorem dX2_settle_169 : decode cX2_settle 169 = .ok (.lastore, 1) := by decide +kernel
theorem dX2_settle_170 : decode cX2_settle 170 = .ok (.iinc 4 1, 3) := by decide +kernel
theorem dX2_settle_173 : decode cX2_settle 173 = .ok (.goto (-33), 3) := by decide +kernel
theorem dX2_settle_176 : decode cX2_settle 176 = .ok (.aload_n 0, 1) := by decide +kernel
theorem dX2_settle_177 : decode cX2_settle 177 = .ok (.getfield 19, 3) := by decide +kernel
theorem dX2_settle_180 : decode cX2_settle 180 = .ok (.iload_n 3, 1) := by decide +kernel
theorem dX2_settle_181 : decode cX2_settle 181 = .ok (.aload_n 0, 1) := by decide +kernel
theorem dX2_settle_182 : decode cX2_settle 182 = .ok (.getfield 19, 3) := by decide +kernel
theorem dX2_settle_185 : decode cX2_settle 185 = .ok (.iload_n 2, 1) := by decide +kernel
theorem dX2_settle_186 : decode cX2_settle 186 = .ok (.iload_n 3, 1) := by decide +kernel
theorem dX2_settle_187 : decode cX2_settle 187 = .ok (.iadd, 1) := by decide +kernel
theorem dX2_settle_188 : decode cX2_settle 188 = .ok (.baload, 1) := by decide +kernel
theorem dX2_settle_189 : decode cX2_settle 189 = .ok (.bastore, 1) := by decide +kernel
theorem dX2_settle_190 : decode cX2_settle 190 = .ok (.aload_n 0, 1) := by decide +kernel
theorem dX2_settle_191 : decode cX2_settle 191 = .ok (.getfield 23, 3) := by decide +kernel
theorem dX2_settle_194 : decode cX2_settle 194 = .ok (.iload_n 3, 1) := by decide +kernel
theorem dX2_settle_195 : decode cX2_settle 195 = .ok (.iconst 0, 1) := by decide +kernel
theorem dX2_settle_196 : decode cX2_settle 196 = .ok (.iastore, 1) := by decide +kernel
theorem dX2_settle_197 : decode cX2_settle 197 = .ok (.aload_n 0, 1) := by decide +kernel
theorem dX2_settle_198 : decode cX2_settle 198 = .ok (.aload_n 0, 1) := by decide +kernel
theorem dX2_settle_199 : decode cX2_settle 199 = .ok (.getfield 19, 3) := by decide +kernel
theorem dX2_settle_202 : decode cX2_settle 202 = .ok (.iload_n 3, 1) := by decide +kernel
theorem dX2_settle_203 : decode cX2_settle 203 = .ok (.baload, 1) := by decide +kernel
theorem dX2_settle_204 : decode cX2_settle 204 = .ok (.aload_n 0, 1) := by decide +kernel
theorem dX2_settle_205 : decode cX2_settle 205 = .ok (.getfield 16, 3) := by decide +kernel
theorem dX2_settle_208 : decode cX2_settle 208 = .ok (.iconst 3, 1) := by decide +kernel
theorem dX2_settle_209 : decode cX2_settle 209 = .ok (.iload_n 3, 1) := by decide +kernel
theorem dX2_settle_210 : decode cX2_settle 210 = .ok (.imul, 1) := by decide +kernel
theorem dX2_settle_211 : decode cX2_settle 211 = .ok (.laload, 1) := by decide +kernel
theorem dX2_settle_212 : decode cX2_settle 212 = .ok (.aload_n 0, 1) := by decide +kernel
theorem dX2_settle_213 : decode cX2_settle 213 = .ok (.getfield 16, 3) := by decide +kernel
theorem dX2_settle_216 : decode cX2_settle 216 = .ok (.iconst 3, 1) := by decide +kernel
theorem dX2_settle_217 : decode cX2_settle 217 = .ok (.iload_n 3, 1) := by decide +kernel
theorem dX2_settle_218 : decode cX2_settle 218 = .ok (.imul, 1) := by decide +kernel
theorem dX2_settle_219 : decode cX2_settle 219 = .ok (.iconst 1, 1) := by decide +kernel
theorem dX2_settle_220 : decode cX2_settle 220 = .ok (.iadd, 1) := by decide +kernel
theorem dX2_settle_221 : decode cX2_settle 221 = .ok (.laload, 1) := by decide +kernel
theorem dX2_settle_222 : decode cX2_settle 222 = .ok (.aload_n 0, 1) := by decide +kernel
theorem dX2_settle_223 : decode cX2_settle 223 = .ok (.getfield 16, 3) := by decide +kernel
theorem dX2_settle_226 : decode cX2_settle 226 = .ok (.iconst 3, 1) := by decide +kernel
theorem dX2_settle_227 : decode cX2_settle 227 = .ok (.iload_n 3, 1) := by decide +kernel
theorem dX2_settle_228 : decode cX2_settle 228 = .ok (.imul, 1) := by decide +kernel
theorem dX2_settle_229 : decode cX2_settle 229 = .ok (.iconst 2, 1) := by decide +kernel
theorem dX2_settle_230 : decode cX2_settle 230 = .ok (.iadd, 1) := by decide +kernel
theorem dX2_settle_231 : decode cX2_settle 231 = .ok (.laload, 1) := by decide +kernel
theorem dX2_settle_232 : decode cX2_settle 232 = .ok (.invokevirtual 113, 3) := by decide +kernel
theorem dX2_settle_235 : decode cX2_settle 235 = .ok (.iinc 3 1, 3) := by decide +kernel
theorem dX2_settle_238 : decode cX2_settle 238 = .ok (.goto (-106), 3) := by decide +kernel
theorem dX2_settle_241 : decode cX2_settle 241 = .ok (.aload_n 0, 1) := by decide +kernel
theorem dX2_settle_242 : decode cX2_settle 242 = .ok (.iload_n 1, 1) := by decide +kernel
theorem dX2_settle_243 : decode cX2_settle 243 = .ok (.putfield 117, 3) := by decide +kernel
theorem dX2_settle_246 : decode cX2_settle 246 = .ok (.aload_n 0, 1) := by decide +kernel
theorem dX2_settle_247 : decode cX2_settle 247 = .ok (.iconst 0, 1) := by decide +kernel
theorem dX2_settle_248 : decode cX2_settle 248 = .ok (.putfield 148, 3) := by decide +kernel
theorem dX2_settle_251 : decode cX2_settle 251 = .ok (.aload_n 0, 1) := by decide +kernel
theorem dX2_settle_252 : decode cX2_settle 252 = .ok (.iconst 0, 1) := by decide +kernel
theorem dX2_settle_253 : decode cX2_settle 253 = .ok (.putfield 120, 3) := by decide +kernel
theorem dX2_settle_256 : decode cX2_settle 256 = .ok (.return_, 1) := by decide +kernel
abbrev cX2_crash : ByteArray := prog_26_method_21_code
def yX2_crash : MethodName := ⟨"TripleStoreModel", "crash", "(I)I"⟩
theorem dX2_crash_0 : decode cX2_crash 0 = .ok (.aload_n 0, 1) := by decide +kernel
theorem dX2_crash_1 : decode cX2_crash 1 = .ok (.iload_n 1, 1) := by decide +kernel
theorem dX2_crash_2 : decode cX2_crash 2 = .ok (.iconst 0, 1) := by decide +kernel
theorem dX2_crash_3 : decode cX2_crash 3 = .ok (.sipush 1000, 3) := by decide +kernel
theorem dX2_crash_6 : decode cX2_crash 6 = .ok (.invokestatic 94, 3) := by decide +kernel
theorem dX2_crash_9 : decode cX2_crash 9 = .ok (.iconst 1, 1) := by decide +kernel
theorem dX2_crash_10 : decode cX2_crash 10 = .ok (.invokevirtual 109, 3) := by decide +kernel
theorem dX2_crash_13 : decode cX2_crash 13 = .ok (.ifCond .ne 5, 3) := by decide +kernel
theorem dX2_crash_16 : decode cX2_crash 16 = .ok (.iconst 0, 1) := by decide +kernel
theorem dX2_crash_17 : decode cX2_crash 17 = .ok (.ireturn, 1) := by decide +kernel
theorem dX2_crash_18 : decode cX2_crash 18 = .ok (.iconst 0, 1) := by decide +kernel
theorem dX2_crash_19 : decode cX2_crash 19 = .ok (.istore_n 2, 1) := by decide +kernel
theorem dX2_crash_20 : decode cX2_crash 20 = .ok (.iload_n 2, 1) := by decide +kernel
theorem dX2_crash_21 : decode cX2_crash 21 = .ok (.iconst 3, 1) := by decide +kernel
theorem dX2_crash_22 : decode cX2_crash 22 = .ok (.aload_n 0, 1) := by decide +kernel
theorem dX2_crash_23 : decode cX2_crash 23 = .ok (.getfield 155, 3) := by decide +kernel
theorem dX2_crash_26 : decode cX2_crash 26 = .ok (.imul, 1) := by decide +kernel
theorem dX2_crash_27 : decode cX2_crash 27 = .ok (.if_icmp .ge 21, 3) := by decide +kernel
theorem dX2_crash_30 : decode cX2_crash 30 = .ok (.aload_n 0, 1) := by decide +kernel
theorem dX2_crash_31 : decode cX2_crash 31 = .ok (.getfield 7, 3) := by decide +kernel
theorem dX2_crash_34 : decode cX2_crash 34 = .ok (.iload_n 2, 1) := by decide +kernel
theorem dX2_crash_35 : decode cX2_crash 35 = .ok (.aload_n 0, 1) := by decide +kernel
theorem dX2_crash_36 : decode cX2_crash 36 = .ok (.getfield 13, 3) := by decide +kernel
theorem dX2_crash_39 : decode cX2_crash 39 = .ok (.iload_n 2, 1) := by decide +kernel
theorem dX2_crash_40 : decode cX2_crash 40 = .ok (.laload, 1) := by decide +kernel
theorem dX2_crash_41 : decode cX2_crash 41 = .ok (.lastore, 1) := by decide +kernel
theorem dX2_crash_42 : decode cX2_crash 42 = .ok (.iinc 2 1, 3) := by decide +kernel
theorem dX2_crash_45 : decode cX2_crash 45 = .ok (.goto (-25), 3) := by decide +kernel
theorem dX2_crash_48 : decode cX2_crash 48 = .ok (.aload_n 0, 1) := by decide +kernel
theorem dX2_crash_49 : decode cX2_crash 49 = .ok (.aload_n 0, 1) := by decide +kernel
theorem dX2_crash_50 : decode cX2_crash 50 = .ok (.getfield 155, 3) := by decide +kernel
theorem dX2_crash_53 : decode cX2_crash 53 = .ok (.putfield 102, 3) := by decide +kernel
theorem dX2_crash_56 : decode cX2_crash 56 = .ok (.aload_n 0, 1) := by decide +kernel
theorem dX2_crash_57 : decode cX2_crash 57 = .ok (.getfield 123, 3) := by decide +kernel
theorem dX2_crash_60 : decode cX2_crash 60 = .ok (.ifCond .eq 10, 3) := by decide +kernel
theorem dX2_crash_63 : decode cX2_crash 63 = .ok (.aload_n 0, 1) := by decide +kernel
theorem dX2_crash_64 : decode cX2_crash 64 = .ok (.getfield 148, 3) := by decide +kernel
theorem dX2_crash_67 : decode cX2_crash 67 = .ok (.goto 7, 3) := by decide +kernel
theorem dX2_crash_70 : decode cX2_crash 70 = .ok (.aload_n 0, 1) := by decide +kernel
theorem dX2_crash_71 : decode cX2_crash 71 = .ok (.getfield 117, 3) := by decide +kernel
theorem dX2_crash_74 : decode cX2_crash 74 = .ok (.istore_n 2, 1) := by decide +kernel
theorem dX2_crash_75 : decode cX2_crash 75 = .ok (.iconst 0, 1) := by decide +kernel
theorem dX2_crash_76 : decode cX2_crash 76 = .ok (.istore_n 3, 1) := by decide +kernel
theorem dX2_crash_77 : decode cX2_crash 77 = .ok (.iload_n 3, 1) := by decide +kernel
theorem dX2_crash_78 : decode cX2_crash 78 = .ok (.iload_n 2, 1) := by decide +kernel
theorem dX2_crash_79 : decode cX2_crash 79 = .ok (.if_icmp .ge 57, 3) := by decide +kernel
theorem dX2_crash_82 : decode cX2_crash 82 = .ok (.aload_n 0, 1) := by decide +kernel
theorem dX2_crash_83 : decode cX2_crash 83 = .ok (.getfield 23, 3) := by decide +kernel
theorem dX2_crash_86 : decode cX2_crash 86 = .ok (.iload_n 3, 1) := by decide +kernel
theorem dX2_crash_87 : decode cX2_crash 87 = .ok (.iaload, 1) := by decide +kernel
theorem dX2_crash_88 : decode cX2_crash 88 = .ok (.iload_n 1, 1) := by decide +kernel
theorem dX2_crash_89 : decode cX2_crash 89 = .ok (.if_icmp .ge 41, 3) := by decide +kernel
theorem dX2_crash_92 : decode cX2_crash 92 = .ok (.aload_n 0, 1) := by decide +kernel
theorem dX2_crash_93 : decode cX2_crash 93 = .ok (.aload_n 0, 1) := by decide +kernel
theorem dX2_crash_94 : decode cX2_crash 94 = .ok (.getfield 19, 3) := by decide +kernel
theorem dX2_crash_97 : decode cX2_crash 97 = .ok (.iload_n 3, 1) := by decide +kernel
theorem dX2_crash_98 : decode cX2_crash 98 = .ok (.baload, 1) := by decide +kernel
theorem dX2_crash_99 : decode cX2_crash 99 = .ok (.aload_n 0, 1) := by decide +kernel
theorem dX2_crash_100 : decode cX2_crash 100 = .ok (.getfield 16, 3) := by decide +kernel
theorem dX2_crash_103 : decode cX2_crash 103 = .ok (.iconst 3, 1) := by decide +kernel
theorem dX2_crash_104 : decode cX2_crash 104 = .ok (.iload_n 3, 1) := by decide +kernel
theorem dX2_crash_105 : decode cX2_crash 105 = .ok (.imul, 1) := by decide +kernel
theorem dX2_crash_106 : decode cX2_crash 106 = .ok (.laload, 1) := by decide +kernel
theorem dX2_crash_107 : decode cX2_crash 107 = .ok (.aload_n 0, 1) := by decide +kernel
theorem dX2_crash_108 : decode cX2_crash 108 = .ok (.getfield 16, 3) := by decide +kernel
theorem dX2_crash_111 : decode cX2_crash 111 = .ok (.iconst 3, 1) := by decide +kernel
theorem dX2_crash_112 : decode cX2_crash 112 = .ok (.iload_n 3, 1) := by decide +kernel
theorem dX2_crash_113 : decode cX2_crash 113 = .ok (.imul, 1) := by decide +kernel
theorem dX2_crash_114 : decode cX2_crash 114 = .ok (.iconst 1, 1) := by decide +kernel
theorem dX2_crash_115 : decode cX2_crash 115 = .ok (.iadd, 1) := by decide +kernel
theorem dX2_crash_116 : decode cX2_crash 116 = .ok (.laload, 1) := by decide +kernel
theorem dX2_crash_117 : decode cX2_crash 117 = .ok (.aload_n 0, 1) := by decide +kernel
theorem dX2_crash_118 : decode cX2_crash 118 = .ok (.getfield 16, 3) := by decide +kernel
theorem dX2_crash_121 : decode cX2_crash 121 = .ok (.iconst 3, 1) := by decide +kernel
theorem dX2_crash_122 : decode cX2_crash 122 = .ok (.iload_n 3, 1) := by decide +kernel
theorem dX2_crash_123 : decode cX2_crash 123 = .ok (.imul, 1) := by decide +kernel
theorem dX2_crash_124 : decode cX2_crash 124 = .ok (.iconst 2, 1) := by decide +kernel
theorem dX2_crash_125 : decode cX2_crash 125 = .ok (.iadd, 1) := by decide +kernel
theorem dX2_crash_126 : decode cX2_crash 126 = .ok (.laload, 1) := by decide +kernel
theorem dX2_crash_127 : decode cX2_crash 127 = .ok (.invokevirtual 113, 3) := by decide +kernel
theorem dX2_crash_130 : decode cX2_crash 130 = .ok (.iinc 3 1, 3) := by decide +kernel
theorem dX2_crash_133 : decode cX2_crash 133 = .ok (.goto (-56), 3) := by decide +kernel
theorem dX2_crash_136 : decode cX2_crash 136 = .ok (.aload_n 0, 1) := by decide +kernel
theorem dX2_crash_137 : decode cX2_crash 137 = .ok (.iconst 0, 1) := by decide +kernel
theorem dX2_crash_138 : decode cX2_crash 138 = .ok (.putfield 123, 3) := by decide +kernel
theorem dX2_crash_141 : decode cX2_crash 141 = .ok (.aload_n 0, 1) := by decide +kernel
theorem dX2_crash_142 : decode cX2_crash 142 = .ok (.iconst 0, 1) := by decide +kernel
theorem dX2_crash_143 : decode cX2_crash 143 = .ok (.putfield 117, 3) := by decide +kernel
theorem dX2_crash_146 : decode cX2_crash 146 = .ok (.aload_n 0, 1) := by decide +kernel
theorem dX2_crash_147 : decode cX2_crash 147 = .ok (.invokevirtual 158, 3) := by decide +kernel
theorem dX2_crash_150 : decode cX2_crash 150 = .ok (.aload_n 0, 1) := by decide +kernel
theorem dX2_crash_151 : decode cX2_crash 151 = .ok (.getfield 102, 3) := by decide +kernel
theorem dX2_crash_154 : decode cX2_crash 154 = .ok (.ireturn, 1) := by decide +kernel
abbrev cX2_append : ByteArray := prog_26_method_22_code
def yX2_append : MethodName := ⟨"TripleStoreModel", "append", "(JI)I"⟩
theorem dX2_append_0 : decode cX2_append 0 = .ok (.aload_n 0, 1) := by decide +kernel
theorem dX2_append_1 : decode cX2_append 1 = .ok (.iload_n 3, 1) := by decide +kernel
theorem dX2_append_2 : decode cX2_append 2 = .ok (.iconst 1, 1) := by decide +kernel
theorem dX2_append_3 : decode cX2_append 3 = .ok (.bipush 8, 2) := by decide +kernel
theorem dX2_append_5 : decode cX2_append 5 = .ok (.invokestatic 94, 3) := by decide +kernel
theorem dX2_append_8 : decode cX2_append 8 = .ok (.iconst 1, 1) := by decide +kernel
theorem dX2_append_9 : decode cX2_append 9 = .ok (.invokevirtual 109, 3) := by decide +kernel
theorem dX2_append_12 : decode cX2_append 12 = .ok (.ifCond .ne 5, 3) := by decide +kernel
theorem dX2_append_15 : decode cX2_append 15 = .ok (.iconst 0, 1) := by decide +kernel
theorem dX2_append_16 : decode cX2_append 16 = .ok (.ireturn, 1) := by decide +kernel
theorem dX2_append_17 : decode cX2_append 17 = .ok (.iconst 0, 1) := by decide +kernel
theorem dX2_append_18 : decode cX2_append 18 = .ok (.istore 4, 2) := by decide +kernel
theorem dX2_append_20 : decode cX2_append 20 = .ok (.iload 4, 2) := by decide +kernel
theorem dX2_append_22 : decode cX2_append 22 = .ok (.iload_n 3, 1) := by decide +kernel
theorem dX2_append_23 : decode cX2_append 23 = .ok (.if_icmp .ge 38, 3) := by decide +kernel
theorem dX2_append_26 : decode cX2_append 26 = .ok (.aload_n 0, 1) := by decide +kernel
theorem dX2_append_27 : decode cX2_append 27 = .ok (.lload_n 1, 1) := by decide +kernel
theorem dX2_append_28 : decode cX2_append 28 = .ok (.bipush 8, 2) := by decide +kernel
theorem dX2_append_30 : decode cX2_append 30 = .ok (.iload 4, 2) := by decide +kernel
theorem dX2_append_32 : decode cX2_append 32 = .ok (.imul, 1) := by decide +kernel
theorem dX2_append_33 : decode cX2_append 33 = .ok (.lshr, 1) := by decide +kernel
theorem dX2_append_34 : decode cX2_append 34 = .ok (.l2i, 1) := by decide +kernel
theorem dX2_append_35 : decode cX2_append 35 = .ok (.sipush 255, 3) := by decide +kernel
theorem dX2_append_38 : decode cX2_append 38 = .ok (.iand, 1) := by decide +kernel
theorem dX2_append_39 : decode cX2_append 39 = .ok (.bipush 32, 2) := by decide +kernel
theorem dX2_append_41 : decode cX2_append 41 = .ok (.bipush 126, 2) := by decide +kernel
theorem dX2_append_43 : decode cX2_append 43 = .ok (.invokestatic 94, 3) := by decide +kernel
theorem dX2_append_46 : decode cX2_append 46 = .ok (.iconst 1, 1) := by decide +kernel
theorem dX2_append_47 : decode cX2_append 47 = .ok (.invokevirtual 109, 3) := by decide +kernel
theorem dX2_append_50 : decode cX2_append 50 = .ok (.ifCond .ne 5, 3) := by decide +kernel
theorem dX2_append_53 : decode cX2_append 53 = .ok (.iconst 0, 1) := by decide +kernel
theorem dX2_append_54 : decode cX2_append 54 = .ok (.ireturn, 1) := by decide +kernel
theorem dX2_append_55 : decode cX2_append 55 = .ok (.iinc 4 1, 3) := by decide +kernel
theorem dX2_append_58 : decode cX2_append 58 = .ok (.goto (-38), 3) := by decide +kernel
theorem dX2_append_61 : decode cX2_append 61 = .ok (.aload_n 0, 1) := by decide +kernel
theorem dX2_append_62 : decode cX2_append 62 = .ok (.aload_n 0, 1) := by decide +kernel
theorem dX2_append_63 : decode cX2_append 63 = .ok (.getfield 161, 3) := by decide +kernel
theorem dX2_append_66 : decode cX2_append 66 = .ok (.iload_n 3, 1) := by decide +kernel
theorem dX2_append_67 : decode cX2_append 67 = .ok (.iadd, 1) := by decide +kernel
theorem dX2_append_68 : decode cX2_append 68 = .ok (.sipush 160, 3) := by decide +kernel
theorem dX2_append_71 : decode cX2_append 71 = .ok (.if_icmp .gt 7, 3) := by decide +kernel
theorem dX2_append_74 : decode cX2_append 74 = .ok (.iconst 1, 1) := by decide +kernel
theorem dX2_append_75 : decode cX2_append 75 = .ok (.goto 4, 3) := by decide +kernel
theorem dX2_append_78 : decode cX2_append 78 = .ok (.iconst 0, 1) := by decide +kernel
theorem dX2_append_79 : decode cX2_append 79 = .ok (.iconst 2, 1) := by decide +kernel
theorem dX2_append_80 : decode cX2_append 80 = .ok (.invokevirtual 109, 3) := by decide +kernel
theorem dX2_append_83 : decode cX2_append 83 = .ok (.ifCond .ne 5, 3) := by decide +kernel
theorem dX2_append_86 : decode cX2_append 86 = .ok (.iconst 0, 1) := by decide +kernel
theorem dX2_append_87 : decode cX2_append 87 = .ok (.ireturn, 1) := by decide +kernel
theorem dX2_append_88 : decode cX2_append 88 = .ok (.iload_n 3, 1) := by decide +kernel
theorem dX2_append_89 : decode cX2_append 89 = .ok (.iconst 1, 1) := by decide +kernel
theorem dX2_append_90 : decode cX2_append 90 = .ok (.isub, 1) := by decide +kernel
theorem dX2_append_91 : decode cX2_append 91 = .ok (.istore 4, 2) := by decide +kernel
theorem dX2_append_93 : decode cX2_append 93 = .ok (.iload 4, 2) := by decide +kernel
theorem dX2_append_95 : decode cX2_append 95 = .ok (.ifCond .lt 40, 3) := by decide +kernel
theorem dX2_append_98 : decode cX2_append 98 = .ok (.aload_n 0, 1) := by decide +kernel
theorem dX2_append_99 : decode cX2_append 99 = .ok (.getfield 27, 3) := by decide +kernel
theorem dX2_append_102 : decode cX2_append 102 = .ok (.aload_n 0, 1) := by decide +kernel
theorem dX2_append_103 : decode cX2_append 103 = .ok (.getfield 161, 3) := by decide +kernel
theorem dX2_append_106 : decode cX2_append 106 = .ok (.lload_n 1, 1) := by decide +kernel
theorem dX2_append_107 : decode cX2_append 107 = .ok (.bipush 8, 2) := by decide +kernel
theorem dX2_append_109 : decode cX2_append 109 = .ok (.iload 4, 2) := by decide +kernel
theorem dX2_append_111 : decode cX2_append 111 = .ok (.imul, 1) := by decide +kernel
theorem dX2_append_112 : decode cX2_append 112 = .ok (.lshr, 1) := by decide +kernel
theorem dX2_append_113 : decode cX2_append 113 = .ok (.l2i, 1) := by decide +kernel
theorem dX2_append_114 : decode cX2_append 114 = .ok (.sipush 255, 3) := by decide +kernel
theorem dX2_append_117 : decode cX2_append 117 = .ok (.iand, 1) := by decide +kernel
theorem dX2_append_118 : decode cX2_append 118 = .ok (.iastore, 1) := by decide +kernel
theorem dX2_append_119 : decode cX2_append 119 = .ok (.aload_n 0, 1) := by decide +kernel
theorem dX2_append_120 : decode cX2_append 120 = .ok (.dup, 1) := by decide +kernel
theorem dX2_append_121 : decode cX2_append 121 = .ok (.getfield 161, 3) := by decide +kernel
theorem dX2_append_124 : decode cX2_append 124 = .ok (.iconst 1, 1) := by decide +kernel
theorem dX2_append_125 : decode cX2_append 125 = .ok (.iadd, 1) := by decide +kernel
theorem dX2_append_126 : decode cX2_append 126 = .ok (.putfield 161, 3) := by decide +kernel
theorem dX2_append_129 : decode cX2_append 129 = .ok (.iinc 4 (-1), 3) := by decide +kernel
theorem dX2_append_132 : decode cX2_append 132 = .ok (.goto (-39), 3) := by decide +kernel
theorem dX2_append_135 : decode cX2_append 135 = .ok (.aload_n 0, 1) := by decide +kernel
theorem dX2_append_136 : decode cX2_append 136 = .ok (.getfield 161, 3) := by decide +kernel
theorem dX2_append_139 : decode cX2_append 139 = .ok (.ireturn, 1) := by decide +kernel
abbrev cX2_ask : ByteArray := prog_26_method_55_code
def yX2_ask : MethodName := ⟨"TripleStoreModel", "ask", "()I"⟩
theorem dX2_ask_0 : decode cX2_ask 0 = .ok (.aload_n 0, 1) := by decide +kernel
theorem dX2_ask_1 : decode cX2_ask 1 = .ok (.iconst 0, 1) := by decide +kernel
theorem dX2_ask_2 : decode cX2_ask 2 = .ok (.putfield 229, 3) := by decide +kernel
theorem dX2_ask_5 : decode cX2_ask 5 = .ok (.aload_n 0, 1) := by decide +kernel
theorem dX2_ask_6 : decode cX2_ask 6 = .ok (.iconst 0, 1) := by decide +kernel
theorem dX2_ask_7 : decode cX2_ask 7 = .ok (.putfield 259, 3) := by decide +kernel
theorem dX2_ask_10 : decode cX2_ask 10 = .ok (.aload_n 0, 1) := by decide +kernel
theorem dX2_ask_11 : decode cX2_ask 11 = .ok (.iconst 0, 1) := by decide +kernel
theorem dX2_ask_12 : decode cX2_ask 12 = .ok (.putfield 278, 3) := by decide +kernel
theorem dX2_ask_15 : decode cX2_ask 15 = .ok (.aload_n 0, 1) := by decide +kernel
theorem dX2_ask_16 : decode cX2_ask 16 = .ok (.iconst 0, 1) := by decide +kernel
theorem dX2_ask_17 : decode cX2_ask 17 = .ok (.putfield 250, 3) := by decide +kernel
theorem dX2_ask_20 : decode cX2_ask 20 = .ok (.aload_n 0, 1) := by decide +kernel
theorem dX2_ask_21 : decode cX2_ask 21 = .ok (.iconst 0, 1) := by decide +kernel
theorem dX2_ask_22 : decode cX2_ask 22 = .ok (.putfield 244, 3) := by decide +kernel
theorem dX2_ask_25 : decode cX2_ask 25 = .ok (.aload_n 0, 1) := by decide +kernel
theorem dX2_ask_26 : decode cX2_ask 26 = .ok (.iconst 0, 1) := by decide +kernel
theorem dX2_ask_27 : decode cX2_ask 27 = .ok (.putfield 268, 3) := by decide +kernel
theorem dX2_ask_30 : decode cX2_ask 30 = .ok (.aload_n 0, 1) := by decide +kernel
theorem dX2_ask_31 : decode cX2_ask 31 = .ok (.iconst 0, 1) := by decide +kernel
theorem dX2_ask_32 : decode cX2_ask 32 = .ok (.putfield 247, 3) := by decide +kernel
theorem dX2_ask_35 : decode cX2_ask 35 = .ok (.aload_n 0, 1) := by decide +kernel
theorem dX2_ask_36 : decode cX2_ask 36 = .ok (.iconst 0, 1) := by decide +kernel
theorem dX2_ask_37 : decode cX2_ask 37 = .ok (.putfield 296, 3) := by decide +kernel
theorem dX2_ask_40 : decode cX2_ask 40 = .ok (.aload_n 0, 1) := by decide +kernel
theorem dX2_ask_41 : decode cX2_ask 41 = .ok (.iconst 0, 1) := by decide +kernel
theorem dX2_ask_42 : decode cX2_ask 42 = .ok (.putfield 293, 3) := by decide +kernel
theorem dX2_ask_45 : decode cX2_ask 45 = .ok (.aload_n 0, 1) := by decide +kernel
theorem dX2_ask_46 : decode cX2_ask 46 = .ok (.iconst (-1), 1) := by decide +kernel
theorem dX2_ask_47 : decode cX2_ask 47 = .ok (.putfield 302, 3) := by decide +kernel
theorem dX2_ask_50 : decode cX2_ask 50 = .ok (.aload_n 0, 1) := by decide +kernel
theorem dX2_ask_51 : decode cX2_ask 51 = .ok (.iconst 0, 1) := by decide +kernel
theorem dX2_ask_52 : decode cX2_ask 52 = .ok (.putfield 305, 3) := by decide +kernel
theorem dX2_ask_55 : decode cX2_ask 55 = .ok (.aload_n 0, 1) := by decide +kernel
theorem dX2_ask_56 : decode cX2_ask 56 = .ok (.sipush 10000, 3) := by decide +kernel
theorem dX2_ask_59 : decode cX2_ask 59 = .ok (.putfield 308, 3) := by decide +kernel
theorem dX2_ask_62 : decode cX2_ask 62 = .ok (.aload_n 0, 1) := by decide +kernel
theorem dX2_ask_63 : decode cX2_ask 63 = .ok (.iconst 0, 1) := by decide +kernel
theorem dX2_ask_64 : decode cX2_ask 64 = .ok (.putfield 172, 3) := by decide +kernel
theorem dX2_ask_67 : decode cX2_ask 67 = .ok (.aload_n 0, 1) := by decide +kernel
theorem dX2_ask_68 : decode cX2_ask 68 = .ok (.iconst (-1), 1) := by decide +kernel
theorem dX2_ask_69 : decode cX2_ask 69 = .ok (.putfield 220, 3) := by decide +kernel
theorem dX2_ask_72 : decode cX2_ask 72 = .ok (.aload_n 0, 1) := by decide +kernel
theorem dX2_ask_73 : decode cX2_ask 73 = .ok (.iconst 0, 1) := by decide +kernel
theorem dX2_ask_74 : decode cX2_ask 74 = .ok (.putfield 281, 3) := by decide +kernel
theorem dX2_ask_77 : decode cX2_ask 77 = .ok (.aload_n 0, 1) := by decide +kernel
theorem dX2_ask_78 : decode cX2_ask 78 = .ok (.invokevirtual 226, 3) := by decide +kernel
theorem dX2_ask_81 : decode cX2_ask 81 = .ok (.aload_n 0, 1) := by decide +kernel
theorem dX2_ask_82 : decode cX2_ask 82 = .ok (.invokevirtual 361, 3) := by decide +kernel
theorem dX2_ask_85 : decode cX2_ask 85 = .ok (.aload_n 0, 1) := by decide +kernel
theorem dX2_ask_86 : decode cX2_ask 86 = .ok (.iconst 0, 1) := by decide +kernel
theorem dX2_ask_87 : decode cX2_ask 87 = .ok (.putfield 161, 3) := by decide +kernel
theorem dX2_ask_90 : decode cX2_ask 90 = .ok (.aload_n 0, 1) := by decide +kernel
theorem dX2_ask_91 : decode cX2_ask 91 = .ok (.aload_n 0, 1) := by decide +kernel
theorem dX2_ask_92 : decode cX2_ask 92 = .ok (.getfield 220, 3) := by decide +kernel
theorem dX2_ask_95 : decode cX2_ask 95 = .ok (.putfield 30, 3) := by decide +kernel
theorem dX2_ask_98 : decode cX2_ask 98 = .ok (.aload_n 0, 1) := by decide +kernel
theorem dX2_ask_99 : decode cX2_ask 99 = .ok (.aload_n 0, 1) := by decide +kernel
theorem dX2_ask_100 : decode cX2_ask 100 = .ok (.getfield 220, 3) := by decide +kernel
theorem dX2_ask_103 : decode cX2_ask 103 = .ok (.ifCond .ge 7, 3) := by decide +kernel
theorem dX2_ask_106 : decode cX2_ask 106 = .ok (.iconst 1, 1) := by decide +kernel
theorem dX2_ask_107 : decode cX2_ask 107 = .ok (.goto 4, 3) := by decide +kernel
theorem dX2_ask_110 : decode cX2_ask 110 = .ok (.iconst 0, 1) := by decide +kernel
theorem dX2_ask_111 : decode cX2_ask 111 = .ok (.iconst 1, 1) := by decide +kernel
theorem dX2_ask_112 : decode cX2_ask 112 = .ok (.invokevirtual 109, 3) := by decide +kernel
theorem dX2_ask_115 : decode cX2_ask 115 = .ok (.ifCond .ne 5, 3) := by decide +kernel
theorem dX2_ask_118 : decode cX2_ask 118 = .ok (.iconst 0, 1) := by decide +kernel
theorem dX2_ask_119 : decode cX2_ask 119 = .ok (.ireturn, 1) := by decide +kernel
theorem dX2_ask_120 : decode cX2_ask 120 = .ok (.iconst 0, 1) := by decide +kernel
theorem dX2_ask_121 : decode cX2_ask 121 = .ok (.istore_n 1, 1) := by decide +kernel
theorem dX2_ask_122 : decode cX2_ask 122 = .ok (.iload_n 1, 1) := by decide +kernel
theorem dX2_ask_123 : decode cX2_ask 123 = .ok (.aload_n 0, 1) := by decide +kernel
theorem dX2_ask_124 : decode cX2_ask 124 = .ok (.getfield 296, 3) := by decide +kernel
theorem dX2_ask_127 : decode cX2_ask 127 = .ok (.if_icmp .ge 21, 3) := by decide +kernel
theorem dX2_ask_130 : decode cX2_ask 130 = .ok (.aload_n 0, 1) := by decide +kernel
theorem dX2_ask_131 : decode cX2_ask 131 = .ok (.getfield 88, 3) := by decide +kernel
theorem dX2_ask_134 : decode cX2_ask 134 = .ok (.iload_n 1, 1) := by decide +kernel
theorem dX2_ask_135 : decode cX2_ask 135 = .ok (.aload_n 0, 1) := by decide +kernel
theorem dX2_ask_136 : decode cX2_ask 136 = .ok (.getfield 64, 3) := by decide +kernel
theorem dX2_ask_139 : decode cX2_ask 139 = .ok (.iload_n 1, 1) := by decide +kernel
theorem dX2_ask_140 : decode cX2_ask 140 = .ok (.iaload, 1) := by decide +kernel
theorem dX2_ask_141 : decode cX2_ask 141 = .ok (.iastore, 1) := by decide +kernel
theorem dX2_ask_142 : decode cX2_ask 142 = .ok (.iinc 1 1, 3) := by decide +kernel
theorem dX2_ask_145 : decode cX2_ask 145 = .ok (.goto (-23), 3) := by decide +kernel
theorem dX2_ask_148 : decode cX2_ask 148 = .ok (.aload_n 0, 1) := by decide +kernel
theorem dX2_ask_149 : decode cX2_ask 149 = .ok (.aload_n 0, 1) := by decide +kernel
theorem dX2_ask_150 : decode cX2_ask 150 = .ok (.getfield 296, 3) := by decide +kernel
theorem dX2_ask_153 : decode cX2_ask 153 = .ok (.putfield 364, 3) := by decide +kernel
theorem dX2_ask_156 : decode cX2_ask 156 = .ok (.aload_n 0, 1) := by decide +kernel
theorem dX2_ask_157 : decode cX2_ask 157 = .ok (.iconst 0, 1) := by decide +kernel
theorem dX2_ask_158 : decode cX2_ask 158 = .ok (.putfield 358, 3) := by decide +kernel
theorem dX2_ask_161 : decode cX2_ask 161 = .ok (.aload_n 0, 1) := by decide +kernel
theorem dX2_ask_162 : decode cX2_ask 162 = .ok (.iconst 0, 1) := by decide +kernel
theorem dX2_ask_163 : decode cX2_ask 163 = .ok (.putfield 318, 3) := by decide +kernel
theorem dX2_ask_166 : decode cX2_ask 166 = .ok (.aload_n 0, 1) := by decide +kernel
theorem dX2_ask_167 : decode cX2_ask 167 = .ok (.iconst 0, 1) := by decide +kernel
theorem dX2_ask_168 : decode cX2_ask 168 = .ok (.putfield 311, 3) := by decide +kernel
theorem dX2_ask_171 : decode cX2_ask 171 = .ok (.iconst 0, 1) := by decide +kernel
theorem dX2_ask_172 : decode cX2_ask 172 = .ok (.istore_n 1, 1) := by decide +kernel
theorem dX2_ask_173 : decode cX2_ask 173 = .ok (.iload_n 1, 1) := by decide +kernel
theorem dX2_ask_174 : decode cX2_ask 174 = .ok (.aload_n 0, 1) := by decide +kernel
theorem dX2_ask_175 : decode cX2_ask 175 = .ok (.getfield 244, 3) := by decide +kernel
theorem dX2_ask_178 : decode cX2_ask 178 = .ok (.if_icmp .ge 32, 3) := by decide +kernel
theorem dX2_ask_181 : decode cX2_ask 181 = .ok (.aload_n 0, 1) := by decide +kernel
theorem dX2_ask_182 : decode cX2_ask 182 = .ok (.getfield 311, 3) := by decide +kernel
theorem dX2_ask_185 : decode cX2_ask 185 = .ok (.ifCond .ne 25, 3) := by decide +kernel
theorem dX2_ask_188 : decode cX2_ask 188 = .ok (.aload_n 0, 1) := by decide +kernel
theorem dX2_ask_189 : decode cX2_ask 189 = .ok (.aload_n 0, 1) := by decide +kernel
theorem dX2_ask_190 : decode cX2_ask 190 = .ok (.getfield 43, 3) := by decide +kernel
theorem dX2_ask_193 : decode cX2_ask 193 = .ok (.iload_n 1, 1) := by decide +kernel
theorem dX2_ask_194 : decode cX2_ask 194 = .ok (.iaload, 1) := by decide +kernel
theorem dX2_ask_195 : decode cX2_ask 195 = .ok (.aload_n 0, 1) := by decide +kernel
theorem dX2_ask_196 : decode cX2_ask 196 = .ok (.getfield 46, 3) := by decide +kernel
theorem dX2_ask_199 : decode cX2_ask 199 = .ok (.iload_n 1, 1) := by decide +kernel
theorem dX2_ask_200 : decode cX2_ask 200 = .ok (.iaload, 1) := by decide +kernel
theorem dX2_ask_201 : decode cX2_ask 201 = .ok (.invokevirtual 367, 3) := by decide +kernel
theorem dX2_ask_204 : decode cX2_ask 204 = .ok (.iinc 1 1, 3) := by decide +kernel
theorem dX2_ask_207 : decode cX2_ask 207 = .ok (.goto (-34), 3) := by decide +kernel
theorem dX2_ask_210 : decode cX2_ask 210 = .ok (.aload_n 0, 1) := by decide +kernel
theorem dX2_ask_211 : decode cX2_ask 211 = .ok (.aload_n 0, 1) := by decide +kernel
theorem dX2_ask_212 : decode cX2_ask 212 = .ok (.getfield 311, 3) := by decide +kernel
theorem dX2_ask_215 : decode cX2_ask 215 = .ok (.ifCond .ne 7, 3) := by decide +kernel
theorem dX2_ask_218 : decode cX2_ask 218 = .ok (.iconst 1, 1) := by decide +kernel
theorem dX2_ask_219 : decode cX2_ask 219 = .ok (.goto 4, 3) := by decide +kernel
theorem dX2_ask_222 : decode cX2_ask 222 = .ok (.iconst 0, 1) := by decide +kernel
theorem dX2_ask_223 : decode cX2_ask 223 = .ok (.iconst 2, 1) := by decide +kernel
theorem dX2_ask_224 : decode cX2_ask 224 = .ok (.invokevirtual 109, 3) := by decide +kernel
theorem dX2_ask_227 : decode cX2_ask 227 = .ok (.ifCond .ne 5, 3) := by decide +kernel
theorem dX2_ask_230 : decode cX2_ask 230 = .ok (.iconst 0, 1) := by decide +kernel
theorem dX2_ask_231 : decode cX2_ask 231 = .ok (.ireturn, 1) := by decide +kernel
theorem dX2_ask_232 : decode cX2_ask 232 = .ok (.aload_n 0, 1) := by decide +kernel
theorem dX2_ask_233 : decode cX2_ask 233 = .ok (.invokevirtual 370, 3) := by decide +kernel
theorem dX2_ask_236 : decode cX2_ask 236 = .ok (.aload_n 0, 1) := by decide +kernel
theorem dX2_ask_237 : decode cX2_ask 237 = .ok (.getfield 358, 3) := by decide +kernel
theorem dX2_ask_240 : decode cX2_ask 240 = .ok (.ireturn, 1) := by decide +kernel
abbrev cX2_next : ByteArray := prog_26_method_26_code
def yX2_next : MethodName := ⟨"TripleStoreModel", "next", "()V"⟩
theorem dX2_next_0 : decode cX2_next 0 = .ok (.aload_n 0, 1) := by decide +kernel
theorem dX2_next_1 : decode cX2_next 1 = .ok (.aload_n 0, 1) := by decide +kernel
theorem dX2_next_2 : decode cX2_next 2 = .ok (.getfield 172, 3) := by decide +kernel
theorem dX2_next_5 : decode cX2_next 5 = .ok (.putfield 175, 3) := by decide +kernel
theorem dX2_next_8 : decode cX2_next 8 = .ok (.aload_n 0, 1) := by decide +kernel
theorem dX2_next_9 : decode cX2_next 9 = .ok (.getfield 172, 3) := by decide +kernel
theorem dX2_next_12 : decode cX2_next 12 = .ok (.istore_n 1, 1) := by decide +kernel
theorem dX2_next_13 : decode cX2_next 13 = .ok (.iload_n 1, 1) := by decide +kernel
theorem dX2_next_14 : decode cX2_next 14 = .ok (.aload_n 0, 1) := by decide +kernel
theorem dX2_next_15 : decode cX2_next 15 = .ok (.getfield 161, 3) := by decide +kernel
theorem dX2_next_18 : decode cX2_next 18 = .ok (.if_icmp .ge 20, 3) := by decide +kernel
theorem dX2_next_21 : decode cX2_next 21 = .ok (.aload_n 0, 1) := by decide +kernel
theorem dX2_next_22 : decode cX2_next 22 = .ok (.getfield 27, 3) := by decide +kernel
theorem dX2_next_25 : decode cX2_next 25 = .ok (.iload_n 1, 1) := by decide +kernel
theorem dX2_next_26 : decode cX2_next 26 = .ok (.iaload, 1) := by decide +kernel
theorem dX2_next_27 : decode cX2_next 27 = .ok (.bipush 32, 2) := by decide +kernel
theorem dX2_next_29 : decode cX2_next 29 = .ok (.if_icmp .ne 9, 3) := by decide +kernel
theorem dX2_next_32 : decode cX2_next 32 = .ok (.iinc 1 1, 3) := by decide +kernel
theorem dX2_next_35 : decode cX2_next 35 = .ok (.goto (-22), 3) := by decide +kernel
theorem dX2_next_38 : decode cX2_next 38 = .ok (.aload_n 0, 1) := by decide +kernel
theorem dX2_next_39 : decode cX2_next 39 = .ok (.iload_n 1, 1) := by decide +kernel
theorem dX2_next_40 : decode cX2_next 40 = .ok (.putfield 178, 3) := by decide +kernel
theorem dX2_next_43 : decode cX2_next 43 = .ok (.aload_n 0, 1) := by decide +kernel
theorem dX2_next_44 : decode cX2_next 44 = .ok (.iconst 0, 1) := by decide +kernel
theorem dX2_next_45 : decode cX2_next 45 = .ok (.putfield 181, 3) := by decide +kernel
theorem dX2_next_48 : decode cX2_next 48 = .ok (.iload_n 1, 1) := by decide +kernel
theorem dX2_next_49 : decode cX2_next 49 = .ok (.aload_n 0, 1) := by decide +kernel
theorem dX2_next_50 : decode cX2_next 50 = .ok (.getfield 161, 3) := by decide +kernel
theorem dX2_next_53 : decode cX2_next 53 = .ok (.if_icmp .ne 4, 3) := by decide +kernel
theorem dX2_next_56 : decode cX2_next 56 = .ok (.return_, 1) := by decide +kernel
theorem dX2_next_57 : decode cX2_next 57 = .ok (.aload_n 0, 1) := by decide +kernel
theorem dX2_next_58 : decode cX2_next 58 = .ok (.getfield 27, 3) := by decide +kernel
theorem dX2_next_61 : decode cX2_next 61 = .ok (.iload_n 1, 1) := by decide +kernel
theorem dX2_next_62 : decode cX2_next 62 = .ok (.iaload, 1) := by decide +kernel
theorem dX2_next_63 : decode cX2_next 63 = .ok (.istore_n 2, 1) := by decide +kernel
theorem dX2_next_64 : decode cX2_next 64 = .ok (.aload_n 0, 1) := by decide +kernel
theorem dX2_next_65 : decode cX2_next 65 = .ok (.iload_n 1, 1) := by decide +kernel
theorem dX2_next_66 : decode cX2_next 66 = .ok (.iconst 1, 1) := by decide +kernel
theorem dX2_next_67 : decode cX2_next 67 = .ok (.iadd, 1) := by decide +kernel
theorem dX2_next_68 : decode cX2_next 68 = .ok (.putfield 172, 3) := by decide +kernel
theorem dX2_next_71 : decode cX2_next 71 = .ok (.iload_n 2, 1) := by decide +kernel
theorem dX2_next_72 : decode cX2_next 72 = .ok (.invokestatic 168, 3) := by decide +kernel
theorem dX2_next_75 : decode cX2_next 75 = .ok (.ifCond .eq 35, 3) := by decide +kernel
theorem dX2_next_78 : decode cX2_next 78 = .ok (.aload_n 0, 1) := by decide +kernel
theorem dX2_next_79 : decode cX2_next 79 = .ok (.aload_n 0, 1) := by decide +kernel
theorem dX2_next_80 : decode cX2_next 80 = .ok (.iload_n 1, 1) := by decide +kernel
theorem dX2_next_81 : decode cX2_next 81 = .ok (.invokevirtual 184, 3) := by decide +kernel
theorem dX2_next_84 : decode cX2_next 84 = .ok (.putfield 172, 3) := by decide +kernel
theorem dX2_next_87 : decode cX2_next 87 = .ok (.aload_n 0, 1) := by decide +kernel
theorem dX2_next_88 : decode cX2_next 88 = .ok (.aload_n 0, 1) := by decide +kernel
theorem dX2_next_89 : decode cX2_next 89 = .ok (.getfield 172, 3) := by decide +kernel
theorem dX2_next_92 : decode cX2_next 92 = .ok (.iload_n 1, 1) := by decide +kernel
theorem dX2_next_93 : decode cX2_next 93 = .ok (.isub, 1) := by decide +kernel
theorem dX2_next_94 : decode cX2_next 94 = .ok (.bipush 8, 2) := by decide +kernel
theorem dX2_next_96 : decode cX2_next 96 = .ok (.if_icmp .le 7, 3) := by decide +kernel
theorem dX2_next_99 : decode cX2_next 99 = .ok (.iconst 5, 1) := by decide +kernel
theorem dX2_next_100 : decode cX2_next 100 = .ok (.goto 4, 3) := by decide +kernel
theorem dX2_next_103 : decode cX2_next 103 = .ok (.iconst 1, 1) := by decide +kernel
theorem dX2_next_104 : decode cX2_next 104 = .ok (.putfield 181, 3) := by decide +kernel
theorem dX2_next_107 : decode cX2_next 107 = .ok (.goto 208, 3) := by decide +kernel
theorem dX2_next_110 : decode cX2_next 110 = .ok (.iload_n 2, 1) := by decide +kernel
theorem dX2_next_111 : decode cX2_next 111 = .ok (.invokestatic 188, 3) := by decide +kernel
theorem dX2_next_114 : decode cX2_next 114 = .ok (.ifCond .eq 98, 3) := by decide +kernel
theorem dX2_next_117 : decode cX2_next 117 = .ok (.aload_n 0, 1) := by decide +kernel
theorem dX2_next_118 : decode cX2_next 118 = .ok (.lconst 0, 1) := by decide +kernel
theorem dX2_next_119 : decode cX2_next 119 = .ok (.putfield 164, 3) := by decide +kernel
theorem dX2_next_122 : decode cX2_next 122 = .ok (.iload_n 1, 1) := by decide +kernel
theorem dX2_next_123 : decode cX2_next 123 = .ok (.aload_n 0, 1) := by decide +kernel
theorem dX2_next_124 : decode cX2_next 124 = .ok (.getfield 161, 3) := by decide +kernel
theorem dX2_next_127 : decode cX2_next 127 = .ok (.if_icmp .ge 55, 3) := by decide +kernel
theorem dX2_next_130 : decode cX2_next 130 = .ok (.aload_n 0, 1) := by decide +kernel
theorem dX2_next_131 : decode cX2_next 131 = .ok (.getfield 27, 3) := by decide +kernel
theorem dX2_next_134 : decode cX2_next 134 = .ok (.iload_n 1, 1) := by decide +kernel
theorem dX2_next_135 : decode cX2_next 135 = .ok (.iaload, 1) := by decide +kernel
theorem dX2_next_136 : decode cX2_next 136 = .ok (.invokestatic 188, 3) := by decide +kernel
theorem dX2_next_139 : decode cX2_next 139 = .ok (.ifCond .eq 43, 3) := by decide +kernel
theorem dX2_next_142 : decode cX2_next 142 = .ok (.iload_n 1, 1) := by decide +kernel
theorem dX2_next_143 : decode cX2_next 143 = .ok (.aload_n 0, 1) := by decide +kernel
theorem dX2_next_144 : decode cX2_next 144 = .ok (.getfield 178, 3) := by decide +kernel
theorem dX2_next_147 : decode cX2_next 147 = .ok (.isub, 1) := by decide +kernel
theorem dX2_next_148 : decode cX2_next 148 = .ok (.iconst 4, 1) := by decide +kernel
theorem dX2_next_149 : decode cX2_next 149 = .ok (.if_icmp .ge 27, 3) := by decide +kernel
theorem dX2_next_152 : decode cX2_next 152 = .ok (.aload_n 0, 1) := by decide +kernel
theorem dX2_next_153 : decode cX2_next 153 = .ok (.ldc2_w 191, 3) := by decide +kernel
theorem dX2_next_156 : decode cX2_next 156 = .ok (.aload_n 0, 1) := by decide +kernel
theorem dX2_next_157 : decode cX2_next 157 = .ok (.getfield 164, 3) := by decide +kernel
theorem dX2_next_160 : decode cX2_next 160 = .ok (.lmul, 1) := by decide +kernel
theorem dX2_next_161 : decode cX2_next 161 = .ok (.aload_n 0, 1) := by decide +kernel
theorem dX2_next_162 : decode cX2_next 162 = .ok (.getfield 27, 3) := by decide +kernel
theorem dX2_next_165 : decode cX2_next 165 = .ok (.iload_n 1, 1) := by decide +kernel
theorem dX2_next_166 : decode cX2_next 166 = .ok (.iaload, 1) := by decide +kernel
theorem dX2_next_167 : decode cX2_next 167 = .ok (.i2l, 1) := by decide +kernel
theorem dX2_next_168 : decode cX2_next 168 = .ok (.ladd, 1) := by decide +kernel
theorem dX2_next_169 : decode cX2_next 169 = .ok (.ldc2_w 193, 3) := by decide +kernel
theorem dX2_next_172 : decode cX2_next 172 = .ok (.lsub, 1) := by decide +kernel
theorem dX2_next_173 : decode cX2_next 173 = .ok (.putfield 164, 3) := by decide +kernel
theorem dX2_next_176 : decode cX2_next 176 = .ok (.iinc 1 1, 3) := by decide +kernel
theorem dX2_next_179 : decode cX2_next 179 = .ok (.goto (-57), 3) := by decide +kernel
theorem dX2_next_182 : decode cX2_next 182 = .ok (.aload_n 0, 1) := by decide +kernel
theorem dX2_next_183 : decode cX2_next 183 = .ok (.iload_n 1, 1) := by decide +kernel
theorem dX2_next_184 : decode cX2_next 184 = .ok (.putfield 172, 3) := by decide +kernel
theorem dX2_next_187 : decode cX2_next 187 = .ok (.aload_n 0, 1) := by decide +kernel
theorem dX2_next_188 : decode cX2_next 188 = .ok (.aload_n 0, 1) := by decide +kernel
theorem dX2_next_189 : decode cX2_next 189 = .ok (.getfield 172, 3) := by decide +kernel
theorem dX2_next_192 : decode cX2_next 192 = .ok (.aload_n 0, 1) := by decide +kernel
theorem dX2_next_193 : decode cX2_next 193 = .ok (.getfield 178, 3) := by decide +kernel
theorem dX2_next_196 : decode cX2_next 196 = .ok (.isub, 1) := by decide +kernel
theorem dX2_next_197 : decode cX2_next 197 = .ok (.iconst 4, 1) := by decide +kernel
theorem dX2_next_198 : decode cX2_next 198 = .ok (.if_icmp .le 7, 3) := by decide +kernel
theorem dX2_next_201 : decode cX2_next 201 = .ok (.iconst 5, 1) := by decide +kernel
theorem dX2_next_202 : decode cX2_next 202 = .ok (.goto 4, 3) := by decide +kernel
theorem dX2_next_205 : decode cX2_next 205 = .ok (.iconst 2, 1) := by decide +kernel
theorem dX2_next_206 : decode cX2_next 206 = .ok (.putfield 181, 3) := by decide +kernel
theorem dX2_next_209 : decode cX2_next 209 = .ok (.goto 106, 3) := by decide +kernel
theorem dX2_next_212 : decode cX2_next 212 = .ok (.iload_n 2, 1) := by decide +kernel
theorem dX2_next_213 : decode cX2_next 213 = .ok (.bipush 63, 2) := by decide +kernel
theorem dX2_next_215 : decode cX2_next 215 = .ok (.if_icmp .ne 43, 3) := by decide +kernel
theorem dX2_next_218 : decode cX2_next 218 = .ok (.aload_n 0, 1) := by decide +kernel
theorem dX2_next_219 : decode cX2_next 219 = .ok (.aload_n 0, 1) := by decide +kernel
theorem dX2_next_220 : decode cX2_next 220 = .ok (.iload_n 1, 1) := by decide +kernel
theorem dX2_next_221 : decode cX2_next 221 = .ok (.iconst 1, 1) := by decide +kernel
theorem dX2_next_222 : decode cX2_next 222 = .ok (.iadd, 1) := by decide +kernel
theorem dX2_next_223 : decode cX2_next 223 = .ok (.invokevirtual 184, 3) := by decide +kernel
theorem dX2_next_226 : decode cX2_next 226 = .ok (.putfield 172, 3) := by decide +kernel
theorem dX2_next_229 : decode cX2_next 229 = .ok (.aload_n 0, 1) := by decide +kernel
theorem dX2_next_230 : decode cX2_next 230 = .ok (.aload_n 0, 1) := by decide +kernel
theorem dX2_next_231 : decode cX2_next 231 = .ok (.getfield 172, 3) := by decide +kernel
theorem dX2_next_234 : decode cX2_next 234 = .ok (.iload_n 1, 1) := by decide +kernel
theorem dX2_next_235 : decode cX2_next 235 = .ok (.isub, 1) := by decide +kernel
theorem dX2_next_236 : decode cX2_next 236 = .ok (.iconst 1, 1) := by decide +kernel
theorem dX2_next_237 : decode cX2_next 237 = .ok (.isub, 1) := by decide +kernel
theorem dX2_next_238 : decode cX2_next 238 = .ok (.iconst 1, 1) := by decide +kernel
theorem dX2_next_239 : decode cX2_next 239 = .ok (.bipush 8, 2) := by decide +kernel
theorem dX2_next_241 : decode cX2_next 241 = .ok (.invokestatic 94, 3) := by decide +kernel
theorem dX2_next_244 : decode cX2_next 244 = .ok (.ifCond .eq 7, 3) := by decide +kernel
theorem dX2_next_247 : decode cX2_next 247 = .ok (.iconst 3, 1) := by decide +kernel
theorem dX2_next_248 : decode cX2_next 248 = .ok (.goto 4, 3) := by decide +kernel
theorem dX2_next_251 : decode cX2_next 251 = .ok (.iconst 5, 1) := by decide +kernel
theorem dX2_next_252 : decode cX2_next 252 = .ok (.putfield 181, 3) := by decide +kernel
theorem dX2_next_255 : decode cX2_next 255 = .ok (.goto 60, 3) := by decide +kernel
theorem dX2_next_258 : decode cX2_next 258 = .ok (.aload_n 0, 1) := by decide +kernel
theorem dX2_next_259 : decode cX2_next 259 = .ok (.iload_n 2, 1) := by decide +kernel
theorem dX2_next_260 : decode cX2_next 260 = .ok (.i2l, 1) := by decide +kernel
theorem dX2_next_261 : decode cX2_next 261 = .ok (.putfield 164, 3) := by decide +kernel
theorem dX2_next_264 : decode cX2_next 264 = .ok (.aload_n 0, 1) := by decide +kernel
theorem dX2_next_265 : decode cX2_next 265 = .ok (.iload_n 2, 1) := by decide +kernel
theorem dX2_next_266 : decode cX2_next 266 = .ok (.bipush 123, 2) := by decide +kernel
theorem dX2_next_268 : decode cX2_next 268 = .ok (.if_icmp .eq 39, 3) := by decide +kernel
theorem dX2_next_271 : decode cX2_next 271 = .ok (.iload_n 2, 1) := by decide +kernel
theorem dX2_next_272 : decode cX2_next 272 = .ok (.bipush 125, 2) := by decide +kernel
theorem dX2_next_274 : decode cX2_next 274 = .ok (.if_icmp .eq 33, 3) := by decide +kernel
theorem dX2_next_277 : decode cX2_next 277 = .ok (.iload_n 2, 1) := by decide +kernel
theorem dX2_next_278 : decode cX2_next 278 = .ok (.bipush 46, 2) := by decide +kernel
theorem dX2_next_280 : decode cX2_next 280 = .ok (.if_icmp .eq 27, 3) := by decide +kernel
theorem dX2_next_283 : decode cX2_next 283 = .ok (.iload_n 2, 1) := by decide +kernel
theorem dX2_next_284 : decode cX2_next 284 = .ok (.bipush 61, 2) := by decide +kernel
theorem dX2_next_286 : decode cX2_next 286 = .ok (.if_icmp .eq 21, 3) := by decide +kernel
theorem dX2_next_289 : decode cX2_next 289 = .ok (.iload_n 2, 1) := by decide +kernel
theorem dX2_next_290 : decode cX2_next 290 = .ok (.bipush 60, 2) := by decide +kernel
theorem dX2_next_292 : decode cX2_next 292 = .ok (.if_icmp .eq 15, 3) := by decide +kernel
theorem dX2_next_295 : decode cX2_next 295 = .ok (.iload_n 2, 1) := by decide +kernel
theorem dX2_next_296 : decode cX2_next 296 = .ok (.bipush 62, 2) := by decide +kernel
theorem dX2_next_298 : decode cX2_next 298 = .ok (.if_icmp .eq 9, 3) := by decide +kernel
theorem dX2_next_301 : decode cX2_next 301 = .ok (.iload_n 2, 1) := by decide +kernel
theorem dX2_next_302 : decode cX2_next 302 = .ok (.bipush 33, 2) := by decide +kernel
theorem dX2_next_304 : decode cX2_next 304 = .ok (.if_icmp .ne 7, 3) := by decide +kernel
theorem dX2_next_307 : decode cX2_next 307 = .ok (.iconst 4, 1) := by decide +kernel
theorem dX2_next_308 : decode cX2_next 308 = .ok (.goto 4, 3) := by decide +kernel
theorem dX2_next_311 : decode cX2_next 311 = .ok (.iconst 5, 1) := by decide +kernel
theorem dX2_next_312 : decode cX2_next 312 = .ok (.putfield 181, 3) := by decide +kernel
theorem dX2_next_315 : decode cX2_next 315 = .ok (.return_, 1) := by decide +kernel
abbrev cX2_isLetter : ByteArray := prog_26_method_23_code
def yX2_isLetter : MethodName := ⟨"TripleStoreModel", "isLetter", "(I)Z"⟩
theorem dX2_isLetter_0 : decode cX2_isLetter 0 = .ok (.iload_n 0, 1) := by decide +kernel
theorem dX2_isLetter_1 : decode cX2_isLetter 1 = .ok (.bipush 97, 2) := by decide +kernel
theorem dX2_isLetter_3 : decode cX2_isLetter 3 = .ok (.bipush 122, 2) := by decide +kernel
theorem dX2_isLetter_5 : decode cX2_isLetter 5 = .ok (.invokestatic 94, 3) := by decide +kernel
theorem dX2_isLetter_8 : decode cX2_isLetter 8 = .ok (.ireturn, 1) := by decide +kernel
abbrev cX2_letters : ByteArray := prog_26_method_25_code
def yX2_letters : MethodName := ⟨"TripleStoreModel", "letters", "(I)I"⟩
theorem dX2_letters_0 : decode cX2_letters 0 = .ok (.iload_n 1, 1) := by decide +kernel
theorem dX2_letters_1 : decode cX2_letters 1 = .ok (.istore_n 2, 1) := by decide +kernel
theorem dX2_letters_2 : decode cX2_letters 2 = .ok (.aload_n 0, 1) := by decide +kernel
theorem dX2_letters_3 : decode cX2_letters 3 = .ok (.lconst 0, 1) := by decide +kernel
theorem dX2_letters_4 : decode cX2_letters 4 = .ok (.putfield 164, 3) := by decide +kernel
theorem dX2_letters_7 : decode cX2_letters 7 = .ok (.iload_n 2, 1) := by decide +kernel
theorem dX2_letters_8 : decode cX2_letters 8 = .ok (.aload_n 0, 1) := by decide +kernel
theorem dX2_letters_9 : decode cX2_letters 9 = .ok (.getfield 161, 3) := by decide +kernel
theorem dX2_letters_12 : decode cX2_letters 12 = .ok (.if_icmp .ge 48, 3) := by decide +kernel
theorem dX2_letters_15 : decode cX2_letters 15 = .ok (.aload_n 0, 1) := by decide +kernel
theorem dX2_letters_16 : decode cX2_letters 16 = .ok (.getfield 27, 3) := by decide +kernel
theorem dX2_letters_19 : decode cX2_letters 19 = .ok (.iload_n 2, 1) := by decide +kernel
theorem dX2_letters_20 : decode cX2_letters 20 = .ok (.iaload, 1) := by decide +kernel
theorem dX2_letters_21 : decode cX2_letters 21 = .ok (.invokestatic 168, 3) := by decide +kernel
theorem dX2_letters_24 : decode cX2_letters 24 = .ok (.ifCond .eq 36, 3) := by decide +kernel
theorem dX2_letters_27 : decode cX2_letters 27 = .ok (.iload_n 2, 1) := by decide +kernel
theorem dX2_letters_28 : decode cX2_letters 28 = .ok (.iload_n 1, 1) := by decide +kernel
theorem dX2_letters_29 : decode cX2_letters 29 = .ok (.isub, 1) := by decide +kernel
theorem dX2_letters_30 : decode cX2_letters 30 = .ok (.bipush 8, 2) := by decide +kernel
theorem dX2_letters_32 : decode cX2_letters 32 = .ok (.if_icmp .ge 22, 3) := by decide +kernel
theorem dX2_letters_35 : decode cX2_letters 35 = .ok (.aload_n 0, 1) := by decide +kernel
theorem dX2_letters_36 : decode cX2_letters 36 = .ok (.aload_n 0, 1) := by decide +kernel
theorem dX2_letters_37 : decode cX2_letters 37 = .ok (.getfield 164, 3) := by decide +kernel
theorem dX2_letters_40 : decode cX2_letters 40 = .ok (.bipush 8, 2) := by decide +kernel
theorem dX2_letters_42 : decode cX2_letters 42 = .ok (.lshl, 1) := by decide +kernel
theorem dX2_letters_43 : decode cX2_letters 43 = .ok (.aload_n 0, 1) := by decide +kernel
theorem dX2_letters_44 : decode cX2_letters 44 = .ok (.getfield 27, 3) := by decide +kernel
theorem dX2_letters_47 : decode cX2_letters 47 = .ok (.iload_n 2, 1) := by decide +kernel
theorem dX2_letters_48 : decode cX2_letters 48 = .ok (.iaload, 1) := by decide +kernel
theorem dX2_letters_49 : decode cX2_letters 49 = .ok (.i2l, 1) := by decide +kernel
theorem dX2_letters_50 : decode cX2_letters 50 = .ok (.lor, 1) := by decide +kernel
theorem dX2_letters_51 : decode cX2_letters 51 = .ok (.putfield 164, 3) := by decide +kernel
theorem dX2_letters_54 : decode cX2_letters 54 = .ok (.iinc 2 1, 3) := by decide +kernel
theorem dX2_letters_57 : decode cX2_letters 57 = .ok (.goto (-50), 3) := by decide +kernel
theorem dX2_letters_60 : decode cX2_letters 60 = .ok (.iload_n 2, 1) := by decide +kernel
theorem dX2_letters_61 : decode cX2_letters 61 = .ok (.ireturn, 1) := by decide +kernel
abbrev cX2_isFigure : ByteArray := prog_26_method_24_code
def yX2_isFigure : MethodName := ⟨"TripleStoreModel", "isFigure", "(I)Z"⟩
theorem dX2_isFigure_0 : decode cX2_isFigure 0 = .ok (.iload_n 0, 1) := by decide +kernel
theorem dX2_isFigure_1 : decode cX2_isFigure 1 = .ok (.bipush 48, 2) := by decide +kernel
theorem dX2_isFigure_3 : decode cX2_isFigure 3 = .ok (.bipush 57, 2) := by decide +kernel
theorem dX2_isFigure_5 : decode cX2_isFigure 5 = .ok (.invokestatic 94, 3) := by decide +kernel
theorem dX2_isFigure_8 : decode cX2_isFigure 8 = .ok (.ireturn, 1) := by decide +kernel
abbrev cX2_readQuery : ByteArray := prog_26_method_41_code
def yX2_readQuery : MethodName := ⟨"TripleStoreModel", "readQuery", "()V"⟩
theorem dX2_readQuery_0 : decode cX2_readQuery 0 = .ok (.aload_n 0, 1) := by decide +kernel
theorem dX2_readQuery_1 : decode cX2_readQuery 1 = .ok (.aload_n 0, 1) := by decide +kernel
theorem dX2_readQuery_2 : decode cX2_readQuery 2 = .ok (.iconst 0, 1) := by decide +kernel
theorem dX2_readQuery_3 : decode cX2_readQuery 3 = .ok (.invokevirtual 217, 3) := by decide +kernel
theorem dX2_readQuery_6 : decode cX2_readQuery 6 = .ok (.invokevirtual 232, 3) := by decide +kernel
theorem dX2_readQuery_9 : decode cX2_readQuery 9 = .ok (.ifCond .ne 4, 3) := by decide +kernel
theorem dX2_readQuery_12 : decode cX2_readQuery 12 = .ok (.return_, 1) := by decide +kernel
theorem dX2_readQuery_13 : decode cX2_readQuery 13 = .ok (.aload_n 0, 1) := by decide +kernel
theorem dX2_readQuery_14 : decode cX2_readQuery 14 = .ok (.aload_n 0, 1) := by decide +kernel
theorem dX2_readQuery_15 : decode cX2_readQuery 15 = .ok (.iconst 1, 1) := by decide +kernel
theorem dX2_readQuery_16 : decode cX2_readQuery 16 = .ok (.invokevirtual 217, 3) := by decide +kernel
theorem dX2_readQuery_19 : decode cX2_readQuery 19 = .ok (.putfield 293, 3) := by decide +kernel
theorem dX2_readQuery_22 : decode cX2_readQuery 22 = .ok (.aload_n 0, 1) := by decide +kernel
theorem dX2_readQuery_23 : decode cX2_readQuery 23 = .ok (.getfield 293, 3) := by decide +kernel
theorem dX2_readQuery_26 : decode cX2_readQuery 26 = .ok (.ifCond .eq 7, 3) := by decide +kernel
theorem dX2_readQuery_29 : decode cX2_readQuery 29 = .ok (.aload_n 0, 1) := by decide +kernel
theorem dX2_readQuery_30 : decode cX2_readQuery 30 = .ok (.invokevirtual 226, 3) := by decide +kernel
theorem dX2_readQuery_33 : decode cX2_readQuery 33 = .ok (.iconst 1, 1) := by decide +kernel
theorem dX2_readQuery_34 : decode cX2_readQuery 34 = .ok (.istore_n 1, 1) := by decide +kernel
theorem dX2_readQuery_35 : decode cX2_readQuery 35 = .ok (.iload_n 1, 1) := by decide +kernel
theorem dX2_readQuery_36 : decode cX2_readQuery 36 = .ok (.ifCond .eq 72, 3) := by decide +kernel
theorem dX2_readQuery_39 : decode cX2_readQuery 39 = .ok (.aload_n 0, 1) := by decide +kernel
theorem dX2_readQuery_40 : decode cX2_readQuery 40 = .ok (.getfield 296, 3) := by decide +kernel
theorem dX2_readQuery_43 : decode cX2_readQuery 43 = .ok (.bipush 6, 2) := by decide +kernel
theorem dX2_readQuery_45 : decode cX2_readQuery 45 = .ok (.if_icmp .ne 7, 3) := by decide +kernel
theorem dX2_readQuery_48 : decode cX2_readQuery 48 = .ok (.aload_n 0, 1) := by decide +kernel
theorem dX2_readQuery_49 : decode cX2_readQuery 49 = .ok (.invokevirtual 223, 3) := by decide +kernel
theorem dX2_readQuery_52 : decode cX2_readQuery 52 = .ok (.aload_n 0, 1) := by decide +kernel
theorem dX2_readQuery_53 : decode cX2_readQuery 53 = .ok (.getfield 220, 3) := by decide +kernel
theorem dX2_readQuery_56 : decode cX2_readQuery 56 = .ok (.ifCond .lt 4, 3) := by decide +kernel
theorem dX2_readQuery_59 : decode cX2_readQuery 59 = .ok (.return_, 1) := by decide +kernel
theorem dX2_readQuery_60 : decode cX2_readQuery 60 = .ok (.aload_n 0, 1) := by decide +kernel
theorem dX2_readQuery_61 : decode cX2_readQuery 61 = .ok (.getfield 64, 3) := by decide +kernel
theorem dX2_readQuery_64 : decode cX2_readQuery 64 = .ok (.aload_n 0, 1) := by decide +kernel
theorem dX2_readQuery_65 : decode cX2_readQuery 65 = .ok (.getfield 296, 3) := by decide +kernel
theorem dX2_readQuery_68 : decode cX2_readQuery 68 = .ok (.aload_n 0, 1) := by decide +kernel
theorem dX2_readQuery_69 : decode cX2_readQuery 69 = .ok (.invokevirtual 236, 3) := by decide +kernel
theorem dX2_readQuery_72 : decode cX2_readQuery 72 = .ok (.iastore, 1) := by decide +kernel
theorem dX2_readQuery_73 : decode cX2_readQuery 73 = .ok (.aload_n 0, 1) := by decide +kernel
theorem dX2_readQuery_74 : decode cX2_readQuery 74 = .ok (.dup, 1) := by decide +kernel
theorem dX2_readQuery_75 : decode cX2_readQuery 75 = .ok (.getfield 296, 3) := by decide +kernel
theorem dX2_readQuery_78 : decode cX2_readQuery 78 = .ok (.iconst 1, 1) := by decide +kernel
theorem dX2_readQuery_79 : decode cX2_readQuery 79 = .ok (.iadd, 1) := by decide +kernel
theorem dX2_readQuery_80 : decode cX2_readQuery 80 = .ok (.putfield 296, 3) := by decide +kernel
theorem dX2_readQuery_83 : decode cX2_readQuery 83 = .ok (.aload_n 0, 1) := by decide +kernel
theorem dX2_readQuery_84 : decode cX2_readQuery 84 = .ok (.getfield 220, 3) := by decide +kernel
theorem dX2_readQuery_87 : decode cX2_readQuery 87 = .ok (.ifCond .lt 4, 3) := by decide +kernel
theorem dX2_readQuery_90 : decode cX2_readQuery 90 = .ok (.return_, 1) := by decide +kernel
theorem dX2_readQuery_91 : decode cX2_readQuery 91 = .ok (.aload_n 0, 1) := by decide +kernel
theorem dX2_readQuery_92 : decode cX2_readQuery 92 = .ok (.getfield 181, 3) := by decide +kernel
theorem dX2_readQuery_95 : decode cX2_readQuery 95 = .ok (.iconst 3, 1) := by decide +kernel
theorem dX2_readQuery_96 : decode cX2_readQuery 96 = .ok (.if_icmp .ne 7, 3) := by decide +kernel
theorem dX2_readQuery_99 : decode cX2_readQuery 99 = .ok (.iconst 1, 1) := by decide +kernel
theorem dX2_readQuery_100 : decode cX2_readQuery 100 = .ok (.goto 4, 3) := by decide +kernel
theorem dX2_readQuery_103 : decode cX2_readQuery 103 = .ok (.iconst 0, 1) := by decide +kernel
theorem dX2_readQuery_104 : decode cX2_readQuery 104 = .ok (.istore_n 1, 1) := by decide +kernel
theorem dX2_readQuery_105 : decode cX2_readQuery 105 = .ok (.goto (-70), 3) := by decide +kernel
theorem dX2_readQuery_108 : decode cX2_readQuery 108 = .ok (.aload_n 0, 1) := by decide +kernel
theorem dX2_readQuery_109 : decode cX2_readQuery 109 = .ok (.invokevirtual 299, 3) := by decide +kernel
theorem dX2_readQuery_112 : decode cX2_readQuery 112 = .ok (.aload_n 0, 1) := by decide +kernel
theorem dX2_readQuery_113 : decode cX2_readQuery 113 = .ok (.getfield 220, 3) := by decide +kernel
theorem dX2_readQuery_116 : decode cX2_readQuery 116 = .ok (.ifCond .lt 4, 3) := by decide +kernel
theorem dX2_readQuery_119 : decode cX2_readQuery 119 = .ok (.return_, 1) := by decide +kernel
theorem dX2_readQuery_120 : decode cX2_readQuery 120 = .ok (.aload_n 0, 1) := by decide +kernel
theorem dX2_readQuery_121 : decode cX2_readQuery 121 = .ok (.iconst 2, 1) := by decide +kernel
theorem dX2_readQuery_122 : decode cX2_readQuery 122 = .ok (.invokevirtual 217, 3) := by decide +kernel
theorem dX2_readQuery_125 : decode cX2_readQuery 125 = .ok (.ifCond .eq 43, 3) := by decide +kernel
theorem dX2_readQuery_128 : decode cX2_readQuery 128 = .ok (.aload_n 0, 1) := by decide +kernel
theorem dX2_readQuery_129 : decode cX2_readQuery 129 = .ok (.invokevirtual 226, 3) := by decide +kernel
theorem dX2_readQuery_132 : decode cX2_readQuery 132 = .ok (.aload_n 0, 1) := by decide +kernel
theorem dX2_readQuery_133 : decode cX2_readQuery 133 = .ok (.aload_n 0, 1) := by decide +kernel
theorem dX2_readQuery_134 : decode cX2_readQuery 134 = .ok (.invokevirtual 236, 3) := by decide +kernel
theorem dX2_readQuery_137 : decode cX2_readQuery 137 = .ok (.putfield 302, 3) := by decide +kernel
theorem dX2_readQuery_140 : decode cX2_readQuery 140 = .ok (.aload_n 0, 1) := by decide +kernel
theorem dX2_readQuery_141 : decode cX2_readQuery 141 = .ok (.getfield 220, 3) := by decide +kernel
theorem dX2_readQuery_144 : decode cX2_readQuery 144 = .ok (.ifCond .lt 4, 3) := by decide +kernel
theorem dX2_readQuery_147 : decode cX2_readQuery 147 = .ok (.return_, 1) := by decide +kernel
theorem dX2_readQuery_148 : decode cX2_readQuery 148 = .ok (.aload_n 0, 1) := by decide +kernel
theorem dX2_readQuery_149 : decode cX2_readQuery 149 = .ok (.aload_n 0, 1) := by decide +kernel
theorem dX2_readQuery_150 : decode cX2_readQuery 150 = .ok (.iconst 3, 1) := by decide +kernel
theorem dX2_readQuery_151 : decode cX2_readQuery 151 = .ok (.invokevirtual 217, 3) := by decide +kernel
theorem dX2_readQuery_154 : decode cX2_readQuery 154 = .ok (.putfield 305, 3) := by decide +kernel
theorem dX2_readQuery_157 : decode cX2_readQuery 157 = .ok (.aload_n 0, 1) := by decide +kernel
theorem dX2_readQuery_158 : decode cX2_readQuery 158 = .ok (.getfield 305, 3) := by decide +kernel
theorem dX2_readQuery_161 : decode cX2_readQuery 161 = .ok (.ifCond .eq 7, 3) := by decide +kernel
theorem dX2_readQuery_164 : decode cX2_readQuery 164 = .ok (.aload_n 0, 1) := by decide +kernel
theorem dX2_readQuery_165 : decode cX2_readQuery 165 = .ok (.invokevirtual 226, 3) := by decide +kernel
theorem dX2_readQuery_168 : decode cX2_readQuery 168 = .ok (.aload_n 0, 1) := by decide +kernel
theorem dX2_readQuery_169 : decode cX2_readQuery 169 = .ok (.iconst 4, 1) := by decide +kernel
theorem dX2_readQuery_170 : decode cX2_readQuery 170 = .ok (.invokevirtual 217, 3) := by decide +kernel
theorem dX2_readQuery_173 : decode cX2_readQuery 173 = .ok (.ifCond .eq 37, 3) := by decide +kernel
theorem dX2_readQuery_176 : decode cX2_readQuery 176 = .ok (.aload_n 0, 1) := by decide +kernel
theorem dX2_readQuery_177 : decode cX2_readQuery 177 = .ok (.invokevirtual 226, 3) := by decide +kernel
theorem dX2_readQuery_180 : decode cX2_readQuery 180 = .ok (.aload_n 0, 1) := by decide +kernel
theorem dX2_readQuery_181 : decode cX2_readQuery 181 = .ok (.aload_n 0, 1) := by decide +kernel
theorem dX2_readQuery_182 : decode cX2_readQuery 182 = .ok (.getfield 164, 3) := by decide +kernel
theorem dX2_readQuery_185 : decode cX2_readQuery 185 = .ok (.l2i, 1) := by decide +kernel
theorem dX2_readQuery_186 : decode cX2_readQuery 186 = .ok (.putfield 308, 3) := by decide +kernel
theorem dX2_readQuery_189 : decode cX2_readQuery 189 = .ok (.aload_n 0, 1) := by decide +kernel
theorem dX2_readQuery_190 : decode cX2_readQuery 190 = .ok (.aload_n 0, 1) := by decide +kernel
theorem dX2_readQuery_191 : decode cX2_readQuery 191 = .ok (.getfield 181, 3) := by decide +kernel
theorem dX2_readQuery_194 : decode cX2_readQuery 194 = .ok (.iconst 2, 1) := by decide +kernel
theorem dX2_readQuery_195 : decode cX2_readQuery 195 = .ok (.if_icmp .ne 7, 3) := by decide +kernel
theorem dX2_readQuery_198 : decode cX2_readQuery 198 = .ok (.iconst 1, 1) := by decide +kernel
theorem dX2_readQuery_199 : decode cX2_readQuery 199 = .ok (.goto 4, 3) := by decide +kernel
theorem dX2_readQuery_202 : decode cX2_readQuery 202 = .ok (.iconst 0, 1) := by decide +kernel
theorem dX2_readQuery_203 : decode cX2_readQuery 203 = .ok (.invokevirtual 232, 3) := by decide +kernel
theorem dX2_readQuery_206 : decode cX2_readQuery 206 = .ok (.ifCond .ne 4, 3) := by decide +kernel
theorem dX2_readQuery_209 : decode cX2_readQuery 209 = .ok (.return_, 1) := by decide +kernel
theorem dX2_readQuery_210 : decode cX2_readQuery 210 = .ok (.aload_n 0, 1) := by decide +kernel
theorem dX2_readQuery_211 : decode cX2_readQuery 211 = .ok (.getfield 181, 3) := by decide +kernel
theorem dX2_readQuery_214 : decode cX2_readQuery 214 = .ok (.ifCond .eq 7, 3) := by decide +kernel
theorem dX2_readQuery_217 : decode cX2_readQuery 217 = .ok (.aload_n 0, 1) := by decide +kernel
theorem dX2_readQuery_218 : decode cX2_readQuery 218 = .ok (.invokevirtual 223, 3) := by decide +kernel
theorem dX2_readQuery_221 : decode cX2_readQuery 221 = .ok (.return_, 1) := by decide +kernel
