set_option maxRecDepth 100000
theorem s_X2_init_0 : Snd PG.nam M36 0 (m_aload 0 1) := snd_aload_n dX2_init_0 rfl
theorem s_X2_init_1 : Snd PG.nam M36 1 (m_oi 4) := snd_oi dX2_init_1 w1408 w113 w114
theorem s_X2_init_4 : Snd PG.nam M36 4 (m_aload 0 5) := snd_aload_n dX2_init_4 rfl
theorem s_X2_init_5 : Snd PG.nam M36 5 (m_const (.int (nI 144)) 8) := snd_sipush dX2_init_5 (by decide)
theorem s_X2_init_8 : Snd PG.nam M36 8 (m_newa .long 10) := snd_newa dX2_init_8 w1587 rfl (by decide)
theorem s_X2_init_10 : Snd PG.nam M36 10 (m_putf [(1, 0)] (.array .long) 13) := snd_putF dX2_init_10 fd_X2_7 rfl
theorem s_X2_init_13 : Snd PG.nam M36 13 (m_aload 0 14) := snd_aload_n dX2_init_13 rfl
theorem s_X2_init_14 : Snd PG.nam M36 14 (m_const (.int (nI 144)) 17) := snd_sipush dX2_init_14 (by decide)
theorem s_X2_init_17 : Snd PG.nam M36 17 (m_newa .long 19) := snd_newa dX2_init_17 w1587 rfl (by decide)
theorem s_X2_init_19 : Snd PG.nam M36 19 (m_putf [(1, 2)] (.array .long) 22) := snd_putF dX2_init_19 fd_X2_13 rfl
theorem s_X2_init_22 : Snd PG.nam M36 22 (m_aload 0 23) := snd_aload_n dX2_init_22 rfl
theorem s_X2_init_23 : Snd PG.nam M36 23 (m_const (.int (nI 2400)) 26) := snd_sipush dX2_init_23 (by decide)
theorem s_X2_init_26 : Snd PG.nam M36 26 (m_newa .long 28) := snd_newa dX2_init_26 w1587 rfl (by decide)
theorem s_X2_init_28 : Snd PG.nam M36 28 (m_putf [(1, 4)] (.array .long) 31) := snd_putF dX2_init_28 fd_X2_16 rfl
theorem s_X2_init_31 : Snd PG.nam M36 31 (m_aload 0 32) := snd_aload_n dX2_init_31 rfl
theorem s_X2_init_32 : Snd PG.nam M36 32 (m_const (.int (nI 800)) 35) := snd_sipush dX2_init_32 (by decide)
theorem s_X2_init_35 : Snd PG.nam M36 35 (m_newa .boolean 37) := snd_newa dX2_init_35 w1588 rfl (by decide)
theorem s_X2_init_37 : Snd PG.nam M36 37 (m_putf [(1, 5)] (.array .boolean) 40) := snd_putF dX2_init_37 fd_X2_19 rfl
theorem s_X2_init_40 : Snd PG.nam M36 40 (m_aload 0 41) := snd_aload_n dX2_init_40 rfl
theorem s_X2_init_41 : Snd PG.nam M36 41 (m_const (.int (nI 800)) 44) := snd_sipush dX2_init_41 (by decide)
theorem s_X2_init_44 : Snd PG.nam M36 44 (m_newa .int 46) := snd_newa dX2_init_44 w968 rfl (by decide)
theorem s_X2_init_46 : Snd PG.nam M36 46 (m_putf [(1, 6)] (.array .int) 49) := snd_putF dX2_init_46 fd_X2_23 rfl
theorem s_X2_init_49 : Snd PG.nam M36 49 (m_aload 0 50) := snd_aload_n dX2_init_49 rfl
theorem s_X2_init_50 : Snd PG.nam M36 50 (m_const (.int (nI 160)) 53) := snd_sipush dX2_init_50 (by decide)
theorem s_X2_init_53 : Snd PG.nam M36 53 (m_newa .int 55) := snd_newa dX2_init_53 w968 rfl (by decide)
theorem s_X2_init_55 : Snd PG.nam M36 55 (m_putf [(1, 12)] (.array .int) 58) := snd_putF dX2_init_55 fd_X2_27 rfl
theorem s_X2_init_58 : Snd PG.nam M36 58 (m_aload 0 59) := snd_aload_n dX2_init_58 rfl
theorem s_X2_init_59 : Snd PG.nam M36 59 (m_const (.int (-1)) 60) := snd_iconst dX2_init_59 (by decide)
theorem s_X2_init_60 : Snd PG.nam M36 60 (m_putf [(1, 14)] .int 63) := snd_putf dX2_init_60 fd_X2_30
theorem s_X2_init_63 : Snd PG.nam M36 63 (m_aload 0 64) := snd_aload_n dX2_init_63 rfl
theorem s_X2_init_64 : Snd PG.nam M36 64 (m_const (.int (nI 6)) 66) := snd_bipush dX2_init_64 (by decide)
theorem s_X2_init_66 : Snd PG.nam M36 66 (m_newa .long 68) := snd_newa dX2_init_66 w1587 rfl (by decide)
theorem s_X2_init_68 : Snd PG.nam M36 68 (m_putf [(1, 23)] (.array .long) 71) := snd_putF dX2_init_68 fd_X2_34 rfl
theorem s_X2_init_71 : Snd PG.nam M36 71 (m_aload 0 72) := snd_aload_n dX2_init_71 rfl
theorem s_X2_init_72 : Snd PG.nam M36 72 (m_const (.int (nI 5)) 73) := snd_iconst dX2_init_72 (by decide)
theorem s_X2_init_73 : Snd PG.nam M36 73 (m_newa .int 75) := snd_newa dX2_init_73 w968 rfl (by decide)
theorem s_X2_init_75 : Snd PG.nam M36 75 (m_putf [(1, 28)] (.array .int) 78) := snd_putF dX2_init_75 fd_X2_37 rfl
theorem s_X2_init_78 : Snd PG.nam M36 78 (m_aload 0 79) := snd_aload_n dX2_init_78 rfl
theorem s_X2_init_79 : Snd PG.nam M36 79 (m_const (.int (nI 5)) 80) := snd_iconst dX2_init_79 (by decide)
theorem s_X2_init_80 : Snd PG.nam M36 80 (m_newa .int 82) := snd_newa dX2_init_80 w968 rfl (by decide)
theorem s_X2_init_82 : Snd PG.nam M36 82 (m_putf [(1, 29)] (.array .int) 85) := snd_putF dX2_init_82 fd_X2_40 rfl
theorem s_X2_init_85 : Snd PG.nam M36 85 (m_aload 0 86) := snd_aload_n dX2_init_85 rfl
theorem s_X2_init_86 : Snd PG.nam M36 86 (m_const (.int (nI 400)) 89) := snd_sipush dX2_init_86 (by decide)
theorem s_X2_init_89 : Snd PG.nam M36 89 (m_newa .int 91) := snd_newa dX2_init_89 w968 rfl (by decide)
theorem s_X2_init_91 : Snd PG.nam M36 91 (m_putf [(1, 30)] (.array .int) 94) := snd_putF dX2_init_91 fd_X2_43 rfl
theorem s_X2_init_94 : Snd PG.nam M36 94 (m_aload 0 95) := snd_aload_n dX2_init_94 rfl
theorem s_X2_init_95 : Snd PG.nam M36 95 (m_const (.int (nI 400)) 98) := snd_sipush dX2_init_95 (by decide)
theorem s_X2_init_98 : Snd PG.nam M36 98 (m_newa .int 100) := snd_newa dX2_init_98 w968 rfl (by decide)
theorem s_X2_init_100 : Snd PG.nam M36 100 (m_putf [(1, 31)] (.array .int) 103) := snd_putF dX2_init_100 fd_X2_46 rfl
theorem s_X2_init_103 : Snd PG.nam M36 103 (m_aload 0 104) := snd_aload_n dX2_init_103 rfl
theorem s_X2_init_104 : Snd PG.nam M36 104 (m_const (.int (nI 120)) 106) := snd_bipush dX2_init_104 (by decide)
theorem s_X2_init_106 : Snd PG.nam M36 106 (m_newa .int 108) := snd_newa dX2_init_106 w968 rfl (by decide)
theorem s_X2_init_108 : Snd PG.nam M36 108 (m_putf [(1, 33)] (.array .int) 111) := snd_putF dX2_init_108 fd_X2_49 rfl
theorem s_X2_init_111 : Snd PG.nam M36 111 (m_aload 0 112) := snd_aload_n dX2_init_111 rfl
theorem s_X2_init_112 : Snd PG.nam M36 112 (m_const (.int (nI 120)) 114) := snd_bipush dX2_init_112 (by decide)
theorem s_X2_init_114 : Snd PG.nam M36 114 (m_newa .long 116) := snd_newa dX2_init_114 w1587 rfl (by decide)
theorem s_X2_init_116 : Snd PG.nam M36 116 (m_putf [(1, 34)] (.array .long) 119) := snd_putF dX2_init_116 fd_X2_52 rfl
theorem s_X2_init_119 : Snd PG.nam M36 119 (m_aload 0 120) := snd_aload_n dX2_init_119 rfl
theorem s_X2_init_120 : Snd PG.nam M36 120 (m_const (.int (nI 14)) 122) := snd_bipush dX2_init_120 (by decide)
theorem s_X2_init_122 : Snd PG.nam M36 122 (m_newa .int 124) := snd_newa dX2_init_122 w968 rfl (by decide)
theorem s_X2_init_124 : Snd PG.nam M36 124 (m_putf [(1, 36)] (.array .int) 127) := snd_putF dX2_init_124 fd_X2_55 rfl
theorem s_X2_init_127 : Snd PG.nam M36 127 (m_aload 0 128) := snd_aload_n dX2_init_127 rfl
theorem s_X2_init_128 : Snd PG.nam M36 128 (m_const (.int (nI 14)) 130) := snd_bipush dX2_init_128 (by decide)
theorem s_X2_init_130 : Snd PG.nam M36 130 (m_newa .int 132) := snd_newa dX2_init_130 w968 rfl (by decide)
theorem s_X2_init_132 : Snd PG.nam M36 132 (m_putf [(1, 37)] (.array .int) 135) := snd_putF dX2_init_132 fd_X2_58 rfl
theorem s_X2_init_135 : Snd PG.nam M36 135 (m_aload 0 136) := snd_aload_n dX2_init_135 rfl
theorem s_X2_init_136 : Snd PG.nam M36 136 (m_const (.int (nI 14)) 138) := snd_bipush dX2_init_136 (by decide)
theorem s_X2_init_138 : Snd PG.nam M36 138 (m_newa .boolean 140) := snd_newa dX2_init_138 w1588 rfl (by decide)
theorem s_X2_init_140 : Snd PG.nam M36 140 (m_putf [(1, 38)] (.array .boolean) 143) := snd_putF dX2_init_140 fd_X2_61 rfl
theorem s_X2_init_143 : Snd PG.nam M36 143 (m_aload 0 144) := snd_aload_n dX2_init_143 rfl
theorem s_X2_init_144 : Snd PG.nam M36 144 (m_const (.int (nI 80)) 146) := snd_bipush dX2_init_144 (by decide)
theorem s_X2_init_146 : Snd PG.nam M36 146 (m_newa .int 148) := snd_newa dX2_init_146 w968 rfl (by decide)
theorem s_X2_init_148 : Snd PG.nam M36 148 (m_putf [(1, 40)] (.array .int) 151) := snd_putF dX2_init_148 fd_X2_64 rfl
theorem s_X2_init_151 : Snd PG.nam M36 151 (m_aload 0 152) := snd_aload_n dX2_init_151 rfl
theorem s_X2_init_152 : Snd PG.nam M36 152 (m_const (.int (nI 5)) 153) := snd_iconst dX2_init_152 (by decide)
theorem s_X2_init_153 : Snd PG.nam M36 153 (m_newa .int 155) := snd_newa dX2_init_153 w968 rfl (by decide)
theorem s_X2_init_155 : Snd PG.nam M36 155 (m_putf [(1, 42)] (.array .int) 158) := snd_putF dX2_init_155 fd_X2_67 rfl
theorem s_X2_init_158 : Snd PG.nam M36 158 (m_aload 0 159) := snd_aload_n dX2_init_158 rfl
theorem s_X2_init_159 : Snd PG.nam M36 159 (m_const (.int (nI 9900)) 162) := snd_sipush dX2_init_159 (by decide)
theorem s_X2_init_162 : Snd PG.nam M36 162 (m_newa .long 164) := snd_newa dX2_init_162 w1587 rfl (by decide)
theorem s_X2_init_164 : Snd PG.nam M36 164 (m_putf [(1, 47)] (.array .long) 167) := snd_putF dX2_init_164 fd_X2_70 rfl
theorem s_X2_init_167 : Snd PG.nam M36 167 (m_aload 0 168) := snd_aload_n dX2_init_167 rfl
theorem s_X2_init_168 : Snd PG.nam M36 168 (m_const (.int (nI 1650)) 171) := snd_sipush dX2_init_168 (by decide)
theorem s_X2_init_171 : Snd PG.nam M36 171 (m_newa .int 173) := snd_newa dX2_init_171 w968 rfl (by decide)
theorem s_X2_init_173 : Snd PG.nam M36 173 (m_putf [(1, 48)] (.array .int) 176) := snd_putF dX2_init_173 fd_X2_73 rfl
theorem s_X2_init_176 : Snd PG.nam M36 176 (m_aload 0 177) := snd_aload_n dX2_init_176 rfl
theorem s_X2_init_177 : Snd PG.nam M36 177 (m_const (.int (nI 11)) 179) := snd_bipush dX2_init_177 (by decide)
theorem s_X2_init_179 : Snd PG.nam M36 179 (m_newa .int 181) := snd_newa dX2_init_179 w968 rfl (by decide)
theorem s_X2_init_181 : Snd PG.nam M36 181 (m_putf [(1, 49)] (.array .int) 184) := snd_putF dX2_init_181 fd_X2_76 rfl
theorem s_X2_init_184 : Snd PG.nam M36 184 (m_aload 0 185) := snd_aload_n dX2_init_184 rfl
theorem s_X2_init_185 : Snd PG.nam M36 185 (m_const (.int (nI 900)) 188) := snd_sipush dX2_init_185 (by decide)
theorem s_X2_init_188 : Snd PG.nam M36 188 (m_newa .long 190) := snd_newa dX2_init_188 w1587 rfl (by decide)
theorem s_X2_init_190 : Snd PG.nam M36 190 (m_putf [(1, 52)] (.array .long) 193) := snd_putF dX2_init_190 fd_X2_79 rfl
theorem s_X2_init_193 : Snd PG.nam M36 193 (m_aload 0 194) := snd_aload_n dX2_init_193 rfl
theorem s_X2_init_194 : Snd PG.nam M36 194 (m_const (.int (nI 150)) 197) := snd_sipush dX2_init_194 (by decide)
theorem s_X2_init_197 : Snd PG.nam M36 197 (m_newa .int 199) := snd_newa dX2_init_197 w968 rfl (by decide)
theorem s_X2_init_199 : Snd PG.nam M36 199 (m_putf [(1, 53)] (.array .int) 202) := snd_putF dX2_init_199 fd_X2_82 rfl
theorem s_X2_init_202 : Snd PG.nam M36 202 (m_aload 0 203) := snd_aload_n dX2_init_202 rfl
theorem s_X2_init_203 : Snd PG.nam M36 203 (m_const (.int (nI 150)) 206) := snd_sipush dX2_init_203 (by decide)
theorem s_X2_init_206 : Snd PG.nam M36 206 (m_newa .int 208) := snd_newa dX2_init_206 w968 rfl (by decide)
theorem s_X2_init_208 : Snd PG.nam M36 208 (m_putf [(1, 54)] (.array .int) 211) := snd_putF dX2_init_208 fd_X2_85 rfl
theorem s_X2_init_211 : Snd PG.nam M36 211 (m_aload 0 212) := snd_aload_n dX2_init_211 rfl
theorem s_X2_init_212 : Snd PG.nam M36 212 (m_const (.int (nI 80)) 214) := snd_bipush dX2_init_212 (by decide)
theorem s_X2_init_214 : Snd PG.nam M36 214 (m_newa .int 216) := snd_newa dX2_init_214 w968 rfl (by decide)
theorem s_X2_init_216 : Snd PG.nam M36 216 (m_putf [(1, 56)] (.array .int) 219) := snd_putF dX2_init_216 fd_X2_88 rfl
theorem s_X2_init_219 : Snd PG.nam M36 219 (m_vret) := snd_vret dX2_init_219 rfl
theorem T36 : ∀ q ∈ S36, Snd PG.nam M36 q.1 q.2 := List.forall_mem_cons.mpr ⟨s_X2_init_0, List.forall_mem_cons.mpr ⟨s_X2_init_1, List.forall_mem_cons.mpr ⟨s_X2_init_4, List.forall_mem_cons.mpr ⟨s_X2_init_5, List.forall_mem_cons.mpr ⟨s_X2_init_8, List.forall_mem_cons.mpr ⟨s_X2_init_10, List.forall_mem_cons.mpr ⟨s_X2_init_13, List.forall_mem_cons.mpr ⟨s_X2_init_14, List.forall_mem_cons.mpr ⟨s_X2_init_17, List.forall_mem_cons.mpr ⟨s_X2_init_19, List.forall_mem_cons.mpr ⟨s_X2_init_22, List.forall_mem_cons.mpr ⟨s_X2_init_23, List.forall_mem_cons.mpr ⟨s_X2_init_26, List.forall_mem_cons.mpr ⟨s_X2_init_28, List.forall_mem_cons.mpr ⟨s_X2_init_31, List.forall_mem_cons.mpr ⟨s_X2_init_32, List.forall_mem_cons.mpr ⟨s_X2_init_35, List.forall_mem_cons.mpr ⟨s_X2_init_37, List.forall_mem_cons.mpr ⟨s_X2_init_40, List.forall_mem_cons.mpr ⟨s_X2_init_41, List.forall_mem_cons.mpr ⟨s_X2_init_44, List.forall_mem_cons.mpr ⟨s_X2_init_46, List.forall_mem_cons.mpr ⟨s_X2_init_49, List.forall_mem_cons.mpr ⟨s_X2_init_50, List.forall_mem_cons.mpr ⟨s_X2_init_53, List.forall_mem_cons.mpr ⟨s_X2_init_55, List.forall_mem_cons.mpr ⟨s_X2_init_58, List.forall_mem_cons.mpr ⟨s_X2_init_59, List.forall_mem_cons.mpr ⟨s_X2_init_60, List.forall_mem_cons.mpr ⟨s_X2_init_63, List.forall_mem_cons.mpr ⟨s_X2_init_64, List.forall_mem_cons.mpr ⟨s_X2_init_66, List.forall_mem_cons.mpr ⟨s_X2_init_68, List.forall_mem_cons.mpr ⟨s_X2_init_71, List.forall_mem_cons.mpr ⟨s_X2_init_72, List.forall_mem_cons.mpr ⟨s_X2_init_73, List.forall_mem_cons.mpr ⟨s_X2_init_75, List.forall_mem_cons.mpr ⟨s_X2_init_78, List.forall_mem_cons.mpr ⟨s_X2_init_79, List.forall_mem_cons.mpr ⟨s_X2_init_80, List.forall_mem_cons.mpr ⟨s_X2_init_82, List.forall_mem_cons.mpr ⟨s_X2_init_85, List.forall_mem_cons.mpr ⟨s_X2_init_86, List.forall_mem_cons.mpr ⟨s_X2_init_89, List.forall_mem_cons.mpr ⟨s_X2_init_91, List.forall_mem_cons.mpr ⟨s_X2_init_94, List.forall_mem_cons.mpr ⟨s_X2_init_95, List.forall_mem_cons.mpr ⟨s_X2_init_98, List.forall_mem_cons.mpr ⟨s_X2_init_100, List.forall_mem_cons.mpr ⟨s_X2_init_103, List.forall_mem_cons.mpr ⟨s_X2_init_104, List.forall_mem_cons.mpr ⟨s_X2_init_106, List.forall_mem_cons.mpr ⟨s_X2_init_108, List.forall_mem_cons.mpr ⟨s_X2_init_111, List.forall_mem_cons.mpr ⟨s_X2_init_112, List.forall_mem_cons.mpr ⟨s_X2_init_114, List.forall_mem_cons.mpr ⟨s_X2_init_116, List.forall_mem_cons.mpr ⟨s_X2_init_119, List.forall_mem_cons.mpr ⟨s_X2_init_120, List.forall_mem_cons.mpr ⟨s_X2_init_122, List.forall_mem_cons.mpr ⟨s_X2_init_124, List.forall_mem_cons.mpr ⟨s_X2_init_127, List.forall_mem_cons.mpr ⟨s_X2_init_128, List.forall_mem_cons.mpr ⟨s_X2_init_130, List.forall_mem_cons.mpr ⟨s_X2_init_132, List.forall_mem_cons.mpr ⟨s_X2_init_135, List.forall_mem_cons.mpr ⟨s_X2_init_136, List.forall_mem_cons.mpr ⟨s_X2_init_138, List.forall_mem_cons.mpr ⟨s_X2_init_140, List.forall_mem_cons.mpr ⟨s_X2_init_143, List.forall_mem_cons.mpr ⟨s_X2_init_144, List.forall_mem_cons.mpr ⟨s_X2_init_146, List.forall_mem_cons.mpr ⟨s_X2_init_148, List.forall_mem_cons.mpr ⟨s_X2_init_151, List.forall_mem_cons.mpr ⟨s_X2_init_152, List.forall_mem_cons.mpr ⟨s_X2_init_153, List.forall_mem_cons.mpr ⟨s_X2_init_155, List.forall_mem_cons.mpr ⟨s_X2_init_158, List.forall_mem_cons.mpr ⟨s_X2_init_159, List.forall_mem_cons.mpr ⟨s_X2_init_162, List.forall_mem_cons.mpr ⟨s_X2_init_164, List.forall_mem_cons.mpr ⟨s_X2_init_167, List.forall_mem_cons.mpr ⟨s_X2_init_168, List.forall_mem_cons.mpr ⟨s_X2_init_171, List.forall_mem_cons.mpr ⟨s_X2_init_173, List.forall_mem_cons.mpr ⟨s_X2_init_176, List.forall_mem_cons.mpr ⟨s_X2_init_177, List.forall_mem_cons.mpr ⟨s_X2_init_179, List.forall_mem_cons.mpr ⟨s_X2_init_181, List.forall_mem_cons.mpr ⟨s_X2_init_184, List.forall_mem_cons.mpr ⟨s_X2_init_185, List.forall_mem_cons.mpr ⟨s_X2_init_188, List.forall_mem_cons.mpr ⟨s_X2_init_190, List.forall_mem_cons.mpr ⟨s_X2_init_193, List.forall_mem_cons.mpr ⟨s_X2_init_194, List.forall_mem_cons.mpr ⟨s_X2_init_197, List.forall_mem_cons.mpr ⟨s_X2_init_199, List.forall_mem_cons.mpr ⟨s_X2_init_202, List.forall_mem_cons.mpr ⟨s_X2_init_203, List.forall_mem_cons.mpr ⟨s_X2_init_206, List.forall_mem_cons.mpr ⟨s_X2_init_208, List.forall_mem_cons.mpr ⟨s_X2_init_211, List.forall_mem_cons.mpr ⟨s_X2_init_212, List.forall_mem_cons.mpr ⟨s_X2_init_214, List.forall_mem_cons.mpr ⟨s_X2_init_216, List.forall_mem_cons.mpr ⟨s_X2_init_219, (fun q hq => absurd hq List.not_mem_nil)⟩⟩⟩⟩⟩⟩⟩⟩⟩⟩⟩⟩⟩⟩⟩⟩⟩⟩⟩⟩⟩⟩⟩⟩⟩⟩⟩⟩⟩⟩⟩⟩⟩⟩⟩⟩⟩⟩⟩⟩⟩⟩⟩⟩⟩⟩⟩⟩⟩⟩⟩⟩⟩⟩⟩⟩⟩⟩⟩⟩⟩⟩⟩⟩⟩⟩⟩⟩⟩⟩⟩⟩⟩⟩⟩⟩⟩⟩⟩⟩⟩⟩⟩⟩⟩⟩⟩⟩⟩⟩⟩⟩⟩⟩⟩⟩⟩⟩⟩⟩⟩⟩⟩⟩⟩⟩
theorem s_X2_thrown_0 : Snd PG.nam M37 0 (m_aload 0 1) := snd_aload_n dX2_thrown_0 rfl
theorem s_X2_thrown_1 : Snd PG.nam M37 1 (m_getf [(1, 58)] 4) := snd_getf dX2_thrown_1 fd_X2_91
theorem s_X2_thrown_4 : Snd PG.nam M37 4 (m_iret .int) := snd_iret dX2_thrown_4 rfl
theorem T37 : ∀ q ∈ S37, Snd PG.nam M37 q.1 q.2 := List.forall_mem_cons.mpr ⟨s_X2_thrown_0, List.forall_mem_cons.mpr ⟨s_X2_thrown_1, List.forall_mem_cons.mpr ⟨s_X2_thrown_4, (fun q hq => absurd hq List.not_mem_nil)⟩⟩⟩
theorem s_X2_add_0 : Snd PG.nam M38 0 (m_aload 0 1) := snd_aload_n dX2_add_0 rfl
theorem s_X2_add_1 : Snd PG.nam M38 1 (m_lload 1 2) := snd_lload_n dX2_add_1 rfl
theorem s_X2_add_2 : Snd PG.nam M38 2 (m_lload 3 3) := snd_lload_n dX2_add_2 rfl
theorem s_X2_add_3 : Snd PG.nam M38 3 (m_lload 5 5) := snd_lload dX2_add_3
theorem s_X2_add_5 : Snd PG.nam M38 5 (m_callV false [(1, 39)] 3 8) := snd_callV (nam := PG.nam) (List.forall_mem_cons.mpr ⟨dr_V (ym := PG.nam 39) dX2_add_5 (Or.inl w1597) mi_39 rfl (lw_all_tbl qs24), (fun q hq => absurd hq List.not_mem_nil)⟩) (by decide)
theorem s_X2_add_8 : Snd PG.nam M38 8 (m_ifz (fun x => if x = 0 then 23 else 11)) := snd_if_eq dX2_add_8 (by decide)
theorem s_X2_add_11 : Snd PG.nam M38 11 (m_aload 0 12) := snd_aload_n dX2_add_11 rfl
theorem s_X2_add_12 : Snd PG.nam M38 12 (m_const (.int (nI 1)) 13) := snd_iconst dX2_add_12 (by decide)
theorem s_X2_add_13 : Snd PG.nam M38 13 (m_lload 1 14) := snd_lload_n dX2_add_13 rfl
theorem s_X2_add_14 : Snd PG.nam M38 14 (m_lload 3 15) := snd_lload_n dX2_add_14 rfl
theorem s_X2_add_15 : Snd PG.nam M38 15 (m_lload 5 17) := snd_lload dX2_add_15
theorem s_X2_add_17 : Snd PG.nam M38 17 (m_callV false [(1, 44)] 4 20) := snd_callV (nam := PG.nam) (List.forall_mem_cons.mpr ⟨dr_V (ym := PG.nam 44) dX2_add_17 (Or.inl w1616) mi_44 rfl (lw_all_tbl qs26), (fun q hq => absurd hq List.not_mem_nil)⟩) (by decide)
theorem s_X2_add_20 : Snd PG.nam M38 20 (m_goto 24) := snd_goto dX2_add_20 (by decide)
theorem s_X2_add_23 : Snd PG.nam M38 23 (m_const (.int (nI 0)) 24) := snd_iconst dX2_add_23 (by decide)
theorem s_X2_add_24 : Snd PG.nam M38 24 (m_iret .int) := snd_iret dX2_add_24 rfl
theorem T38 : ∀ q ∈ S38, Snd PG.nam M38 q.1 q.2 := List.forall_mem_cons.mpr ⟨s_X2_add_0, List.forall_mem_cons.mpr ⟨s_X2_add_1, List.forall_mem_cons.mpr ⟨s_X2_add_2, List.forall_mem_cons.mpr ⟨s_X2_add_3, List.forall_mem_cons.mpr ⟨s_X2_add_5, List.forall_mem_cons.mpr ⟨s_X2_add_8, List.forall_mem_cons.mpr ⟨s_X2_add_11, List.forall_mem_cons.mpr ⟨s_X2_add_12, List.forall_mem_cons.mpr ⟨s_X2_add_13, List.forall_mem_cons.mpr ⟨s_X2_add_14, List.forall_mem_cons.mpr ⟨s_X2_add_15, List.forall_mem_cons.mpr ⟨s_X2_add_17, List.forall_mem_cons.mpr ⟨s_X2_add_20, List.forall_mem_cons.mpr ⟨s_X2_add_23, List.forall_mem_cons.mpr ⟨s_X2_add_24, (fun q hq => absurd hq List.not_mem_nil)⟩⟩⟩⟩⟩⟩⟩⟩⟩⟩⟩⟩⟩⟩⟩
theorem s_X2_isTriple_0 : Snd PG.nam M39 0 (m_aload 0 1) := snd_aload_n dX2_isTriple_0 rfl
theorem s_X2_isTriple_1 : Snd PG.nam M39 1 (m_lload 1 2) := snd_lload_n dX2_isTriple_1 rfl
theorem s_X2_isTriple_2 : Snd PG.nam M39 2 (m_callS false 40 1 5) := snd_callS (nam := PG.nam) (yy := 40) dX2_isTriple_2 (Or.inl w1601) w1602 ⟨by decide, by decide +kernel⟩ (by decide)
theorem s_X2_isTriple_5 : Snd PG.nam M39 5 (m_ifz (fun x => if x = 0 then 35 else 8)) := snd_if_eq dX2_isTriple_5 (by decide)
theorem s_X2_isTriple_8 : Snd PG.nam M39 8 (m_lload 3 9) := snd_lload_n dX2_isTriple_8 rfl
theorem s_X2_isTriple_9 : Snd PG.nam M39 9 (m_callS false 40 1 12) := snd_callS (nam := PG.nam) (yy := 40) dX2_isTriple_9 (Or.inl w1601) w1602 ⟨by decide, by decide +kernel⟩ (by decide)
theorem s_X2_isTriple_12 : Snd PG.nam M39 12 (m_ifz (fun x => if x = 0 then 35 else 15)) := snd_if_eq dX2_isTriple_12 (by decide)
theorem s_X2_isTriple_15 : Snd PG.nam M39 15 (m_lload 5 17) := snd_lload dX2_isTriple_15
theorem s_X2_isTriple_17 : Snd PG.nam M39 17 (m_callS false 40 1 20) := snd_callS (nam := PG.nam) (yy := 40) dX2_isTriple_17 (Or.inl w1601) w1602 ⟨by decide, by decide +kernel⟩ (by decide)
theorem s_X2_isTriple_20 : Snd PG.nam M39 20 (m_ifz (fun x => if x = 0 then 23 else 31)) := snd_if_ne dX2_isTriple_20 (by decide)
theorem s_X2_isTriple_23 : Snd PG.nam M39 23 (m_lload 5 25) := snd_lload dX2_isTriple_23
theorem s_X2_isTriple_25 : Snd PG.nam M39 25 (m_callS false 42 1 28) := snd_callS (nam := PG.nam) (yy := 42) dX2_isTriple_25 (Or.inl w1607) w1608 ⟨by decide, by decide +kernel⟩ (by decide)
theorem s_X2_isTriple_28 : Snd PG.nam M39 28 (m_ifz (fun x => if x = 0 then 35 else 31)) := snd_if_eq dX2_isTriple_28 (by decide)
theorem s_X2_isTriple_31 : Snd PG.nam M39 31 (m_const (.int (nI 1)) 32) := snd_iconst dX2_isTriple_31 (by decide)
theorem s_X2_isTriple_32 : Snd PG.nam M39 32 (m_goto 36) := snd_goto dX2_isTriple_32 (by decide)
theorem s_X2_isTriple_35 : Snd PG.nam M39 35 (m_const (.int (nI 0)) 36) := snd_iconst dX2_isTriple_35 (by decide)
theorem s_X2_isTriple_36 : Snd PG.nam M39 36 (m_const (.int (nI 1)) 37) := snd_iconst dX2_isTriple_36 (by decide)
theorem s_X2_isTriple_37 : Snd PG.nam M39 37 (m_callV false [(1, 43)] 2 40) := snd_callV (nam := PG.nam) (List.forall_mem_cons.mpr ⟨dr_V (ym := PG.nam 43) dX2_isTriple_37 (Or.inl w1612) mi_43 rfl (lw_all_tbl qs25), (fun q hq => absurd hq List.not_mem_nil)⟩) (by decide)
theorem s_X2_isTriple_40 : Snd PG.nam M39 40 (m_iret .boolean) := snd_iret dX2_isTriple_40 rfl
theorem T39 : ∀ q ∈ S39, Snd PG.nam M39 q.1 q.2 := List.forall_mem_cons.mpr ⟨s_X2_isTriple_0, List.forall_mem_cons.mpr ⟨s_X2_isTriple_1, List.forall_mem_cons.mpr ⟨s_X2_isTriple_2, List.forall_mem_cons.mpr ⟨s_X2_isTriple_5, List.forall_mem_cons.mpr ⟨s_X2_isTriple_8, List.forall_mem_cons.mpr ⟨s_X2_isTriple_9, List.forall_mem_cons.mpr ⟨s_X2_isTriple_12, List.forall_mem_cons.mpr ⟨s_X2_isTriple_15, List.forall_mem_cons.mpr ⟨s_X2_isTriple_17, List.forall_mem_cons.mpr ⟨s_X2_isTriple_20, List.forall_mem_cons.mpr ⟨s_X2_isTriple_23, List.forall_mem_cons.mpr ⟨s_X2_isTriple_25, List.forall_mem_cons.mpr ⟨s_X2_isTriple_28, List.forall_mem_cons.mpr ⟨s_X2_isTriple_31, List.forall_mem_cons.mpr ⟨s_X2_isTriple_32, List.forall_mem_cons.mpr ⟨s_X2_isTriple_35, List.forall_mem_cons.mpr ⟨s_X2_isTriple_36, List.forall_mem_cons.mpr ⟨s_X2_isTriple_37, List.forall_mem_cons.mpr ⟨s_X2_isTriple_40, (fun q hq => absurd hq List.not_mem_nil)⟩⟩⟩⟩⟩⟩⟩⟩⟩⟩⟩⟩⟩⟩⟩⟩⟩⟩⟩
theorem s_X2_isWord_0 : Snd PG.nam M40 0 (m_lload 0 1) := snd_lload_n dX2_isWord_0 rfl
theorem s_X2_isWord_1 : Snd PG.nam M40 1 (m_const (.long (0 : Int64)) 2) := snd_lconst dX2_isWord_1 (by decide)
theorem s_X2_isWord_2 : Snd PG.nam M40 2 (m_lcmp 3) := snd_lcmp dX2_isWord_2
theorem s_X2_isWord_3 : Snd PG.nam M40 3 (m_ifz (fun x => if 0 < x then 8 else 6)) := snd_if_gt dX2_isWord_3 (by decide)
theorem s_X2_isWord_6 : Snd PG.nam M40 6 (m_const (.int (nI 0)) 7) := snd_iconst dX2_isWord_6 (by decide)
theorem s_X2_isWord_7 : Snd PG.nam M40 7 (m_iret .boolean) := snd_iret dX2_isWord_7 rfl
theorem s_X2_isWord_8 : Snd PG.nam M40 8 (m_const (.int (nI 0)) 9) := snd_iconst dX2_isWord_8 (by decide)
theorem s_X2_isWord_9 : Snd PG.nam M40 9 (m_istore 2 10) := snd_istore_n dX2_isWord_9 rfl (by decide)
theorem s_X2_isWord_10 : Snd PG.nam M40 10 (m_const (.int (nI 0)) 11) := snd_iconst dX2_isWord_10 (by decide)
theorem s_X2_isWord_11 : Snd PG.nam M40 11 (m_istore 3 12) := snd_istore_n dX2_isWord_11 rfl (by decide)
theorem s_X2_isWord_12 : Snd PG.nam M40 12 (m_iload 3 13) := snd_iload_n dX2_isWord_12 rfl
theorem s_X2_isWord_13 : Snd PG.nam M40 13 (m_const (.int (nI 8)) 15) := snd_bipush dX2_isWord_13 (by decide)
theorem s_X2_isWord_15 : Snd PG.nam M40 15 (m_icmp (fun x z => if x < z then 18 else 74)) := snd_icmp_ge dX2_isWord_15 (by decide)
theorem s_X2_isWord_18 : Snd PG.nam M40 18 (m_lload 0 19) := snd_lload_n dX2_isWord_18 rfl
theorem s_X2_isWord_19 : Snd PG.nam M40 19 (m_const (.int (nI 8)) 21) := snd_bipush dX2_isWord_19 (by decide)
theorem s_X2_isWord_21 : Snd PG.nam M40 21 (m_iload 3 22) := snd_iload_n dX2_isWord_21 rfl
theorem s_X2_isWord_22 : Snd PG.nam M40 22 (m_ibin (fun a b => a * b) 23) := snd_imul dX2_isWord_22
theorem s_X2_isWord_23 : Snd PG.nam M40 23 (m_lsh (fun a b => a >>> (b.toInt64 &&& 63)) 24) := snd_lshr dX2_isWord_23
theorem s_X2_isWord_24 : Snd PG.nam M40 24 (m_l2i 25) := snd_l2i dX2_isWord_24
theorem s_X2_isWord_25 : Snd PG.nam M40 25 (m_const (.int (nI 255)) 28) := snd_sipush dX2_isWord_25 (by decide)
theorem s_X2_isWord_28 : Snd PG.nam M40 28 (m_ibin (fun a b => a &&& b) 29) := snd_iand dX2_isWord_28
theorem s_X2_isWord_29 : Snd PG.nam M40 29 (m_istore 4 31) := snd_istore dX2_isWord_29 (by decide)
theorem s_X2_isWord_31 : Snd PG.nam M40 31 (m_iload 4 33) := snd_iload dX2_isWord_31
theorem s_X2_isWord_33 : Snd PG.nam M40 33 (m_ifz (fun x => if x = 0 then 36 else 43)) := snd_if_ne dX2_isWord_33 (by decide)
theorem s_X2_isWord_36 : Snd PG.nam M40 36 (m_iload 3 37) := snd_iload_n dX2_isWord_36 rfl
theorem s_X2_isWord_37 : Snd PG.nam M40 37 (m_ifz (fun x => if x = 0 then 40 else 61)) := snd_if_ne dX2_isWord_37 (by decide)
theorem s_X2_isWord_40 : Snd PG.nam M40 40 (m_goto 59) := snd_goto dX2_isWord_40 (by decide)
theorem s_X2_isWord_43 : Snd PG.nam M40 43 (m_iload 2 44) := snd_iload_n dX2_isWord_43 rfl
theorem s_X2_isWord_44 : Snd PG.nam M40 44 (m_ifz (fun x => if x = 0 then 47 else 59)) := snd_if_ne dX2_isWord_44 (by decide)
theorem s_X2_isWord_47 : Snd PG.nam M40 47 (m_iload 4 49) := snd_iload dX2_isWord_47
theorem s_X2_isWord_49 : Snd PG.nam M40 49 (m_const (.int (nI 97)) 51) := snd_bipush dX2_isWord_49 (by decide)
theorem s_X2_isWord_51 : Snd PG.nam M40 51 (m_const (.int (nI 122)) 53) := snd_bipush dX2_isWord_51 (by decide)
theorem s_X2_isWord_53 : Snd PG.nam M40 53 (m_callS false 41 3 56) := snd_callS (nam := PG.nam) (yy := 41) dX2_isWord_53 (Or.inl w1604) w1605 ⟨by decide, by decide +kernel⟩ (by decide)
theorem s_X2_isWord_56 : Snd PG.nam M40 56 (m_ifz (fun x => if x = 0 then 59 else 61)) := snd_if_ne dX2_isWord_56 (by decide)
theorem s_X2_isWord_59 : Snd PG.nam M40 59 (m_const (.int (nI 0)) 60) := snd_iconst dX2_isWord_59 (by decide)
theorem s_X2_isWord_60 : Snd PG.nam M40 60 (m_iret .boolean) := snd_iret dX2_isWord_60 rfl
theorem s_X2_isWord_61 : Snd PG.nam M40 61 (m_iload 4 63) := snd_iload dX2_isWord_61
theorem s_X2_isWord_63 : Snd PG.nam M40 63 (m_ifz (fun x => if x = 0 then 66 else 68)) := snd_if_ne dX2_isWord_63 (by decide)
theorem s_X2_isWord_66 : Snd PG.nam M40 66 (m_const (.int (nI 1)) 67) := snd_iconst dX2_isWord_66 (by decide)
theorem s_X2_isWord_67 : Snd PG.nam M40 67 (m_istore 2 68) := snd_istore_n dX2_isWord_67 rfl (by decide)
theorem s_X2_isWord_68 : Snd PG.nam M40 68 (m_iinc 3 (nI 1) 71) := snd_iinc dX2_isWord_68 (by decide) (by decide)
theorem s_X2_isWord_71 : Snd PG.nam M40 71 (m_goto 12) := snd_goto dX2_isWord_71 (by decide)
theorem s_X2_isWord_74 : Snd PG.nam M40 74 (m_const (.int (nI 1)) 75) := snd_iconst dX2_isWord_74 (by decide)
theorem s_X2_isWord_75 : Snd PG.nam M40 75 (m_iret .boolean) := snd_iret dX2_isWord_75 rfl
theorem T40 : ∀ q ∈ S40, Snd PG.nam M40 q.1 q.2 := List.forall_mem_cons.mpr ⟨s_X2_isWord_0, List.forall_mem_cons.mpr ⟨s_X2_isWord_1, List.forall_mem_cons.mpr ⟨s_X2_isWord_2, List.forall_mem_cons.mpr ⟨s_X2_isWord_3, List.forall_mem_cons.mpr ⟨s_X2_isWord_6, List.forall_mem_cons.mpr ⟨s_X2_isWord_7, List.forall_mem_cons.mpr ⟨s_X2_isWord_8, List.forall_mem_cons.mpr ⟨s_X2_isWord_9, List.forall_mem_cons.mpr ⟨s_X2_isWord_10, List.forall_mem_cons.mpr ⟨s_X2_isWord_11, List.forall_mem_cons.mpr ⟨s_X2_isWord_12, List.forall_mem_cons.mpr ⟨s_X2_isWord_13, List.forall_mem_cons.mpr ⟨s_X2_isWord_15, List.forall_mem_cons.mpr ⟨s_X2_isWord_18, List.forall_mem_cons.mpr ⟨s_X2_isWord_19, List.forall_mem_cons.mpr ⟨s_X2_isWord_21, List.forall_mem_cons.mpr ⟨s_X2_isWord_22, List.forall_mem_cons.mpr ⟨s_X2_isWord_23, List.forall_mem_cons.mpr ⟨s_X2_isWord_24, List.forall_mem_cons.mpr ⟨s_X2_isWord_25, List.forall_mem_cons.mpr ⟨s_X2_isWord_28, List.forall_mem_cons.mpr ⟨s_X2_isWord_29, List.forall_mem_cons.mpr ⟨s_X2_isWord_31, List.forall_mem_cons.mpr ⟨s_X2_isWord_33, List.forall_mem_cons.mpr ⟨s_X2_isWord_36, List.forall_mem_cons.mpr ⟨s_X2_isWord_37, List.forall_mem_cons.mpr ⟨s_X2_isWord_40, List.forall_mem_cons.mpr ⟨s_X2_isWord_43, List.forall_mem_cons.mpr ⟨s_X2_isWord_44, List.forall_mem_cons.mpr ⟨s_X2_isWord_47, List.forall_mem_cons.mpr ⟨s_X2_isWord_49, List.forall_mem_cons.mpr ⟨s_X2_isWord_51, List.forall_mem_cons.mpr ⟨s_X2_isWord_53, List.forall_mem_cons.mpr ⟨s_X2_isWord_56, List.forall_mem_cons.mpr ⟨s_X2_isWord_59, List.forall_mem_cons.mpr ⟨s_X2_isWord_60, List.forall_mem_cons.mpr ⟨s_X2_isWord_61, List.forall_mem_cons.mpr ⟨s_X2_isWord_63, List.forall_mem_cons.mpr ⟨s_X2_isWord_66, List.forall_mem_cons.mpr ⟨s_X2_isWord_67, List.forall_mem_cons.mpr ⟨s_X2_isWord_68, List.forall_mem_cons.mpr ⟨s_X2_isWord_71, List.forall_mem_cons.mpr ⟨s_X2_isWord_74, List.forall_mem_cons.mpr ⟨s_X2_isWord_75, (fun q hq => absurd hq List.not_mem_nil)⟩⟩⟩⟩⟩⟩⟩⟩⟩⟩⟩⟩⟩⟩⟩⟩⟩⟩⟩⟩⟩⟩⟩⟩⟩⟩⟩⟩⟩⟩⟩⟩⟩⟩⟩⟩⟩⟩⟩⟩⟩⟩⟩⟩
theorem s_X2_in_0 : Snd PG.nam M41 0 (m_iload 0 1) := snd_iload_n dX2_in_0 rfl
theorem s_X2_in_1 : Snd PG.nam M41 1 (m_iload 1 2) := snd_iload_n dX2_in_1 rfl
theorem s_X2_in_2 : Snd PG.nam M41 2 (m_icmp (fun x z => if x < z then 14 else 5)) := snd_icmp_lt dX2_in_2 (by decide)
theorem s_X2_in_5 : Snd PG.nam M41 5 (m_iload 0 6) := snd_iload_n dX2_in_5 rfl
theorem s_X2_in_6 : Snd PG.nam M41 6 (m_iload 2 7) := snd_iload_n dX2_in_6 rfl
theorem s_X2_in_7 : Snd PG.nam M41 7 (m_icmp (fun x z => if z < x then 14 else 10)) := snd_icmp_gt dX2_in_7 (by decide)
theorem s_X2_in_10 : Snd PG.nam M41 10 (m_const (.int (nI 1)) 11) := snd_iconst dX2_in_10 (by decide)
theorem s_X2_in_11 : Snd PG.nam M41 11 (m_goto 15) := snd_goto dX2_in_11 (by decide)
theorem s_X2_in_14 : Snd PG.nam M41 14 (m_const (.int (nI 0)) 15) := snd_iconst dX2_in_14 (by decide)
theorem s_X2_in_15 : Snd PG.nam M41 15 (m_iret .boolean) := snd_iret dX2_in_15 rfl
theorem T41 : ∀ q ∈ S41, Snd PG.nam M41 q.1 q.2 := List.forall_mem_cons.mpr ⟨s_X2_in_0, List.forall_mem_cons.mpr ⟨s_X2_in_1, List.forall_mem_cons.mpr ⟨s_X2_in_2, List.forall_mem_cons.mpr ⟨s_X2_in_5, List.forall_mem_cons.mpr ⟨s_X2_in_6, List.forall_mem_cons.mpr ⟨s_X2_in_7, List.forall_mem_cons.mpr ⟨s_X2_in_10, List.forall_mem_cons.mpr ⟨s_X2_in_11, List.forall_mem_cons.mpr ⟨s_X2_in_14, List.forall_mem_cons.mpr ⟨s_X2_in_15, (fun q hq => absurd hq List.not_mem_nil)⟩⟩⟩⟩⟩⟩⟩⟩⟩⟩
theorem s_X2_isNumber_0 : Snd PG.nam M42 0 (m_lload 0 1) := snd_lload_n dX2_isNumber_0 rfl
theorem s_X2_isNumber_1 : Snd PG.nam M42 1 (m_const (.long (-1 : Int64)) 4) := snd_ldc2 dX2_isNumber_1 w1610
theorem s_X2_isNumber_4 : Snd PG.nam M42 4 (m_lcmp 5) := snd_lcmp dX2_isNumber_4
theorem s_X2_isNumber_5 : Snd PG.nam M42 5 (m_ifz (fun x => if 0 < x then 20 else 8)) := snd_if_gt dX2_isNumber_5 (by decide)
theorem s_X2_isNumber_8 : Snd PG.nam M42 8 (m_lload 0 9) := snd_lload_n dX2_isNumber_8 rfl
theorem s_X2_isNumber_9 : Snd PG.nam M42 9 (m_const (.long (-10000 : Int64)) 12) := snd_ldc2 dX2_isNumber_9 w1611
theorem s_X2_isNumber_12 : Snd PG.nam M42 12 (m_lcmp 13) := snd_lcmp dX2_isNumber_12
theorem s_X2_isNumber_13 : Snd PG.nam M42 13 (m_ifz (fun x => if x < 0 then 20 else 16)) := snd_if_lt dX2_isNumber_13 (by decide)
theorem s_X2_isNumber_16 : Snd PG.nam M42 16 (m_const (.int (nI 1)) 17) := snd_iconst dX2_isNumber_16 (by decide)
theorem s_X2_isNumber_17 : Snd PG.nam M42 17 (m_goto 21) := snd_goto dX2_isNumber_17 (by decide)
theorem s_X2_isNumber_20 : Snd PG.nam M42 20 (m_const (.int (nI 0)) 21) := snd_iconst dX2_isNumber_20 (by decide)
theorem s_X2_isNumber_21 : Snd PG.nam M42 21 (m_iret .boolean) := snd_iret dX2_isNumber_21 rfl
theorem T42 : ∀ q ∈ S42, Snd PG.nam M42 q.1 q.2 := List.forall_mem_cons.mpr ⟨s_X2_isNumber_0, List.forall_mem_cons.mpr ⟨s_X2_isNumber_1, List.forall_mem_cons.mpr ⟨s_X2_isNumber_4, List.forall_mem_cons.mpr ⟨s_X2_isNumber_5, List.forall_mem_cons.mpr ⟨s_X2_isNumber_8, List.forall_mem_cons.mpr ⟨s_X2_isNumber_9, List.forall_mem_cons.mpr ⟨s_X2_isNumber_12, List.forall_mem_cons.mpr ⟨s_X2_isNumber_13, List.forall_mem_cons.mpr ⟨s_X2_isNumber_16, List.forall_mem_cons.mpr ⟨s_X2_isNumber_17, List.forall_mem_cons.mpr ⟨s_X2_isNumber_20, List.forall_mem_cons.mpr ⟨s_X2_isNumber_21, (fun q hq => absurd hq List.not_mem_nil)⟩⟩⟩⟩⟩⟩⟩⟩⟩⟩⟩⟩
theorem s_X2_good_0 : Snd PG.nam M43 0 (m_aload 0 1) := snd_aload_n dX2_good_0 rfl
theorem s_X2_good_1 : Snd PG.nam M43 1 (m_iload 1 2) := snd_iload_n dX2_good_1 rfl
theorem s_X2_good_2 : Snd PG.nam M43 2 (m_ifz (fun x => if x = 0 then 9 else 5)) := snd_if_eq dX2_good_2 (by decide)
theorem s_X2_good_5 : Snd PG.nam M43 5 (m_const (.int (nI 0)) 6) := snd_iconst dX2_good_5 (by decide)
theorem s_X2_good_6 : Snd PG.nam M43 6 (m_goto 10) := snd_goto dX2_good_6 (by decide)
theorem s_X2_good_9 : Snd PG.nam M43 9 (m_iload 2 10) := snd_iload_n dX2_good_9 rfl
theorem s_X2_good_10 : Snd PG.nam M43 10 (m_putf [(1, 58)] .int 13) := snd_putf dX2_good_10 fd_X2_91
theorem s_X2_good_13 : Snd PG.nam M43 13 (m_iload 1 14) := snd_iload_n dX2_good_13 rfl
theorem s_X2_good_14 : Snd PG.nam M43 14 (m_iret .boolean) := snd_iret dX2_good_14 rfl
theorem T43 : ∀ q ∈ S43, Snd PG.nam M43 q.1 q.2 := List.forall_mem_cons.mpr ⟨s_X2_good_0, List.forall_mem_cons.mpr ⟨s_X2_good_1, List.forall_mem_cons.mpr ⟨s_X2_good_2, List.forall_mem_cons.mpr ⟨s_X2_good_5, List.forall_mem_cons.mpr ⟨s_X2_good_6, List.forall_mem_cons.mpr ⟨s_X2_good_9, List.forall_mem_cons.mpr ⟨s_X2_good_10, List.forall_mem_cons.mpr ⟨s_X2_good_13, List.forall_mem_cons.mpr ⟨s_X2_good_14, (fun q hq => absurd hq List.not_mem_nil)⟩⟩⟩⟩⟩⟩⟩⟩⟩
theorem s_X2_does_0 : Snd PG.nam M44 0 (m_aload 0 1) := snd_aload_n dX2_does_0 rfl
theorem s_X2_does_1 : Snd PG.nam M44 1 (m_lload 2 2) := snd_lload_n dX2_does_1 rfl
theorem s_X2_does_2 : Snd PG.nam M44 2 (m_lload 4 4) := snd_lload dX2_does_2
theorem s_X2_does_4 : Snd PG.nam M44 4 (m_lload 6 6) := snd_lload dX2_does_4
theorem s_X2_does_6 : Snd PG.nam M44 6 (m_callV false [(1, 45)] 3 9) := snd_callV (nam := PG.nam) (List.forall_mem_cons.mpr ⟨dr_V (ym := PG.nam 45) dX2_does_6 (Or.inl w1620) mi_45 rfl (lw_all_tbl qs27), (fun q hq => absurd hq List.not_mem_nil)⟩) (by decide)
theorem s_X2_does_9 : Snd PG.nam M44 9 (m_aload 0 10) := snd_aload_n dX2_does_9 rfl
theorem s_X2_does_10 : Snd PG.nam M44 10 (m_getf [(1, 1)] 13) := snd_getf dX2_does_10 fd_X2_102
theorem s_X2_does_13 : Snd PG.nam M44 13 (m_icmp (fun x z => if x < z then 16 else 20)) := snd_icmp_ge dX2_does_13 (by decide)
theorem s_X2_does_16 : Snd PG.nam M44 16 (m_const (.int (nI 1)) 17) := snd_iconst dX2_does_16 (by decide)
theorem s_X2_does_17 : Snd PG.nam M44 17 (m_goto 21) := snd_goto dX2_does_17 (by decide)
theorem s_X2_does_20 : Snd PG.nam M44 20 (m_const (.int (nI 0)) 21) := snd_iconst dX2_does_20 (by decide)
theorem s_X2_does_21 : Snd PG.nam M44 21 (m_istore 8 23) := snd_istore dX2_does_21 (by decide)
theorem s_X2_does_23 : Snd PG.nam M44 23 (m_iload 8 25) := snd_iload dX2_does_23
theorem s_X2_does_25 : Snd PG.nam M44 25 (m_iload 1 26) := snd_iload_n dX2_does_25 rfl
theorem s_X2_does_26 : Snd PG.nam M44 26 (m_icmp (fun x z => if x = z then 29 else 31)) := snd_icmp_ne dX2_does_26 (by decide)
theorem s_X2_does_29 : Snd PG.nam M44 29 (m_const (.int (nI 0)) 30) := snd_iconst dX2_does_29 (by decide)
theorem s_X2_does_30 : Snd PG.nam M44 30 (m_iret .int) := snd_iret dX2_does_30 rfl
theorem s_X2_does_31 : Snd PG.nam M44 31 (m_iload 1 32) := snd_iload_n dX2_does_31 rfl
theorem s_X2_does_32 : Snd PG.nam M44 32 (m_ifz (fun x => if x = 0 then 59 else 35)) := snd_if_eq dX2_does_32 (by decide)
theorem s_X2_does_35 : Snd PG.nam M44 35 (m_aload 0 36) := snd_aload_n dX2_does_35 rfl
theorem s_X2_does_36 : Snd PG.nam M44 36 (m_aload 0 37) := snd_aload_n dX2_does_36 rfl
theorem s_X2_does_37 : Snd PG.nam M44 37 (m_getf [(1, 1)] 40) := snd_getf dX2_does_37 fd_X2_102
theorem s_X2_does_40 : Snd PG.nam M44 40 (m_const (.int (nI 48)) 42) := snd_bipush dX2_does_40 (by decide)
theorem s_X2_does_42 : Snd PG.nam M44 42 (m_icmp (fun x z => if x < z then 45 else 49)) := snd_icmp_ge dX2_does_42 (by decide)
theorem s_X2_does_45 : Snd PG.nam M44 45 (m_const (.int (nI 1)) 46) := snd_iconst dX2_does_45 (by decide)
theorem s_X2_does_46 : Snd PG.nam M44 46 (m_goto 50) := snd_goto dX2_does_46 (by decide)
theorem s_X2_does_49 : Snd PG.nam M44 49 (m_const (.int (nI 0)) 50) := snd_iconst dX2_does_49 (by decide)
theorem s_X2_does_50 : Snd PG.nam M44 50 (m_const (.int (nI 2)) 51) := snd_iconst dX2_does_50 (by decide)
theorem s_X2_does_51 : Snd PG.nam M44 51 (m_callV false [(1, 43)] 2 54) := snd_callV (nam := PG.nam) (List.forall_mem_cons.mpr ⟨dr_V (ym := PG.nam 43) dX2_does_51 (Or.inl w1612) mi_43 rfl (lw_all_tbl qs25), (fun q hq => absurd hq List.not_mem_nil)⟩) (by decide)
theorem s_X2_does_54 : Snd PG.nam M44 54 (m_ifz (fun x => if x = 0 then 57 else 59)) := snd_if_ne dX2_does_54 (by decide)
theorem s_X2_does_57 : Snd PG.nam M44 57 (m_const (.int (nI 0)) 58) := snd_iconst dX2_does_57 (by decide)
theorem s_X2_does_58 : Snd PG.nam M44 58 (m_iret .int) := snd_iret dX2_does_58 rfl
theorem s_X2_does_59 : Snd PG.nam M44 59 (m_aload 0 60) := snd_aload_n dX2_does_59 rfl
theorem s_X2_does_60 : Snd PG.nam M44 60 (m_iload 1 61) := snd_iload_n dX2_does_60 rfl
theorem s_X2_does_61 : Snd PG.nam M44 61 (m_lload 2 62) := snd_lload_n dX2_does_61 rfl
theorem s_X2_does_62 : Snd PG.nam M44 62 (m_lload 4 64) := snd_lload dX2_does_62
theorem s_X2_does_64 : Snd PG.nam M44 64 (m_lload 6 66) := snd_lload dX2_does_64
theorem s_X2_does_66 : Snd PG.nam M44 66 (m_callV true [(1, 46)] 4 69) := snd_callV (nam := PG.nam) (List.forall_mem_cons.mpr ⟨dr_V (ym := PG.nam 46) dX2_does_66 (Or.inl w1624) mi_46 rfl (lw_all_tbl qs28), (fun q hq => absurd hq List.not_mem_nil)⟩) (by decide)
theorem s_X2_does_69 : Snd PG.nam M44 69 (m_aload 0 70) := snd_aload_n dX2_does_69 rfl
theorem s_X2_does_70 : Snd PG.nam M44 70 (m_getf [(1, 4)] 73) := snd_getf dX2_does_70 fd_X2_16
theorem s_X2_does_73 : Snd PG.nam M44 73 (m_const (.int (nI 3)) 74) := snd_iconst dX2_does_73 (by decide)
theorem s_X2_does_74 : Snd PG.nam M44 74 (m_aload 0 75) := snd_aload_n dX2_does_74 rfl
theorem s_X2_does_75 : Snd PG.nam M44 75 (m_getf [(1, 7)] 78) := snd_getf dX2_does_75 fd_X2_117
theorem s_X2_does_78 : Snd PG.nam M44 78 (m_ibin (fun a b => a * b) 79) := snd_imul dX2_does_78
theorem s_X2_does_79 : Snd PG.nam M44 79 (m_lload 2 80) := snd_lload_n dX2_does_79 rfl
theorem s_X2_does_80 : Snd PG.nam M44 80 (m_last 81) := snd_last dX2_does_80
theorem s_X2_does_81 : Snd PG.nam M44 81 (m_aload 0 82) := snd_aload_n dX2_does_81 rfl
theorem s_X2_does_82 : Snd PG.nam M44 82 (m_getf [(1, 4)] 85) := snd_getf dX2_does_82 fd_X2_16
theorem s_X2_does_85 : Snd PG.nam M44 85 (m_const (.int (nI 3)) 86) := snd_iconst dX2_does_85 (by decide)
theorem s_X2_does_86 : Snd PG.nam M44 86 (m_aload 0 87) := snd_aload_n dX2_does_86 rfl
theorem s_X2_does_87 : Snd PG.nam M44 87 (m_getf [(1, 7)] 90) := snd_getf dX2_does_87 fd_X2_117
theorem s_X2_does_90 : Snd PG.nam M44 90 (m_ibin (fun a b => a * b) 91) := snd_imul dX2_does_90
theorem s_X2_does_91 : Snd PG.nam M44 91 (m_const (.int (nI 1)) 92) := snd_iconst dX2_does_91 (by decide)
theorem s_X2_does_92 : Snd PG.nam M44 92 (m_ibin (fun a b => a + b) 93) := snd_iadd dX2_does_92
theorem s_X2_does_93 : Snd PG.nam M44 93 (m_lload 4 95) := snd_lload dX2_does_93
theorem s_X2_does_95 : Snd PG.nam M44 95 (m_last 96) := snd_last dX2_does_95
theorem s_X2_does_96 : Snd PG.nam M44 96 (m_aload 0 97) := snd_aload_n dX2_does_96 rfl
theorem s_X2_does_97 : Snd PG.nam M44 97 (m_getf [(1, 4)] 100) := snd_getf dX2_does_97 fd_X2_16
theorem s_X2_does_100 : Snd PG.nam M44 100 (m_const (.int (nI 3)) 101) := snd_iconst dX2_does_100 (by decide)
theorem s_X2_does_101 : Snd PG.nam M44 101 (m_aload 0 102) := snd_aload_n dX2_does_101 rfl
theorem s_X2_does_102 : Snd PG.nam M44 102 (m_getf [(1, 7)] 105) := snd_getf dX2_does_102 fd_X2_117
theorem s_X2_does_105 : Snd PG.nam M44 105 (m_ibin (fun a b => a * b) 106) := snd_imul dX2_does_105
theorem s_X2_does_106 : Snd PG.nam M44 106 (m_const (.int (nI 2)) 107) := snd_iconst dX2_does_106 (by decide)
theorem s_X2_does_107 : Snd PG.nam M44 107 (m_ibin (fun a b => a + b) 108) := snd_iadd dX2_does_107
theorem s_X2_does_108 : Snd PG.nam M44 108 (m_lload 6 110) := snd_lload dX2_does_108
theorem s_X2_does_110 : Snd PG.nam M44 110 (m_last 111) := snd_last dX2_does_110
theorem s_X2_does_111 : Snd PG.nam M44 111 (m_aload 0 112) := snd_aload_n dX2_does_111 rfl
theorem s_X2_does_112 : Snd PG.nam M44 112 (m_getf [(1, 5)] 115) := snd_getf dX2_does_112 fd_X2_19
theorem s_X2_does_115 : Snd PG.nam M44 115 (m_aload 0 116) := snd_aload_n dX2_does_115 rfl
theorem s_X2_does_116 : Snd PG.nam M44 116 (m_getf [(1, 7)] 119) := snd_getf dX2_does_116 fd_X2_117
theorem s_X2_does_119 : Snd PG.nam M44 119 (m_iload 1 120) := snd_iload_n dX2_does_119 rfl
theorem s_X2_does_120 : Snd PG.nam M44 120 (m_iast [.byte, .boolean] 121) := snd_bast dX2_does_120
theorem s_X2_does_121 : Snd PG.nam M44 121 (m_aload 0 122) := snd_aload_n dX2_does_121 rfl
theorem s_X2_does_122 : Snd PG.nam M44 122 (m_getf [(1, 6)] 125) := snd_getf dX2_does_122 fd_X2_23
theorem s_X2_does_125 : Snd PG.nam M44 125 (m_aload 0 126) := snd_aload_n dX2_does_125 rfl
theorem s_X2_does_126 : Snd PG.nam M44 126 (m_getf [(1, 7)] 129) := snd_getf dX2_does_126 fd_X2_117
theorem s_X2_does_129 : Snd PG.nam M44 129 (m_aload 0 130) := snd_aload_n dX2_does_129 rfl
theorem s_X2_does_130 : Snd PG.nam M44 130 (m_getf [(1, 9)] 133) := snd_getf dX2_does_130 fd_X2_120
theorem s_X2_does_133 : Snd PG.nam M44 133 (m_iast [.int] 134) := snd_iast dX2_does_133
theorem s_X2_does_134 : Snd PG.nam M44 134 (m_aload 0 135) := snd_aload_n dX2_does_134 rfl
theorem s_X2_does_135 : Snd PG.nam M44 135 (m_dup 136) := snd_dup dX2_does_135
theorem s_X2_does_136 : Snd PG.nam M44 136 (m_getf [(1, 7)] 139) := snd_getf dX2_does_136 fd_X2_117
theorem s_X2_does_139 : Snd PG.nam M44 139 (m_const (.int (nI 1)) 140) := snd_iconst dX2_does_139 (by decide)
theorem s_X2_does_140 : Snd PG.nam M44 140 (m_ibin (fun a b => a + b) 141) := snd_iadd dX2_does_140
theorem s_X2_does_141 : Snd PG.nam M44 141 (m_putf [(1, 7)] .int 144) := snd_putf dX2_does_141 fd_X2_117
theorem s_X2_does_144 : Snd PG.nam M44 144 (m_aload 0 145) := snd_aload_n dX2_does_144 rfl
theorem s_X2_does_145 : Snd PG.nam M44 145 (m_getf [(1, 10)] 148) := snd_getf dX2_does_145 fd_X2_123
theorem s_X2_does_148 : Snd PG.nam M44 148 (m_ifz (fun x => if x = 0 then 151 else 155)) := snd_if_ne dX2_does_148 (by decide)
theorem s_X2_does_151 : Snd PG.nam M44 151 (m_aload 0 152) := snd_aload_n dX2_does_151 rfl
theorem s_X2_does_152 : Snd PG.nam M44 152 (m_callV true [(1, 47)] 0 155) := snd_callV (nam := PG.nam) (List.forall_mem_cons.mpr ⟨dr_V (ym := PG.nam 47) dX2_does_152 (Or.inl w1628) mi_47 rfl (lw_all_tbl qs29), (fun q hq => absurd hq List.not_mem_nil)⟩) (by decide)
theorem s_X2_does_155 : Snd PG.nam M44 155 (m_const (.int (nI 1)) 156) := snd_iconst dX2_does_155 (by decide)
theorem s_X2_does_156 : Snd PG.nam M44 156 (m_iret .int) := snd_iret dX2_does_156 rfl
theorem T44 : ∀ q ∈ S44, Snd PG.nam M44 q.1 q.2 := List.forall_mem_cons.mpr ⟨s_X2_does_0, List.forall_mem_cons.mpr ⟨s_X2_does_1, List.forall_mem_cons.mpr ⟨s_X2_does_2, List.forall_mem_cons.mpr ⟨s_X2_does_4, List.forall_mem_cons.mpr ⟨s_X2_does_6, List.forall_mem_cons.mpr ⟨s_X2_does_9, List.forall_mem_cons.mpr ⟨s_X2_does_10, List.forall_mem_cons.mpr ⟨s_X2_does_13, List.forall_mem_cons.mpr ⟨s_X2_does_16, List.forall_mem_cons.mpr ⟨s_X2_does_17, List.forall_mem_cons.mpr ⟨s_X2_does_20, List.forall_mem_cons.mpr ⟨s_X2_does_21, List.forall_mem_cons.mpr ⟨s_X2_does_23, List.forall_mem_cons.mpr ⟨s_X2_does_25, List.forall_mem_cons.mpr ⟨s_X2_does_26, List.forall_mem_cons.mpr ⟨s_X2_does_29, List.forall_mem_cons.mpr ⟨s_X2_does_30, List.forall_mem_cons.mpr ⟨s_X2_does_31, List.forall_mem_cons.mpr ⟨s_X2_does_32, List.forall_mem_cons.mpr ⟨s_X2_does_35, List.forall_mem_cons.mpr ⟨s_X2_does_36, List.forall_mem_cons.mpr ⟨s_X2_does_37, List.forall_mem_cons.mpr ⟨s_X2_does_40, List.forall_mem_cons.mpr ⟨s_X2_does_42, List.forall_mem_cons.mpr ⟨s_X2_does_45, List.forall_mem_cons.mpr ⟨s_X2_does_46, List.forall_mem_cons.mpr ⟨s_X2_does_49, List.forall_mem_cons.mpr ⟨s_X2_does_50, List.forall_mem_cons.mpr ⟨s_X2_does_51, List.forall_mem_cons.mpr ⟨s_X2_does_54, List.forall_mem_cons.mpr ⟨s_X2_does_57, List.forall_mem_cons.mpr ⟨s_X2_does_58, List.forall_mem_cons.mpr ⟨s_X2_does_59, List.forall_mem_cons.mpr ⟨s_X2_does_60, List.forall_mem_cons.mpr ⟨s_X2_does_61, List.forall_mem_cons.mpr ⟨s_X2_does_62, List.forall_mem_cons.mpr ⟨s_X2_does_64, List.forall_mem_cons.mpr ⟨s_X2_does_66, List.forall_mem_cons.mpr ⟨s_X2_does_69, List.forall_mem_cons.mpr ⟨s_X2_does_70, List.forall_mem_cons.mpr ⟨s_X2_does_73, List.forall_mem_cons.mpr ⟨s_X2_does_74, List.forall_mem_cons.mpr ⟨s_X2_does_75, List.forall_mem_cons.mpr ⟨s_X2_does_78, List.forall_mem_cons.mpr ⟨s_X2_does_79, List.forall_mem_cons.mpr ⟨s_X2_does_80, List.forall_mem_cons.mpr ⟨s_X2_does_81, List.forall_mem_cons.mpr ⟨s_X2_does_82, List.forall_mem_cons.mpr ⟨s_X2_does_85, List.forall_mem_cons.mpr ⟨s_X2_does_86, List.forall_mem_cons.mpr ⟨s_X2_does_87, List.forall_mem_cons.mpr ⟨s_X2_does_90, List.forall_mem_cons.mpr ⟨s_X2_does_91, List.forall_mem_cons.mpr ⟨s_X2_does_92, List.forall_mem_cons.mpr ⟨s_X2_does_93, List.forall_mem_cons.mpr ⟨s_X2_does_95, List.forall_mem_cons.mpr ⟨s_X2_does_96, List.forall_mem_cons.mpr ⟨s_X2_does_97, List.forall_mem_cons.mpr ⟨s_X2_does_100, List.forall_mem_cons.mpr ⟨s_X2_does_101, List.forall_mem_cons.mpr ⟨s_X2_does_102, List.forall_mem_cons.mpr ⟨s_X2_does_105, List.forall_mem_cons.mpr ⟨s_X2_does_106, List.forall_mem_cons.mpr ⟨s_X2_does_107, List.forall_mem_cons.mpr ⟨s_X2_does_108, List.forall_mem_cons.mpr ⟨s_X2_does_110, List.forall_mem_cons.mpr ⟨s_X2_does_111, List.forall_mem_cons.mpr ⟨s_X2_does_112, List.forall_mem_cons.mpr ⟨s_X2_does_115, List.forall_mem_cons.mpr ⟨s_X2_does_116, List.forall_mem_cons.mpr ⟨s_X2_does_119, List.forall_mem_cons.mpr ⟨s_X2_does_120, List.forall_mem_cons.mpr ⟨s_X2_does_121, List.forall_mem_cons.mpr ⟨s_X2_does_122, List.forall_mem_cons.mpr ⟨s_X2_does_125, List.forall_mem_cons.mpr ⟨s_X2_does_126, List.forall_mem_cons.mpr ⟨s_X2_does_129, List.forall_mem_cons.mpr ⟨s_X2_does_130, List.forall_mem_cons.mpr ⟨s_X2_does_133, List.forall_mem_cons.mpr ⟨s_X2_does_134, List.forall_mem_cons.mpr ⟨s_X2_does_135, List.forall_mem_cons.mpr ⟨s_X2_does_136, List.forall_mem_cons.mpr ⟨s_X2_does_139, List.forall_mem_cons.mpr ⟨s_X2_does_140, List.forall_mem_cons.mpr ⟨s_X2_does_141, List.forall_mem_cons.mpr ⟨s_X2_does_144, List.forall_mem_cons.mpr ⟨s_X2_does_145, List.forall_mem_cons.mpr ⟨s_X2_does_148, List.forall_mem_cons.mpr ⟨s_X2_does_151, List.forall_mem_cons.mpr ⟨s_X2_does_152, List.forall_mem_cons.mpr ⟨s_X2_does_155, List.forall_mem_cons.mpr ⟨s_X2_does_156, (fun q hq => absurd hq List.not_mem_nil)⟩⟩⟩⟩⟩⟩⟩⟩⟩⟩⟩⟩⟩⟩⟩⟩⟩⟩⟩⟩⟩⟩⟩⟩⟩⟩⟩⟩⟩⟩⟩⟩⟩⟩⟩⟩⟩⟩⟩⟩⟩⟩⟩⟩⟩⟩⟩⟩⟩⟩⟩⟩⟩⟩⟩⟩⟩⟩⟩⟩⟩⟩⟩⟩⟩⟩⟩⟩⟩⟩⟩⟩⟩⟩⟩⟩⟩⟩⟩⟩⟩⟩⟩⟩⟩⟩⟩⟩⟩⟩⟩⟩
theorem s_X2_find_0 : Snd PG.nam M45 0 (m_const (.int (nI 0)) 1) := snd_iconst dX2_find_0 (by decide)
theorem s_X2_find_1 : Snd PG.nam M45 1 (m_istore 7 3) := snd_istore dX2_find_1 (by decide)
theorem s_X2_find_3 : Snd PG.nam M45 3 (m_iload 7 5) := snd_iload dX2_find_3
theorem s_X2_find_5 : Snd PG.nam M45 5 (m_aload 0 6) := snd_aload_n dX2_find_5 rfl
theorem s_X2_find_6 : Snd PG.nam M45 6 (m_getf [(1, 1)] 9) := snd_getf dX2_find_6 fd_X2_102
theorem s_X2_find_9 : Snd PG.nam M45 9 (m_icmp (fun x z => if x < z then 12 else 65)) := snd_icmp_ge dX2_find_9 (by decide)
theorem s_X2_find_12 : Snd PG.nam M45 12 (m_aload 0 13) := snd_aload_n dX2_find_12 rfl
theorem s_X2_find_13 : Snd PG.nam M45 13 (m_getf [(1, 0)] 16) := snd_getf dX2_find_13 fd_X2_7
theorem s_X2_find_16 : Snd PG.nam M45 16 (m_const (.int (nI 3)) 17) := snd_iconst dX2_find_16 (by decide)
theorem s_X2_find_17 : Snd PG.nam M45 17 (m_iload 7 19) := snd_iload dX2_find_17
theorem s_X2_find_19 : Snd PG.nam M45 19 (m_ibin (fun a b => a * b) 20) := snd_imul dX2_find_19
theorem s_X2_find_20 : Snd PG.nam M45 20 (m_lald 21) := snd_lald dX2_find_20
theorem s_X2_find_21 : Snd PG.nam M45 21 (m_lload 1 22) := snd_lload_n dX2_find_21 rfl
theorem s_X2_find_22 : Snd PG.nam M45 22 (m_lcmp 23) := snd_lcmp dX2_find_22
theorem s_X2_find_23 : Snd PG.nam M45 23 (m_ifz (fun x => if x = 0 then 26 else 59)) := snd_if_ne dX2_find_23 (by decide)
theorem s_X2_find_26 : Snd PG.nam M45 26 (m_aload 0 27) := snd_aload_n dX2_find_26 rfl
theorem s_X2_find_27 : Snd PG.nam M45 27 (m_getf [(1, 0)] 30) := snd_getf dX2_find_27 fd_X2_7
theorem s_X2_find_30 : Snd PG.nam M45 30 (m_const (.int (nI 3)) 31) := snd_iconst dX2_find_30 (by decide)
theorem s_X2_find_31 : Snd PG.nam M45 31 (m_iload 7 33) := snd_iload dX2_find_31
theorem s_X2_find_33 : Snd PG.nam M45 33 (m_ibin (fun a b => a * b) 34) := snd_imul dX2_find_33
theorem s_X2_find_34 : Snd PG.nam M45 34 (m_const (.int (nI 1)) 35) := snd_iconst dX2_find_34 (by decide)
theorem s_X2_find_35 : Snd PG.nam M45 35 (m_ibin (fun a b => a + b) 36) := snd_iadd dX2_find_35
theorem s_X2_find_36 : Snd PG.nam M45 36 (m_lald 37) := snd_lald dX2_find_36
theorem s_X2_find_37 : Snd PG.nam M45 37 (m_lload 3 38) := snd_lload_n dX2_find_37 rfl
theorem s_X2_find_38 : Snd PG.nam M45 38 (m_lcmp 39) := snd_lcmp dX2_find_38
theorem s_X2_find_39 : Snd PG.nam M45 39 (m_ifz (fun x => if x = 0 then 42 else 59)) := snd_if_ne dX2_find_39 (by decide)
theorem s_X2_find_42 : Snd PG.nam M45 42 (m_aload 0 43) := snd_aload_n dX2_find_42 rfl
theorem s_X2_find_43 : Snd PG.nam M45 43 (m_getf [(1, 0)] 46) := snd_getf dX2_find_43 fd_X2_7
theorem s_X2_find_46 : Snd PG.nam M45 46 (m_const (.int (nI 3)) 47) := snd_iconst dX2_find_46 (by decide)
theorem s_X2_find_47 : Snd PG.nam M45 47 (m_iload 7 49) := snd_iload dX2_find_47
theorem s_X2_find_49 : Snd PG.nam M45 49 (m_ibin (fun a b => a * b) 50) := snd_imul dX2_find_49
theorem s_X2_find_50 : Snd PG.nam M45 50 (m_const (.int (nI 2)) 51) := snd_iconst dX2_find_50 (by decide)
theorem s_X2_find_51 : Snd PG.nam M45 51 (m_ibin (fun a b => a + b) 52) := snd_iadd dX2_find_51
theorem s_X2_find_52 : Snd PG.nam M45 52 (m_lald 53) := snd_lald dX2_find_52
theorem s_X2_find_53 : Snd PG.nam M45 53 (m_lload 5 55) := snd_lload dX2_find_53
theorem s_X2_find_55 : Snd PG.nam M45 55 (m_lcmp 56) := snd_lcmp dX2_find_55
theorem s_X2_find_56 : Snd PG.nam M45 56 (m_ifz (fun x => if x = 0 then 65 else 59)) := snd_if_eq dX2_find_56 (by decide)
theorem s_X2_find_59 : Snd PG.nam M45 59 (m_iinc 7 (nI 1) 62) := snd_iinc dX2_find_59 (by decide) (by decide)
theorem s_X2_find_62 : Snd PG.nam M45 62 (m_goto 3) := snd_goto dX2_find_62 (by decide)
theorem s_X2_find_65 : Snd PG.nam M45 65 (m_iload 7 67) := snd_iload dX2_find_65
theorem s_X2_find_67 : Snd PG.nam M45 67 (m_iret .int) := snd_iret dX2_find_67 rfl
theorem T45 : ∀ q ∈ S45, Snd PG.nam M45 q.1 q.2 := List.forall_mem_cons.mpr ⟨s_X2_find_0, List.forall_mem_cons.mpr ⟨s_X2_find_1, List.forall_mem_cons.mpr ⟨s_X2_find_3, List.forall_mem_cons.mpr ⟨s_X2_find_5, List.forall_mem_cons.mpr ⟨s_X2_find_6, List.forall_mem_cons.mpr ⟨s_X2_find_9, List.forall_mem_cons.mpr ⟨s_X2_find_12, List.forall_mem_cons.mpr ⟨s_X2_find_13, List.forall_mem_cons.mpr ⟨s_X2_find_16, List.forall_mem_cons.mpr ⟨s_X2_find_17, List.forall_mem_cons.mpr ⟨s_X2_find_19, List.forall_mem_cons.mpr ⟨s_X2_find_20, List.forall_mem_cons.mpr ⟨s_X2_find_21, List.forall_mem_cons.mpr ⟨s_X2_find_22, List.forall_mem_cons.mpr ⟨s_X2_find_23, List.forall_mem_cons.mpr ⟨s_X2_find_26, List.forall_mem_cons.mpr ⟨s_X2_find_27, List.forall_mem_cons.mpr ⟨s_X2_find_30, List.forall_mem_cons.mpr ⟨s_X2_find_31, List.forall_mem_cons.mpr ⟨s_X2_find_33, List.forall_mem_cons.mpr ⟨s_X2_find_34, List.forall_mem_cons.mpr ⟨s_X2_find_35, List.forall_mem_cons.mpr ⟨s_X2_find_36, List.forall_mem_cons.mpr ⟨s_X2_find_37, List.forall_mem_cons.mpr ⟨s_X2_find_38, List.forall_mem_cons.mpr ⟨s_X2_find_39, List.forall_mem_cons.mpr ⟨s_X2_find_42, List.forall_mem_cons.mpr ⟨s_X2_find_43, List.forall_mem_cons.mpr ⟨s_X2_find_46, List.forall_mem_cons.mpr ⟨s_X2_find_47, List.forall_mem_cons.mpr ⟨s_X2_find_49, List.forall_mem_cons.mpr ⟨s_X2_find_50, List.forall_mem_cons.mpr ⟨s_X2_find_51, List.forall_mem_cons.mpr ⟨s_X2_find_52, List.forall_mem_cons.mpr ⟨s_X2_find_53, List.forall_mem_cons.mpr ⟨s_X2_find_55, List.forall_mem_cons.mpr ⟨s_X2_find_56, List.forall_mem_cons.mpr ⟨s_X2_find_59, List.forall_mem_cons.mpr ⟨s_X2_find_62, List.forall_mem_cons.mpr ⟨s_X2_find_65, List.forall_mem_cons.mpr ⟨s_X2_find_67, (fun q hq => absurd hq List.not_mem_nil)⟩⟩⟩⟩⟩⟩⟩⟩⟩⟩⟩⟩⟩⟩⟩⟩⟩⟩⟩⟩⟩⟩⟩⟩⟩⟩⟩⟩⟩⟩⟩⟩⟩⟩⟩⟩⟩⟩⟩⟩⟩
theorem s_X2_apply_0 : Snd PG.nam M46 0 (m_aload 0 1) := snd_aload_n dX2_apply_0 rfl
theorem s_X2_apply_1 : Snd PG.nam M46 1 (m_lload 2 2) := snd_lload_n dX2_apply_1 rfl
theorem s_X2_apply_2 : Snd PG.nam M46 2 (m_lload 4 4) := snd_lload dX2_apply_2
theorem s_X2_apply_4 : Snd PG.nam M46 4 (m_lload 6 6) := snd_lload dX2_apply_4
theorem s_X2_apply_6 : Snd PG.nam M46 6 (m_callV false [(1, 45)] 3 9) := snd_callV (nam := PG.nam) (List.forall_mem_cons.mpr ⟨dr_V (ym := PG.nam 45) dX2_apply_6 (Or.inl w1620) mi_45 rfl (lw_all_tbl qs27), (fun q hq => absurd hq List.not_mem_nil)⟩) (by decide)
theorem s_X2_apply_9 : Snd PG.nam M46 9 (m_istore 8 11) := snd_istore dX2_apply_9 (by decide)
theorem s_X2_apply_11 : Snd PG.nam M46 11 (m_iload 1 12) := snd_iload_n dX2_apply_11 rfl
theorem s_X2_apply_12 : Snd PG.nam M46 12 (m_ifz (fun x => if x = 0 then 68 else 15)) := snd_if_eq dX2_apply_12 (by decide)
theorem s_X2_apply_15 : Snd PG.nam M46 15 (m_aload 0 16) := snd_aload_n dX2_apply_15 rfl
theorem s_X2_apply_16 : Snd PG.nam M46 16 (m_getf [(1, 0)] 19) := snd_getf dX2_apply_16 fd_X2_7
theorem s_X2_apply_19 : Snd PG.nam M46 19 (m_const (.int (nI 3)) 20) := snd_iconst dX2_apply_19 (by decide)
theorem s_X2_apply_20 : Snd PG.nam M46 20 (m_aload 0 21) := snd_aload_n dX2_apply_20 rfl
theorem s_X2_apply_21 : Snd PG.nam M46 21 (m_getf [(1, 1)] 24) := snd_getf dX2_apply_21 fd_X2_102
theorem s_X2_apply_24 : Snd PG.nam M46 24 (m_ibin (fun a b => a * b) 25) := snd_imul dX2_apply_24
theorem s_X2_apply_25 : Snd PG.nam M46 25 (m_lload 2 26) := snd_lload_n dX2_apply_25 rfl
theorem s_X2_apply_26 : Snd PG.nam M46 26 (m_last 27) := snd_last dX2_apply_26
theorem s_X2_apply_27 : Snd PG.nam M46 27 (m_aload 0 28) := snd_aload_n dX2_apply_27 rfl
theorem s_X2_apply_28 : Snd PG.nam M46 28 (m_getf [(1, 0)] 31) := snd_getf dX2_apply_28 fd_X2_7
theorem s_X2_apply_31 : Snd PG.nam M46 31 (m_const (.int (nI 3)) 32) := snd_iconst dX2_apply_31 (by decide)
theorem s_X2_apply_32 : Snd PG.nam M46 32 (m_aload 0 33) := snd_aload_n dX2_apply_32 rfl
theorem s_X2_apply_33 : Snd PG.nam M46 33 (m_getf [(1, 1)] 36) := snd_getf dX2_apply_33 fd_X2_102
theorem s_X2_apply_36 : Snd PG.nam M46 36 (m_ibin (fun a b => a * b) 37) := snd_imul dX2_apply_36
theorem s_X2_apply_37 : Snd PG.nam M46 37 (m_const (.int (nI 1)) 38) := snd_iconst dX2_apply_37 (by decide)
theorem s_X2_apply_38 : Snd PG.nam M46 38 (m_ibin (fun a b => a + b) 39) := snd_iadd dX2_apply_38
theorem s_X2_apply_39 : Snd PG.nam M46 39 (m_lload 4 41) := snd_lload dX2_apply_39
theorem s_X2_apply_41 : Snd PG.nam M46 41 (m_last 42) := snd_last dX2_apply_41
theorem s_X2_apply_42 : Snd PG.nam M46 42 (m_aload 0 43) := snd_aload_n dX2_apply_42 rfl
theorem s_X2_apply_43 : Snd PG.nam M46 43 (m_getf [(1, 0)] 46) := snd_getf dX2_apply_43 fd_X2_7
theorem s_X2_apply_46 : Snd PG.nam M46 46 (m_const (.int (nI 3)) 47) := snd_iconst dX2_apply_46 (by decide)
theorem s_X2_apply_47 : Snd PG.nam M46 47 (m_aload 0 48) := snd_aload_n dX2_apply_47 rfl
theorem s_X2_apply_48 : Snd PG.nam M46 48 (m_getf [(1, 1)] 51) := snd_getf dX2_apply_48 fd_X2_102
theorem s_X2_apply_51 : Snd PG.nam M46 51 (m_ibin (fun a b => a * b) 52) := snd_imul dX2_apply_51
theorem s_X2_apply_52 : Snd PG.nam M46 52 (m_const (.int (nI 2)) 53) := snd_iconst dX2_apply_52 (by decide)
theorem s_X2_apply_53 : Snd PG.nam M46 53 (m_ibin (fun a b => a + b) 54) := snd_iadd dX2_apply_53
theorem s_X2_apply_54 : Snd PG.nam M46 54 (m_lload 6 56) := snd_lload dX2_apply_54
theorem s_X2_apply_56 : Snd PG.nam M46 56 (m_last 57) := snd_last dX2_apply_56
theorem s_X2_apply_57 : Snd PG.nam M46 57 (m_aload 0 58) := snd_aload_n dX2_apply_57 rfl
theorem s_X2_apply_58 : Snd PG.nam M46 58 (m_dup 59) := snd_dup dX2_apply_58
theorem s_X2_apply_59 : Snd PG.nam M46 59 (m_getf [(1, 1)] 62) := snd_getf dX2_apply_59 fd_X2_102
theorem s_X2_apply_62 : Snd PG.nam M46 62 (m_const (.int (nI 1)) 63) := snd_iconst dX2_apply_62 (by decide)
theorem s_X2_apply_63 : Snd PG.nam M46 63 (m_ibin (fun a b => a + b) 64) := snd_iadd dX2_apply_63
theorem s_X2_apply_64 : Snd PG.nam M46 64 (m_putf [(1, 1)] .int 67) := snd_putf dX2_apply_64 fd_X2_102
theorem s_X2_apply_67 : Snd PG.nam M46 67 (m_vret) := snd_vret dX2_apply_67 rfl
theorem s_X2_apply_68 : Snd PG.nam M46 68 (m_aload 0 69) := snd_aload_n dX2_apply_68 rfl
theorem s_X2_apply_69 : Snd PG.nam M46 69 (m_dup 70) := snd_dup dX2_apply_69
theorem s_X2_apply_70 : Snd PG.nam M46 70 (m_getf [(1, 1)] 73) := snd_getf dX2_apply_70 fd_X2_102
theorem s_X2_apply_73 : Snd PG.nam M46 73 (m_const (.int (nI 1)) 74) := snd_iconst dX2_apply_73 (by decide)
theorem s_X2_apply_74 : Snd PG.nam M46 74 (m_ibin (fun a b => a - b) 75) := snd_isub dX2_apply_74
theorem s_X2_apply_75 : Snd PG.nam M46 75 (m_putf [(1, 1)] .int 78) := snd_putf dX2_apply_75 fd_X2_102
theorem s_X2_apply_78 : Snd PG.nam M46 78 (m_const (.int (nI 0)) 79) := snd_iconst dX2_apply_78 (by decide)
theorem s_X2_apply_79 : Snd PG.nam M46 79 (m_istore 9 81) := snd_istore dX2_apply_79 (by decide)
theorem s_X2_apply_81 : Snd PG.nam M46 81 (m_iload 9 83) := snd_iload dX2_apply_81
theorem s_X2_apply_83 : Snd PG.nam M46 83 (m_const (.int (nI 3)) 84) := snd_iconst dX2_apply_83 (by decide)
theorem s_X2_apply_84 : Snd PG.nam M46 84 (m_icmp (fun x z => if x < z then 87 else 119)) := snd_icmp_ge dX2_apply_84 (by decide)
theorem s_X2_apply_87 : Snd PG.nam M46 87 (m_aload 0 88) := snd_aload_n dX2_apply_87 rfl
theorem s_X2_apply_88 : Snd PG.nam M46 88 (m_getf [(1, 0)] 91) := snd_getf dX2_apply_88 fd_X2_7
theorem s_X2_apply_91 : Snd PG.nam M46 91 (m_const (.int (nI 3)) 92) := snd_iconst dX2_apply_91 (by decide)
theorem s_X2_apply_92 : Snd PG.nam M46 92 (m_iload 8 94) := snd_iload dX2_apply_92
theorem s_X2_apply_94 : Snd PG.nam M46 94 (m_ibin (fun a b => a * b) 95) := snd_imul dX2_apply_94
theorem s_X2_apply_95 : Snd PG.nam M46 95 (m_iload 9 97) := snd_iload dX2_apply_95
theorem s_X2_apply_97 : Snd PG.nam M46 97 (m_ibin (fun a b => a + b) 98) := snd_iadd dX2_apply_97
theorem s_X2_apply_98 : Snd PG.nam M46 98 (m_aload 0 99) := snd_aload_n dX2_apply_98 rfl
theorem s_X2_apply_99 : Snd PG.nam M46 99 (m_getf [(1, 0)] 102) := snd_getf dX2_apply_99 fd_X2_7
theorem s_X2_apply_102 : Snd PG.nam M46 102 (m_const (.int (nI 3)) 103) := snd_iconst dX2_apply_102 (by decide)
theorem s_X2_apply_103 : Snd PG.nam M46 103 (m_aload 0 104) := snd_aload_n dX2_apply_103 rfl
theorem s_X2_apply_104 : Snd PG.nam M46 104 (m_getf [(1, 1)] 107) := snd_getf dX2_apply_104 fd_X2_102
theorem s_X2_apply_107 : Snd PG.nam M46 107 (m_ibin (fun a b => a * b) 108) := snd_imul dX2_apply_107
theorem s_X2_apply_108 : Snd PG.nam M46 108 (m_iload 9 110) := snd_iload dX2_apply_108
theorem s_X2_apply_110 : Snd PG.nam M46 110 (m_ibin (fun a b => a + b) 111) := snd_iadd dX2_apply_110
theorem s_X2_apply_111 : Snd PG.nam M46 111 (m_lald 112) := snd_lald dX2_apply_111
theorem s_X2_apply_112 : Snd PG.nam M46 112 (m_last 113) := snd_last dX2_apply_112
theorem s_X2_apply_113 : Snd PG.nam M46 113 (m_iinc 9 (nI 1) 116) := snd_iinc dX2_apply_113 (by decide) (by decide)
theorem s_X2_apply_116 : Snd PG.nam M46 116 (m_goto 81) := snd_goto dX2_apply_116 (by decide)
theorem s_X2_apply_119 : Snd PG.nam M46 119 (m_vret) := snd_vret dX2_apply_119 rfl
theorem T46 : ∀ q ∈ S46, Snd PG.nam M46 q.1 q.2 := List.forall_mem_cons.mpr ⟨s_X2_apply_0, List.forall_mem_cons.mpr ⟨s_X2_apply_1, List.forall_mem_cons.mpr ⟨s_X2_apply_2, List.forall_mem_cons.mpr ⟨s_X2_apply_4, List.forall_mem_cons.mpr ⟨s_X2_apply_6, List.forall_mem_cons.mpr ⟨s_X2_apply_9, List.forall_mem_cons.mpr ⟨s_X2_apply_11, List.forall_mem_cons.mpr ⟨s_X2_apply_12, List.forall_mem_cons.mpr ⟨s_X2_apply_15, List.forall_mem_cons.mpr ⟨s_X2_apply_16, List.forall_mem_cons.mpr ⟨s_X2_apply_19, List.forall_mem_cons.mpr ⟨s_X2_apply_20, List.forall_mem_cons.mpr ⟨s_X2_apply_21, List.forall_mem_cons.mpr ⟨s_X2_apply_24, List.forall_mem_cons.mpr ⟨s_X2_apply_25, List.forall_mem_cons.mpr ⟨s_X2_apply_26, List.forall_mem_cons.mpr ⟨s_X2_apply_27, List.forall_mem_cons.mpr ⟨s_X2_apply_28, List.forall_mem_cons.mpr ⟨s_X2_apply_31, List.forall_mem_cons.mpr ⟨s_X2_apply_32, List.forall_mem_cons.mpr ⟨s_X2_apply_33, List.forall_mem_cons.mpr ⟨s_X2_apply_36, List.forall_mem_cons.mpr ⟨s_X2_apply_37, List.forall_mem_cons.mpr ⟨s_X2_apply_38, List.forall_mem_cons.mpr ⟨s_X2_apply_39, List.forall_mem_cons.mpr ⟨s_X2_apply_41, List.forall_mem_cons.mpr ⟨s_X2_apply_42, List.forall_mem_cons.mpr ⟨s_X2_apply_43, List.forall_mem_cons.mpr ⟨s_X2_apply_46, List.forall_mem_cons.mpr ⟨s_X2_apply_47, List.forall_mem_cons.mpr ⟨s_X2_apply_48, List.forall_mem_cons.mpr ⟨s_X2_apply_51, List.forall_mem_cons.mpr ⟨s_X2_apply_52, List.forall_mem_cons.mpr ⟨s_X2_apply_53, List.forall_mem_cons.mpr ⟨s_X2_apply_54, List.forall_mem_cons.mpr ⟨s_X2_apply_56, List.forall_mem_cons.mpr ⟨s_X2_apply_57, List.forall_mem_cons.mpr ⟨s_X2_apply_58, List.forall_mem_cons.mpr ⟨s_X2_apply_59, List.forall_mem_cons.mpr ⟨s_X2_apply_62, List.forall_mem_cons.mpr ⟨s_X2_apply_63, List.forall_mem_cons.mpr ⟨s_X2_apply_64, List.forall_mem_cons.mpr ⟨s_X2_apply_67, List.forall_mem_cons.mpr ⟨s_X2_apply_68, List.forall_mem_cons.mpr ⟨s_X2_apply_69, List.forall_mem_cons.mpr ⟨s_X2_apply_70, List.forall_mem_cons.mpr ⟨s_X2_apply_73, List.forall_mem_cons.mpr ⟨s_X2_apply_74, List.forall_mem_cons.mpr ⟨s_X2_apply_75, List.forall_mem_cons.mpr ⟨s_X2_apply_78, List.forall_mem_cons.mpr ⟨s_X2_apply_79, List.forall_mem_cons.mpr ⟨s_X2_apply_81, List.forall_mem_cons.mpr ⟨s_X2_apply_83, List.forall_mem_cons.mpr ⟨s_X2_apply_84, List.forall_mem_cons.mpr ⟨s_X2_apply_87, List.forall_mem_cons.mpr ⟨s_X2_apply_88, List.forall_mem_cons.mpr ⟨s_X2_apply_91, List.forall_mem_cons.mpr ⟨s_X2_apply_92, List.forall_mem_cons.mpr ⟨s_X2_apply_94, List.forall_mem_cons.mpr ⟨s_X2_apply_95, List.forall_mem_cons.mpr ⟨s_X2_apply_97, List.forall_mem_cons.mpr ⟨s_X2_apply_98, List.forall_mem_cons.mpr ⟨s_X2_apply_99, List.forall_mem_cons.mpr ⟨s_X2_apply_102, List.forall_mem_cons.mpr ⟨s_X2_apply_103, List.forall_mem_cons.mpr ⟨s_X2_apply_104, List.forall_mem_cons.mpr ⟨s_X2_apply_107, List.forall_mem_cons.mpr ⟨s_X2_apply_108, List.forall_mem_cons.mpr ⟨s_X2_apply_110, List.forall_mem_cons.mpr ⟨s_X2_apply_111, List.forall_mem_cons.mpr ⟨s_X2_apply_112, List.forall_mem_cons.mpr ⟨s_X2_apply_113, List.forall_mem_cons.mpr ⟨s_X2_apply_116, List.forall_mem_cons.mpr ⟨s_X2_apply_119, (fun q hq => absurd hq List.not_mem_nil)⟩⟩⟩⟩⟩⟩⟩⟩⟩⟩⟩⟩⟩⟩⟩⟩⟩⟩⟩⟩⟩⟩⟩⟩⟩⟩⟩⟩⟩⟩⟩⟩⟩⟩⟩⟩⟩⟩⟩⟩⟩⟩⟩⟩⟩⟩⟩⟩⟩⟩⟩⟩⟩⟩⟩⟩⟩⟩⟩⟩⟩⟩⟩⟩⟩⟩⟩⟩⟩⟩⟩⟩⟩⟩
theorem s_X2_close_0 : Snd PG.nam M47 0 (m_aload 0 1) := snd_aload_n dX2_close_0 rfl
theorem s_X2_close_1 : Snd PG.nam M47 1 (m_dup 2) := snd_dup dX2_close_1
theorem s_X2_close_2 : Snd PG.nam M47 2 (m_getf [(1, 8)] 5) := snd_getf dX2_close_2 fd_X2_130
theorem s_X2_close_5 : Snd PG.nam M47 5 (m_const (.int (nI 1)) 6) := snd_iconst dX2_close_5 (by decide)
theorem s_X2_close_6 : Snd PG.nam M47 6 (m_ibin (fun a b => a + b) 7) := snd_iadd dX2_close_6
theorem s_X2_close_7 : Snd PG.nam M47 7 (m_putf [(1, 8)] .int 10) := snd_putf dX2_close_7 fd_X2_130
theorem s_X2_close_10 : Snd PG.nam M47 10 (m_aload 0 11) := snd_aload_n dX2_close_10 rfl
theorem s_X2_close_11 : Snd PG.nam M47 11 (m_dup 12) := snd_dup dX2_close_11
theorem s_X2_close_12 : Snd PG.nam M47 12 (m_getf [(1, 9)] 15) := snd_getf dX2_close_12 fd_X2_120
theorem s_X2_close_15 : Snd PG.nam M47 15 (m_const (.int (nI 1)) 16) := snd_iconst dX2_close_15 (by decide)
theorem s_X2_close_16 : Snd PG.nam M47 16 (m_ibin (fun a b => a + b) 17) := snd_iadd dX2_close_16
theorem s_X2_close_17 : Snd PG.nam M47 17 (m_putf [(1, 9)] .int 20) := snd_putf dX2_close_17 fd_X2_120
theorem s_X2_close_20 : Snd PG.nam M47 20 (m_aload 0 21) := snd_aload_n dX2_close_20 rfl
theorem s_X2_close_21 : Snd PG.nam M47 21 (m_const (.int (nI 0)) 22) := snd_iconst dX2_close_21 (by decide)
theorem s_X2_close_22 : Snd PG.nam M47 22 (m_putf [(1, 10)] .boolean 25) := snd_putf dX2_close_22 fd_X2_123
theorem s_X2_close_25 : Snd PG.nam M47 25 (m_vret) := snd_vret dX2_close_25 rfl
theorem T47 : ∀ q ∈ S47, Snd PG.nam M47 q.1 q.2 := List.forall_mem_cons.mpr ⟨s_X2_close_0, List.forall_mem_cons.mpr ⟨s_X2_close_1, List.forall_mem_cons.mpr ⟨s_X2_close_2, List.forall_mem_cons.mpr ⟨s_X2_close_5, List.forall_mem_cons.mpr ⟨s_X2_close_6, List.forall_mem_cons.mpr ⟨s_X2_close_7, List.forall_mem_cons.mpr ⟨s_X2_close_10, List.forall_mem_cons.mpr ⟨s_X2_close_11, List.forall_mem_cons.mpr ⟨s_X2_close_12, List.forall_mem_cons.mpr ⟨s_X2_close_15, List.forall_mem_cons.mpr ⟨s_X2_close_16, List.forall_mem_cons.mpr ⟨s_X2_close_17, List.forall_mem_cons.mpr ⟨s_X2_close_20, List.forall_mem_cons.mpr ⟨s_X2_close_21, List.forall_mem_cons.mpr ⟨s_X2_close_22, List.forall_mem_cons.mpr ⟨s_X2_close_25, (fun q hq => absurd hq List.not_mem_nil)⟩⟩⟩⟩⟩⟩⟩⟩⟩⟩⟩⟩⟩⟩⟩⟩
theorem s_X2_remove_0 : Snd PG.nam M48 0 (m_aload 0 1) := snd_aload_n dX2_remove_0 rfl
theorem s_X2_remove_1 : Snd PG.nam M48 1 (m_lload 1 2) := snd_lload_n dX2_remove_1 rfl
theorem s_X2_remove_2 : Snd PG.nam M48 2 (m_lload 3 3) := snd_lload_n dX2_remove_2 rfl
theorem s_X2_remove_3 : Snd PG.nam M48 3 (m_lload 5 5) := snd_lload dX2_remove_3
theorem s_X2_remove_5 : Snd PG.nam M48 5 (m_callV false [(1, 39)] 3 8) := snd_callV (nam := PG.nam) (List.forall_mem_cons.mpr ⟨dr_V (ym := PG.nam 39) dX2_remove_5 (Or.inl w1597) mi_39 rfl (lw_all_tbl qs24), (fun q hq => absurd hq List.not_mem_nil)⟩) (by decide)
theorem s_X2_remove_8 : Snd PG.nam M48 8 (m_ifz (fun x => if x = 0 then 23 else 11)) := snd_if_eq dX2_remove_8 (by decide)
theorem s_X2_remove_11 : Snd PG.nam M48 11 (m_aload 0 12) := snd_aload_n dX2_remove_11 rfl
theorem s_X2_remove_12 : Snd PG.nam M48 12 (m_const (.int (nI 0)) 13) := snd_iconst dX2_remove_12 (by decide)
theorem s_X2_remove_13 : Snd PG.nam M48 13 (m_lload 1 14) := snd_lload_n dX2_remove_13 rfl
theorem s_X2_remove_14 : Snd PG.nam M48 14 (m_lload 3 15) := snd_lload_n dX2_remove_14 rfl
theorem s_X2_remove_15 : Snd PG.nam M48 15 (m_lload 5 17) := snd_lload dX2_remove_15
theorem s_X2_remove_17 : Snd PG.nam M48 17 (m_callV false [(1, 44)] 4 20) := snd_callV (nam := PG.nam) (List.forall_mem_cons.mpr ⟨dr_V (ym := PG.nam 44) dX2_remove_17 (Or.inl w1616) mi_44 rfl (lw_all_tbl qs26), (fun q hq => absurd hq List.not_mem_nil)⟩) (by decide)
theorem s_X2_remove_20 : Snd PG.nam M48 20 (m_goto 24) := snd_goto dX2_remove_20 (by decide)
theorem s_X2_remove_23 : Snd PG.nam M48 23 (m_const (.int (nI 0)) 24) := snd_iconst dX2_remove_23 (by decide)
theorem s_X2_remove_24 : Snd PG.nam M48 24 (m_iret .int) := snd_iret dX2_remove_24 rfl
theorem T48 : ∀ q ∈ S48, Snd PG.nam M48 q.1 q.2 := List.forall_mem_cons.mpr ⟨s_X2_remove_0, List.forall_mem_cons.mpr ⟨s_X2_remove_1, List.forall_mem_cons.mpr ⟨s_X2_remove_2, List.forall_mem_cons.mpr ⟨s_X2_remove_3, List.forall_mem_cons.mpr ⟨s_X2_remove_5, List.forall_mem_cons.mpr ⟨s_X2_remove_8, List.forall_mem_cons.mpr ⟨s_X2_remove_11, List.forall_mem_cons.mpr ⟨s_X2_remove_12, List.forall_mem_cons.mpr ⟨s_X2_remove_13, List.forall_mem_cons.mpr ⟨s_X2_remove_14, List.forall_mem_cons.mpr ⟨s_X2_remove_15, List.forall_mem_cons.mpr ⟨s_X2_remove_17, List.forall_mem_cons.mpr ⟨s_X2_remove_20, List.forall_mem_cons.mpr ⟨s_X2_remove_23, List.forall_mem_cons.mpr ⟨s_X2_remove_24, (fun q hq => absurd hq List.not_mem_nil)⟩⟩⟩⟩⟩⟩⟩⟩⟩⟩⟩⟩⟩⟩⟩
theorem s_X2_begin_0 : Snd PG.nam M49 0 (m_aload 0 1) := snd_aload_n dX2_begin_0 rfl
theorem s_X2_begin_1 : Snd PG.nam M49 1 (m_aload 0 2) := snd_aload_n dX2_begin_1 rfl
theorem s_X2_begin_2 : Snd PG.nam M49 2 (m_getf [(1, 10)] 5) := snd_getf dX2_begin_2 fd_X2_123
theorem s_X2_begin_5 : Snd PG.nam M49 5 (m_ifz (fun x => if x = 0 then 8 else 12)) := snd_if_ne dX2_begin_5 (by decide)
theorem s_X2_begin_8 : Snd PG.nam M49 8 (m_const (.int (nI 1)) 9) := snd_iconst dX2_begin_8 (by decide)
theorem s_X2_begin_9 : Snd PG.nam M49 9 (m_goto 13) := snd_goto dX2_begin_9 (by decide)
theorem s_X2_begin_12 : Snd PG.nam M49 12 (m_const (.int (nI 0)) 13) := snd_iconst dX2_begin_12 (by decide)
theorem s_X2_begin_13 : Snd PG.nam M49 13 (m_const (.int (nI 1)) 14) := snd_iconst dX2_begin_13 (by decide)
theorem s_X2_begin_14 : Snd PG.nam M49 14 (m_callV false [(1, 43)] 2 17) := snd_callV (nam := PG.nam) (List.forall_mem_cons.mpr ⟨dr_V (ym := PG.nam 43) dX2_begin_14 (Or.inl w1612) mi_43 rfl (lw_all_tbl qs25), (fun q hq => absurd hq List.not_mem_nil)⟩) (by decide)
theorem s_X2_begin_17 : Snd PG.nam M49 17 (m_ifz (fun x => if x = 0 then 20 else 22)) := snd_if_ne dX2_begin_17 (by decide)
theorem s_X2_begin_20 : Snd PG.nam M49 20 (m_const (.int (nI 0)) 21) := snd_iconst dX2_begin_20 (by decide)
theorem s_X2_begin_21 : Snd PG.nam M49 21 (m_iret .int) := snd_iret dX2_begin_21 rfl
theorem s_X2_begin_22 : Snd PG.nam M49 22 (m_aload 0 23) := snd_aload_n dX2_begin_22 rfl
theorem s_X2_begin_23 : Snd PG.nam M49 23 (m_const (.int (nI 1)) 24) := snd_iconst dX2_begin_23 (by decide)
theorem s_X2_begin_24 : Snd PG.nam M49 24 (m_putf [(1, 10)] .boolean 27) := snd_putf dX2_begin_24 fd_X2_123
theorem s_X2_begin_27 : Snd PG.nam M49 27 (m_aload 0 28) := snd_aload_n dX2_begin_27 rfl
theorem s_X2_begin_28 : Snd PG.nam M49 28 (m_aload 0 29) := snd_aload_n dX2_begin_28 rfl
theorem s_X2_begin_29 : Snd PG.nam M49 29 (m_getf [(1, 7)] 32) := snd_getf dX2_begin_29 fd_X2_117
theorem s_X2_begin_32 : Snd PG.nam M49 32 (m_putf [(1, 11)] .int 35) := snd_putf dX2_begin_32 fd_X2_148
theorem s_X2_begin_35 : Snd PG.nam M49 35 (m_aload 0 36) := snd_aload_n dX2_begin_35 rfl
theorem s_X2_begin_36 : Snd PG.nam M49 36 (m_getf [(1, 8)] 39) := snd_getf dX2_begin_36 fd_X2_130
theorem s_X2_begin_39 : Snd PG.nam M49 39 (m_iret .int) := snd_iret dX2_begin_39 rfl
theorem T49 : ∀ q ∈ S49, Snd PG.nam M49 q.1 q.2 := List.forall_mem_cons.mpr ⟨s_X2_begin_0, List.forall_mem_cons.mpr ⟨s_X2_begin_1, List.forall_mem_cons.mpr ⟨s_X2_begin_2, List.forall_mem_cons.mpr ⟨s_X2_begin_5, List.forall_mem_cons.mpr ⟨s_X2_begin_8, List.forall_mem_cons.mpr ⟨s_X2_begin_9, List.forall_mem_cons.mpr ⟨s_X2_begin_12, List.forall_mem_cons.mpr ⟨s_X2_begin_13, List.forall_mem_cons.mpr ⟨s_X2_begin_14, List.forall_mem_cons.mpr ⟨s_X2_begin_17, List.forall_mem_cons.mpr ⟨s_X2_begin_20, List.forall_mem_cons.mpr ⟨s_X2_begin_21, List.forall_mem_cons.mpr ⟨s_X2_begin_22, List.forall_mem_cons.mpr ⟨s_X2_begin_23, List.forall_mem_cons.mpr ⟨s_X2_begin_24, List.forall_mem_cons.mpr ⟨s_X2_begin_27, List.forall_mem_cons.mpr ⟨s_X2_begin_28, List.forall_mem_cons.mpr ⟨s_X2_begin_29, List.forall_mem_cons.mpr ⟨s_X2_begin_32, List.forall_mem_cons.mpr ⟨s_X2_begin_35, List.forall_mem_cons.mpr ⟨s_X2_begin_36, List.forall_mem_cons.mpr ⟨s_X2_begin_39, (fun q hq => absurd hq List.not_mem_nil)⟩⟩⟩⟩⟩⟩⟩⟩⟩⟩⟩⟩⟩⟩⟩⟩⟩⟩⟩⟩⟩⟩
theorem s_X2_commit_0 : Snd PG.nam M50 0 (m_aload 0 1) := snd_aload_n dX2_commit_0 rfl
theorem s_X2_commit_1 : Snd PG.nam M50 1 (m_aload 0 2) := snd_aload_n dX2_commit_1 rfl
theorem s_X2_commit_2 : Snd PG.nam M50 2 (m_getf [(1, 10)] 5) := snd_getf dX2_commit_2 fd_X2_123
theorem s_X2_commit_5 : Snd PG.nam M50 5 (m_const (.int (nI 1)) 6) := snd_iconst dX2_commit_5 (by decide)
theorem s_X2_commit_6 : Snd PG.nam M50 6 (m_callV false [(1, 43)] 2 9) := snd_callV (nam := PG.nam) (List.forall_mem_cons.mpr ⟨dr_V (ym := PG.nam 43) dX2_commit_6 (Or.inl w1612) mi_43 rfl (lw_all_tbl qs25), (fun q hq => absurd hq List.not_mem_nil)⟩) (by decide)
theorem s_X2_commit_9 : Snd PG.nam M50 9 (m_ifz (fun x => if x = 0 then 12 else 14)) := snd_if_ne dX2_commit_9 (by decide)
theorem s_X2_commit_12 : Snd PG.nam M50 12 (m_const (.int (nI 0)) 13) := snd_iconst dX2_commit_12 (by decide)
theorem s_X2_commit_13 : Snd PG.nam M50 13 (m_iret .int) := snd_iret dX2_commit_13 rfl
theorem s_X2_commit_14 : Snd PG.nam M50 14 (m_aload 0 15) := snd_aload_n dX2_commit_14 rfl
theorem s_X2_commit_15 : Snd PG.nam M50 15 (m_callV true [(1, 47)] 0 18) := snd_callV (nam := PG.nam) (List.forall_mem_cons.mpr ⟨dr_V (ym := PG.nam 47) dX2_commit_15 (Or.inl w1628) mi_47 rfl (lw_all_tbl qs29), (fun q hq => absurd hq List.not_mem_nil)⟩) (by decide)
theorem s_X2_commit_18 : Snd PG.nam M50 18 (m_aload 0 19) := snd_aload_n dX2_commit_18 rfl
theorem s_X2_commit_19 : Snd PG.nam M50 19 (m_getf [(1, 7)] 22) := snd_getf dX2_commit_19 fd_X2_117
theorem s_X2_commit_22 : Snd PG.nam M50 22 (m_aload 0 23) := snd_aload_n dX2_commit_22 rfl
theorem s_X2_commit_23 : Snd PG.nam M50 23 (m_getf [(1, 11)] 26) := snd_getf dX2_commit_23 fd_X2_148
theorem s_X2_commit_26 : Snd PG.nam M50 26 (m_ibin (fun a b => a - b) 27) := snd_isub dX2_commit_26
theorem s_X2_commit_27 : Snd PG.nam M50 27 (m_iret .int) := snd_iret dX2_commit_27 rfl
theorem T50 : ∀ q ∈ S50, Snd PG.nam M50 q.1 q.2 := List.forall_mem_cons.mpr ⟨s_X2_commit_0, List.forall_mem_cons.mpr ⟨s_X2_commit_1, List.forall_mem_cons.mpr ⟨s_X2_commit_2, List.forall_mem_cons.mpr ⟨s_X2_commit_5, List.forall_mem_cons.mpr ⟨s_X2_commit_6, List.forall_mem_cons.mpr ⟨s_X2_commit_9, List.forall_mem_cons.mpr ⟨s_X2_commit_12, List.forall_mem_cons.mpr ⟨s_X2_commit_13, List.forall_mem_cons.mpr ⟨s_X2_commit_14, List.forall_mem_cons.mpr ⟨s_X2_commit_15, List.forall_mem_cons.mpr ⟨s_X2_commit_18, List.forall_mem_cons.mpr ⟨s_X2_commit_19, List.forall_mem_cons.mpr ⟨s_X2_commit_22, List.forall_mem_cons.mpr ⟨s_X2_commit_23, List.forall_mem_cons.mpr ⟨s_X2_commit_26, List.forall_mem_cons.mpr ⟨s_X2_commit_27, (fun q hq => absurd hq List.not_mem_nil)⟩⟩⟩⟩⟩⟩⟩⟩⟩⟩⟩⟩⟩⟩⟩⟩
theorem s_X2_rollback_0 : Snd PG.nam M51 0 (m_aload 0 1) := snd_aload_n dX2_rollback_0 rfl
theorem s_X2_rollback_1 : Snd PG.nam M51 1 (m_aload 0 2) := snd_aload_n dX2_rollback_1 rfl
theorem s_X2_rollback_2 : Snd PG.nam M51 2 (m_getf [(1, 10)] 5) := snd_getf dX2_rollback_2 fd_X2_123
theorem s_X2_rollback_5 : Snd PG.nam M51 5 (m_const (.int (nI 1)) 6) := snd_iconst dX2_rollback_5 (by decide)
theorem s_X2_rollback_6 : Snd PG.nam M51 6 (m_callV false [(1, 43)] 2 9) := snd_callV (nam := PG.nam) (List.forall_mem_cons.mpr ⟨dr_V (ym := PG.nam 43) dX2_rollback_6 (Or.inl w1612) mi_43 rfl (lw_all_tbl qs25), (fun q hq => absurd hq List.not_mem_nil)⟩) (by decide)
theorem s_X2_rollback_9 : Snd PG.nam M51 9 (m_ifz (fun x => if x = 0 then 12 else 14)) := snd_if_ne dX2_rollback_9 (by decide)
theorem s_X2_rollback_12 : Snd PG.nam M51 12 (m_const (.int (nI 0)) 13) := snd_iconst dX2_rollback_12 (by decide)
theorem s_X2_rollback_13 : Snd PG.nam M51 13 (m_iret .int) := snd_iret dX2_rollback_13 rfl
theorem s_X2_rollback_14 : Snd PG.nam M51 14 (m_aload 0 15) := snd_aload_n dX2_rollback_14 rfl
theorem s_X2_rollback_15 : Snd PG.nam M51 15 (m_getf [(1, 7)] 18) := snd_getf dX2_rollback_15 fd_X2_117
theorem s_X2_rollback_18 : Snd PG.nam M51 18 (m_aload 0 19) := snd_aload_n dX2_rollback_18 rfl
theorem s_X2_rollback_19 : Snd PG.nam M51 19 (m_getf [(1, 11)] 22) := snd_getf dX2_rollback_19 fd_X2_148
theorem s_X2_rollback_22 : Snd PG.nam M51 22 (m_ibin (fun a b => a - b) 23) := snd_isub dX2_rollback_22
theorem s_X2_rollback_23 : Snd PG.nam M51 23 (m_istore 1 24) := snd_istore_n dX2_rollback_23 rfl (by decide)
theorem s_X2_rollback_24 : Snd PG.nam M51 24 (m_aload 0 25) := snd_aload_n dX2_rollback_24 rfl
theorem s_X2_rollback_25 : Snd PG.nam M51 25 (m_aload 0 26) := snd_aload_n dX2_rollback_25 rfl
theorem s_X2_rollback_26 : Snd PG.nam M51 26 (m_getf [(1, 11)] 29) := snd_getf dX2_rollback_26 fd_X2_148
theorem s_X2_rollback_29 : Snd PG.nam M51 29 (m_callV true [(1, 52)] 1 32) := snd_callV (nam := PG.nam) (List.forall_mem_cons.mpr ⟨dr_V (ym := PG.nam 52) dX2_rollback_29 (Or.inl w1648) mi_52 rfl (lw_all_tbl qs30), (fun q hq => absurd hq List.not_mem_nil)⟩) (by decide)
theorem s_X2_rollback_32 : Snd PG.nam M51 32 (m_aload 0 33) := snd_aload_n dX2_rollback_32 rfl
theorem s_X2_rollback_33 : Snd PG.nam M51 33 (m_const (.int (nI 0)) 34) := snd_iconst dX2_rollback_33 (by decide)
theorem s_X2_rollback_34 : Snd PG.nam M51 34 (m_putf [(1, 10)] .boolean 37) := snd_putf dX2_rollback_34 fd_X2_123
theorem s_X2_rollback_37 : Snd PG.nam M51 37 (m_iload 1 38) := snd_iload_n dX2_rollback_37 rfl
theorem s_X2_rollback_38 : Snd PG.nam M51 38 (m_iret .int) := snd_iret dX2_rollback_38 rfl
theorem T51 : ∀ q ∈ S51, Snd PG.nam M51 q.1 q.2 := List.forall_mem_cons.mpr ⟨s_X2_rollback_0, List.forall_mem_cons.mpr ⟨s_X2_rollback_1, List.forall_mem_cons.mpr ⟨s_X2_rollback_2, List.forall_mem_cons.mpr ⟨s_X2_rollback_5, List.forall_mem_cons.mpr ⟨s_X2_rollback_6, List.forall_mem_cons.mpr ⟨s_X2_rollback_9, List.forall_mem_cons.mpr ⟨s_X2_rollback_12, List.forall_mem_cons.mpr ⟨s_X2_rollback_13, List.forall_mem_cons.mpr ⟨s_X2_rollback_14, List.forall_mem_cons.mpr ⟨s_X2_rollback_15, List.forall_mem_cons.mpr ⟨s_X2_rollback_18, List.forall_mem_cons.mpr ⟨s_X2_rollback_19, List.forall_mem_cons.mpr ⟨s_X2_rollback_22, List.forall_mem_cons.mpr ⟨s_X2_rollback_23, List.forall_mem_cons.mpr ⟨s_X2_rollback_24, List.forall_mem_cons.mpr ⟨s_X2_rollback_25, List.forall_mem_cons.mpr ⟨s_X2_rollback_26, List.forall_mem_cons.mpr ⟨s_X2_rollback_29, List.forall_mem_cons.mpr ⟨s_X2_rollback_32, List.forall_mem_cons.mpr ⟨s_X2_rollback_33, List.forall_mem_cons.mpr ⟨s_X2_rollback_34, List.forall_mem_cons.mpr ⟨s_X2_rollback_37, List.forall_mem_cons.mpr ⟨s_X2_rollback_38, (fun q hq => absurd hq List.not_mem_nil)⟩⟩⟩⟩⟩⟩⟩⟩⟩⟩⟩⟩⟩⟩⟩⟩⟩⟩⟩⟩⟩⟩⟩
theorem s_X2_undo_0 : Snd PG.nam M52 0 (m_aload 0 1) := snd_aload_n dX2_undo_0 rfl
theorem s_X2_undo_1 : Snd PG.nam M52 1 (m_getf [(1, 7)] 4) := snd_getf dX2_undo_1 fd_X2_117
theorem s_X2_undo_4 : Snd PG.nam M52 4 (m_iload 1 5) := snd_iload_n dX2_undo_4 rfl
theorem s_X2_undo_5 : Snd PG.nam M52 5 (m_icmp (fun x z => if z < x then 8 else 79)) := snd_icmp_le dX2_undo_5 (by decide)
theorem s_X2_undo_8 : Snd PG.nam M52 8 (m_aload 0 9) := snd_aload_n dX2_undo_8 rfl
theorem s_X2_undo_9 : Snd PG.nam M52 9 (m_dup 10) := snd_dup dX2_undo_9
theorem s_X2_undo_10 : Snd PG.nam M52 10 (m_getf [(1, 7)] 13) := snd_getf dX2_undo_10 fd_X2_117
theorem s_X2_undo_13 : Snd PG.nam M52 13 (m_const (.int (nI 1)) 14) := snd_iconst dX2_undo_13 (by decide)
theorem s_X2_undo_14 : Snd PG.nam M52 14 (m_ibin (fun a b => a - b) 15) := snd_isub dX2_undo_14
theorem s_X2_undo_15 : Snd PG.nam M52 15 (m_putf [(1, 7)] .int 18) := snd_putf dX2_undo_15 fd_X2_117
theorem s_X2_undo_18 : Snd PG.nam M52 18 (m_aload 0 19) := snd_aload_n dX2_undo_18 rfl
theorem s_X2_undo_19 : Snd PG.nam M52 19 (m_aload 0 20) := snd_aload_n dX2_undo_19 rfl
theorem s_X2_undo_20 : Snd PG.nam M52 20 (m_getf [(1, 5)] 23) := snd_getf dX2_undo_20 fd_X2_19
theorem s_X2_undo_23 : Snd PG.nam M52 23 (m_aload 0 24) := snd_aload_n dX2_undo_23 rfl
theorem s_X2_undo_24 : Snd PG.nam M52 24 (m_getf [(1, 7)] 27) := snd_getf dX2_undo_24 fd_X2_117
theorem s_X2_undo_27 : Snd PG.nam M52 27 (m_iald [.byte, .boolean] 28) := snd_bald dX2_undo_27
theorem s_X2_undo_28 : Snd PG.nam M52 28 (m_ifz (fun x => if x = 0 then 31 else 35)) := snd_if_ne dX2_undo_28 (by decide)
theorem s_X2_undo_31 : Snd PG.nam M52 31 (m_const (.int (nI 1)) 32) := snd_iconst dX2_undo_31 (by decide)
theorem s_X2_undo_32 : Snd PG.nam M52 32 (m_goto 36) := snd_goto dX2_undo_32 (by decide)
theorem s_X2_undo_35 : Snd PG.nam M52 35 (m_const (.int (nI 0)) 36) := snd_iconst dX2_undo_35 (by decide)
theorem s_X2_undo_36 : Snd PG.nam M52 36 (m_aload 0 37) := snd_aload_n dX2_undo_36 rfl
theorem s_X2_undo_37 : Snd PG.nam M52 37 (m_getf [(1, 4)] 40) := snd_getf dX2_undo_37 fd_X2_16
theorem s_X2_undo_40 : Snd PG.nam M52 40 (m_const (.int (nI 3)) 41) := snd_iconst dX2_undo_40 (by decide)
theorem s_X2_undo_41 : Snd PG.nam M52 41 (m_aload 0 42) := snd_aload_n dX2_undo_41 rfl
theorem s_X2_undo_42 : Snd PG.nam M52 42 (m_getf [(1, 7)] 45) := snd_getf dX2_undo_42 fd_X2_117
theorem s_X2_undo_45 : Snd PG.nam M52 45 (m_ibin (fun a b => a * b) 46) := snd_imul dX2_undo_45
theorem s_X2_undo_46 : Snd PG.nam M52 46 (m_lald 47) := snd_lald dX2_undo_46
theorem s_X2_undo_47 : Snd PG.nam M52 47 (m_aload 0 48) := snd_aload_n dX2_undo_47 rfl
theorem s_X2_undo_48 : Snd PG.nam M52 48 (m_getf [(1, 4)] 51) := snd_getf dX2_undo_48 fd_X2_16
theorem s_X2_undo_51 : Snd PG.nam M52 51 (m_const (.int (nI 3)) 52) := snd_iconst dX2_undo_51 (by decide)
theorem s_X2_undo_52 : Snd PG.nam M52 52 (m_aload 0 53) := snd_aload_n dX2_undo_52 rfl
theorem s_X2_undo_53 : Snd PG.nam M52 53 (m_getf [(1, 7)] 56) := snd_getf dX2_undo_53 fd_X2_117
theorem s_X2_undo_56 : Snd PG.nam M52 56 (m_ibin (fun a b => a * b) 57) := snd_imul dX2_undo_56
theorem s_X2_undo_57 : Snd PG.nam M52 57 (m_const (.int (nI 1)) 58) := snd_iconst dX2_undo_57 (by decide)
theorem s_X2_undo_58 : Snd PG.nam M52 58 (m_ibin (fun a b => a + b) 59) := snd_iadd dX2_undo_58
theorem s_X2_undo_59 : Snd PG.nam M52 59 (m_lald 60) := snd_lald dX2_undo_59
theorem s_X2_undo_60 : Snd PG.nam M52 60 (m_aload 0 61) := snd_aload_n dX2_undo_60 rfl
theorem s_X2_undo_61 : Snd PG.nam M52 61 (m_getf [(1, 4)] 64) := snd_getf dX2_undo_61 fd_X2_16
theorem s_X2_undo_64 : Snd PG.nam M52 64 (m_const (.int (nI 3)) 65) := snd_iconst dX2_undo_64 (by decide)
theorem s_X2_undo_65 : Snd PG.nam M52 65 (m_aload 0 66) := snd_aload_n dX2_undo_65 rfl
theorem s_X2_undo_66 : Snd PG.nam M52 66 (m_getf [(1, 7)] 69) := snd_getf dX2_undo_66 fd_X2_117
theorem s_X2_undo_69 : Snd PG.nam M52 69 (m_ibin (fun a b => a * b) 70) := snd_imul dX2_undo_69
theorem s_X2_undo_70 : Snd PG.nam M52 70 (m_const (.int (nI 2)) 71) := snd_iconst dX2_undo_70 (by decide)
theorem s_X2_undo_71 : Snd PG.nam M52 71 (m_ibin (fun a b => a + b) 72) := snd_iadd dX2_undo_71
theorem s_X2_undo_72 : Snd PG.nam M52 72 (m_lald 73) := snd_lald dX2_undo_72
theorem s_X2_undo_73 : Snd PG.nam M52 73 (m_callV true [(1, 46)] 4 76) := snd_callV (nam := PG.nam) (List.forall_mem_cons.mpr ⟨dr_V (ym := PG.nam 46) dX2_undo_73 (Or.inl w1624) mi_46 rfl (lw_all_tbl qs28), (fun q hq => absurd hq List.not_mem_nil)⟩) (by decide)
theorem s_X2_undo_76 : Snd PG.nam M52 76 (m_goto 0) := snd_goto dX2_undo_76 (by decide)
theorem s_X2_undo_79 : Snd PG.nam M52 79 (m_vret) := snd_vret dX2_undo_79 rfl
theorem T52 : ∀ q ∈ S52, Snd PG.nam M52 q.1 q.2 := List.forall_mem_cons.mpr ⟨s_X2_undo_0, List.forall_mem_cons.mpr ⟨s_X2_undo_1, List.forall_mem_cons.mpr ⟨s_X2_undo_4, List.forall_mem_cons.mpr ⟨s_X2_undo_5, List.forall_mem_cons.mpr ⟨s_X2_undo_8, List.forall_mem_cons.mpr ⟨s_X2_undo_9, List.forall_mem_cons.mpr ⟨s_X2_undo_10, List.forall_mem_cons.mpr ⟨s_X2_undo_13, List.forall_mem_cons.mpr ⟨s_X2_undo_14, List.forall_mem_cons.mpr ⟨s_X2_undo_15, List.forall_mem_cons.mpr ⟨s_X2_undo_18, List.forall_mem_cons.mpr ⟨s_X2_undo_19, List.forall_mem_cons.mpr ⟨s_X2_undo_20, List.forall_mem_cons.mpr ⟨s_X2_undo_23, List.forall_mem_cons.mpr ⟨s_X2_undo_24, List.forall_mem_cons.mpr ⟨s_X2_undo_27, List.forall_mem_cons.mpr ⟨s_X2_undo_28, List.forall_mem_cons.mpr ⟨s_X2_undo_31, List.forall_mem_cons.mpr ⟨s_X2_undo_32, List.forall_mem_cons.mpr ⟨s_X2_undo_35, List.forall_mem_cons.mpr ⟨s_X2_undo_36, List.forall_mem_cons.mpr ⟨s_X2_undo_37, List.forall_mem_cons.mpr ⟨s_X2_undo_40, List.forall_mem_cons.mpr ⟨s_X2_undo_41, List.forall_mem_cons.mpr ⟨s_X2_undo_42, List.forall_mem_cons.mpr ⟨s_X2_undo_45, List.forall_mem_cons.mpr ⟨s_X2_undo_46, List.forall_mem_cons.mpr ⟨s_X2_undo_47, List.forall_mem_cons.mpr ⟨s_X2_undo_48, List.forall_mem_cons.mpr ⟨s_X2_undo_51, List.forall_mem_cons.mpr ⟨s_X2_undo_52, List.forall_mem_cons.mpr ⟨s_X2_undo_53, List.forall_mem_cons.mpr ⟨s_X2_undo_56, List.forall_mem_cons.mpr ⟨s_X2_undo_57, List.forall_mem_cons.mpr ⟨s_X2_undo_58, List.forall_mem_cons.mpr ⟨s_X2_undo_59, List.forall_mem_cons.mpr ⟨s_X2_undo_60, List.forall_mem_cons.mpr ⟨s_X2_undo_61, List.forall_mem_cons.mpr ⟨s_X2_undo_64, List.forall_mem_cons.mpr ⟨s_X2_undo_65, List.forall_mem_cons.mpr ⟨s_X2_undo_66, List.forall_mem_cons.mpr ⟨s_X2_undo_69, List.forall_mem_cons.mpr ⟨s_X2_undo_70, List.forall_mem_cons.mpr ⟨s_X2_undo_71, List.forall_mem_cons.mpr ⟨s_X2_undo_72, List.forall_mem_cons.mpr ⟨s_X2_undo_73, List.forall_mem_cons.mpr ⟨s_X2_undo_76, List.forall_mem_cons.mpr ⟨s_X2_undo_79, (fun q hq => absurd hq List.not_mem_nil)⟩⟩⟩⟩⟩⟩⟩⟩⟩⟩⟩⟩⟩⟩⟩⟩⟩⟩⟩⟩⟩⟩⟩⟩⟩⟩⟩⟩⟩⟩⟩⟩⟩⟩⟩⟩⟩⟩⟩⟩⟩⟩⟩⟩⟩⟩⟩⟩
theorem s_X2_sync_0 : Snd PG.nam M53 0 (m_aload 0 1) := snd_aload_n dX2_sync_0 rfl
theorem s_X2_sync_1 : Snd PG.nam M53 1 (m_const (.int (nI 0)) 2) := snd_iconst dX2_sync_1 (by decide)
theorem s_X2_sync_2 : Snd PG.nam M53 2 (m_putf [(1, 58)] .int 5) := snd_putf dX2_sync_2 fd_X2_91
theorem s_X2_sync_5 : Snd PG.nam M53 5 (m_aload 0 6) := snd_aload_n dX2_sync_5 rfl
theorem s_X2_sync_6 : Snd PG.nam M53 6 (m_getf [(1, 9)] 9) := snd_getf dX2_sync_6 fd_X2_120
theorem s_X2_sync_9 : Snd PG.nam M53 9 (m_istore 1 10) := snd_istore_n dX2_sync_9 rfl (by decide)
theorem s_X2_sync_10 : Snd PG.nam M53 10 (m_aload 0 11) := snd_aload_n dX2_sync_10 rfl
theorem s_X2_sync_11 : Snd PG.nam M53 11 (m_callV true [(1, 54)] 0 14) := snd_callV (nam := PG.nam) (List.forall_mem_cons.mpr ⟨dr_V (ym := PG.nam 54) dX2_sync_11 (Or.inl w1656) mi_54 rfl (lw_all_tbl qs31), (fun q hq => absurd hq List.not_mem_nil)⟩) (by decide)
theorem s_X2_sync_14 : Snd PG.nam M53 14 (m_iload 1 15) := snd_iload_n dX2_sync_14 rfl
theorem s_X2_sync_15 : Snd PG.nam M53 15 (m_iret .int) := snd_iret dX2_sync_15 rfl
theorem T53 : ∀ q ∈ S53, Snd PG.nam M53 q.1 q.2 := List.forall_mem_cons.mpr ⟨s_X2_sync_0, List.forall_mem_cons.mpr ⟨s_X2_sync_1, List.forall_mem_cons.mpr ⟨s_X2_sync_2, List.forall_mem_cons.mpr ⟨s_X2_sync_5, List.forall_mem_cons.mpr ⟨s_X2_sync_6, List.forall_mem_cons.mpr ⟨s_X2_sync_9, List.forall_mem_cons.mpr ⟨s_X2_sync_10, List.forall_mem_cons.mpr ⟨s_X2_sync_11, List.forall_mem_cons.mpr ⟨s_X2_sync_14, List.forall_mem_cons.mpr ⟨s_X2_sync_15, (fun q hq => absurd hq List.not_mem_nil)⟩⟩⟩⟩⟩⟩⟩⟩⟩⟩
theorem s_X2_settle_0 : Snd PG.nam M54 0 (m_aload 0 1) := snd_aload_n dX2_settle_0 rfl
theorem s_X2_settle_1 : Snd PG.nam M54 1 (m_getf [(1, 10)] 4) := snd_getf dX2_settle_1 fd_X2_123
theorem s_X2_settle_4 : Snd PG.nam M54 4 (m_ifz (fun x => if x = 0 then 19 else 7)) := snd_if_eq dX2_settle_4 (by decide)
theorem s_X2_settle_7 : Snd PG.nam M54 7 (m_aload 0 8) := snd_aload_n dX2_settle_7 rfl
theorem s_X2_settle_8 : Snd PG.nam M54 8 (m_getf [(1, 7)] 11) := snd_getf dX2_settle_8 fd_X2_117
theorem s_X2_settle_11 : Snd PG.nam M54 11 (m_aload 0 12) := snd_aload_n dX2_settle_11 rfl
theorem s_X2_settle_12 : Snd PG.nam M54 12 (m_getf [(1, 11)] 15) := snd_getf dX2_settle_12 fd_X2_148
theorem s_X2_settle_15 : Snd PG.nam M54 15 (m_ibin (fun a b => a - b) 16) := snd_isub dX2_settle_15
theorem s_X2_settle_16 : Snd PG.nam M54 16 (m_goto 20) := snd_goto dX2_settle_16 (by decide)
theorem s_X2_settle_19 : Snd PG.nam M54 19 (m_const (.int (nI 0)) 20) := snd_iconst dX2_settle_19 (by decide)
theorem s_X2_settle_20 : Snd PG.nam M54 20 (m_istore 1 21) := snd_istore_n dX2_settle_20 rfl (by decide)
theorem s_X2_settle_21 : Snd PG.nam M54 21 (m_aload 0 22) := snd_aload_n dX2_settle_21 rfl
theorem s_X2_settle_22 : Snd PG.nam M54 22 (m_getf [(1, 7)] 25) := snd_getf dX2_settle_22 fd_X2_117
theorem s_X2_settle_25 : Snd PG.nam M54 25 (m_iload 1 26) := snd_iload_n dX2_settle_25 rfl
theorem s_X2_settle_26 : Snd PG.nam M54 26 (m_ibin (fun a b => a - b) 27) := snd_isub dX2_settle_26
theorem s_X2_settle_27 : Snd PG.nam M54 27 (m_istore 2 28) := snd_istore_n dX2_settle_27 rfl (by decide)
theorem s_X2_settle_28 : Snd PG.nam M54 28 (m_aload 0 29) := snd_aload_n dX2_settle_28 rfl
theorem s_X2_settle_29 : Snd PG.nam M54 29 (m_getf [(1, 7)] 32) := snd_getf dX2_settle_29 fd_X2_117
theorem s_X2_settle_32 : Snd PG.nam M54 32 (m_const (.int (nI 1)) 33) := snd_iconst dX2_settle_32 (by decide)
theorem s_X2_settle_33 : Snd PG.nam M54 33 (m_ibin (fun a b => a - b) 34) := snd_isub dX2_settle_33
theorem s_X2_settle_34 : Snd PG.nam M54 34 (m_istore 3 35) := snd_istore_n dX2_settle_34 rfl (by decide)
theorem s_X2_settle_35 : Snd PG.nam M54 35 (m_iload 3 36) := snd_iload_n dX2_settle_35 rfl
theorem s_X2_settle_36 : Snd PG.nam M54 36 (m_iload 2 37) := snd_iload_n dX2_settle_36 rfl
theorem s_X2_settle_37 : Snd PG.nam M54 37 (m_icmp (fun x z => if x < z then 92 else 40)) := snd_icmp_lt dX2_settle_37 (by decide)
theorem s_X2_settle_40 : Snd PG.nam M54 40 (m_aload 0 41) := snd_aload_n dX2_settle_40 rfl
theorem s_X2_settle_41 : Snd PG.nam M54 41 (m_aload 0 42) := snd_aload_n dX2_settle_41 rfl
theorem s_X2_settle_42 : Snd PG.nam M54 42 (m_getf [(1, 5)] 45) := snd_getf dX2_settle_42 fd_X2_19
theorem s_X2_settle_45 : Snd PG.nam M54 45 (m_iload 3 46) := snd_iload_n dX2_settle_45 rfl
theorem s_X2_settle_46 : Snd PG.nam M54 46 (m_iald [.byte, .boolean] 47) := snd_bald dX2_settle_46
theorem s_X2_settle_47 : Snd PG.nam M54 47 (m_ifz (fun x => if x = 0 then 50 else 54)) := snd_if_ne dX2_settle_47 (by decide)
theorem s_X2_settle_50 : Snd PG.nam M54 50 (m_const (.int (nI 1)) 51) := snd_iconst dX2_settle_50 (by decide)
theorem s_X2_settle_51 : Snd PG.nam M54 51 (m_goto 55) := snd_goto dX2_settle_51 (by decide)
theorem s_X2_settle_54 : Snd PG.nam M54 54 (m_const (.int (nI 0)) 55) := snd_iconst dX2_settle_54 (by decide)
theorem s_X2_settle_55 : Snd PG.nam M54 55 (m_aload 0 56) := snd_aload_n dX2_settle_55 rfl
theorem s_X2_settle_56 : Snd PG.nam M54 56 (m_getf [(1, 4)] 59) := snd_getf dX2_settle_56 fd_X2_16
theorem s_X2_settle_59 : Snd PG.nam M54 59 (m_const (.int (nI 3)) 60) := snd_iconst dX2_settle_59 (by decide)
theorem s_X2_settle_60 : Snd PG.nam M54 60 (m_iload 3 61) := snd_iload_n dX2_settle_60 rfl
theorem s_X2_settle_61 : Snd PG.nam M54 61 (m_ibin (fun a b => a * b) 62) := snd_imul dX2_settle_61
theorem s_X2_settle_62 : Snd PG.nam M54 62 (m_lald 63) := snd_lald dX2_settle_62
theorem s_X2_settle_63 : Snd PG.nam M54 63 (m_aload 0 64) := snd_aload_n dX2_settle_63 rfl
theorem s_X2_settle_64 : Snd PG.nam M54 64 (m_getf [(1, 4)] 67) := snd_getf dX2_settle_64 fd_X2_16
theorem s_X2_settle_67 : Snd PG.nam M54 67 (m_const (.int (nI 3)) 68) := snd_iconst dX2_settle_67 (by decide)
theorem s_X2_settle_68 : Snd PG.nam M54 68 (m_iload 3 69) := snd_iload_n dX2_settle_68 rfl
theorem s_X2_settle_69 : Snd PG.nam M54 69 (m_ibin (fun a b => a * b) 70) := snd_imul dX2_settle_69
theorem s_X2_settle_70 : Snd PG.nam M54 70 (m_const (.int (nI 1)) 71) := snd_iconst dX2_settle_70 (by decide)
theorem s_X2_settle_71 : Snd PG.nam M54 71 (m_ibin (fun a b => a + b) 72) := snd_iadd dX2_settle_71
theorem s_X2_settle_72 : Snd PG.nam M54 72 (m_lald 73) := snd_lald dX2_settle_72
theorem s_X2_settle_73 : Snd PG.nam M54 73 (m_aload 0 74) := snd_aload_n dX2_settle_73 rfl
theorem s_X2_settle_74 : Snd PG.nam M54 74 (m_getf [(1, 4)] 77) := snd_getf dX2_settle_74 fd_X2_16
theorem s_X2_settle_77 : Snd PG.nam M54 77 (m_const (.int (nI 3)) 78) := snd_iconst dX2_settle_77 (by decide)
theorem s_X2_settle_78 : Snd PG.nam M54 78 (m_iload 3 79) := snd_iload_n dX2_settle_78 rfl
theorem s_X2_settle_79 : Snd PG.nam M54 79 (m_ibin (fun a b => a * b) 80) := snd_imul dX2_settle_79
theorem s_X2_settle_80 : Snd PG.nam M54 80 (m_const (.int (nI 2)) 81) := snd_iconst dX2_settle_80 (by decide)
theorem s_X2_settle_81 : Snd PG.nam M54 81 (m_ibin (fun a b => a + b) 82) := snd_iadd dX2_settle_81
theorem s_X2_settle_82 : Snd PG.nam M54 82 (m_lald 83) := snd_lald dX2_settle_82
theorem s_X2_settle_83 : Snd PG.nam M54 83 (m_callV true [(1, 46)] 4 86) := snd_callV (nam := PG.nam) (List.forall_mem_cons.mpr ⟨dr_V (ym := PG.nam 46) dX2_settle_83 (Or.inl w1624) mi_46 rfl (lw_all_tbl qs28), (fun q hq => absurd hq List.not_mem_nil)⟩) (by decide)
theorem s_X2_settle_86 : Snd PG.nam M54 86 (m_iinc 3 (-1) 89) := snd_iinc dX2_settle_86 (by decide) (by decide)
theorem s_X2_settle_89 : Snd PG.nam M54 89 (m_goto 35) := snd_goto dX2_settle_89 (by decide)
theorem s_X2_settle_92 : Snd PG.nam M54 92 (m_const (.int (nI 0)) 93) := snd_iconst dX2_settle_92 (by decide)
theorem s_X2_settle_93 : Snd PG.nam M54 93 (m_istore 3 94) := snd_istore_n dX2_settle_93 rfl (by decide)
theorem s_X2_settle_94 : Snd PG.nam M54 94 (m_iload 3 95) := snd_iload_n dX2_settle_94 rfl
theorem s_X2_settle_95 : Snd PG.nam M54 95 (m_const (.int (nI 3)) 96) := snd_iconst dX2_settle_95 (by decide)
theorem s_X2_settle_96 : Snd PG.nam M54 96 (m_aload 0 97) := snd_aload_n dX2_settle_96 rfl
theorem s_X2_settle_97 : Snd PG.nam M54 97 (m_getf [(1, 1)] 100) := snd_getf dX2_settle_97 fd_X2_102
theorem s_X2_settle_100 : Snd PG.nam M54 100 (m_ibin (fun a b => a * b) 101) := snd_imul dX2_settle_100
theorem s_X2_settle_101 : Snd PG.nam M54 101 (m_icmp (fun x z => if x < z then 104 else 122)) := snd_icmp_ge dX2_settle_101 (by decide)
theorem s_X2_settle_104 : Snd PG.nam M54 104 (m_aload 0 105) := snd_aload_n dX2_settle_104 rfl
theorem s_X2_settle_105 : Snd PG.nam M54 105 (m_getf [(1, 2)] 108) := snd_getf dX2_settle_105 fd_X2_13
theorem s_X2_settle_108 : Snd PG.nam M54 108 (m_iload 3 109) := snd_iload_n dX2_settle_108 rfl
theorem s_X2_settle_109 : Snd PG.nam M54 109 (m_aload 0 110) := snd_aload_n dX2_settle_109 rfl
theorem s_X2_settle_110 : Snd PG.nam M54 110 (m_getf [(1, 0)] 113) := snd_getf dX2_settle_110 fd_X2_7
theorem s_X2_settle_113 : Snd PG.nam M54 113 (m_iload 3 114) := snd_iload_n dX2_settle_113 rfl
theorem s_X2_settle_114 : Snd PG.nam M54 114 (m_lald 115) := snd_lald dX2_settle_114
theorem s_X2_settle_115 : Snd PG.nam M54 115 (m_last 116) := snd_last dX2_settle_115
theorem s_X2_settle_116 : Snd PG.nam M54 116 (m_iinc 3 (nI 1) 119) := snd_iinc dX2_settle_116 (by decide) (by decide)
theorem s_X2_settle_119 : Snd PG.nam M54 119 (m_goto 94) := snd_goto dX2_settle_119 (by decide)
theorem s_X2_settle_122 : Snd PG.nam M54 122 (m_aload 0 123) := snd_aload_n dX2_settle_122 rfl
theorem s_X2_settle_123 : Snd PG.nam M54 123 (m_aload 0 124) := snd_aload_n dX2_settle_123 rfl
theorem s_X2_settle_124 : Snd PG.nam M54 124 (m_getf [(1, 1)] 127) := snd_getf dX2_settle_124 fd_X2_102
theorem s_X2_settle_127 : Snd PG.nam M54 127 (m_putf [(1, 3)] .int 130) := snd_putf dX2_settle_127 fd_X2_155
theorem s_X2_settle_130 : Snd PG.nam M54 130 (m_const (.int (nI 0)) 131) := snd_iconst dX2_settle_130 (by decide)
theorem s_X2_settle_131 : Snd PG.nam M54 131 (m_istore 3 132) := snd_istore_n dX2_settle_131 rfl (by decide)
theorem s_X2_settle_132 : Snd PG.nam M54 132 (m_iload 3 133) := snd_iload_n dX2_settle_132 rfl
theorem s_X2_settle_133 : Snd PG.nam M54 133 (m_iload 1 134) := snd_iload_n dX2_settle_133 rfl
theorem s_X2_settle_134 : Snd PG.nam M54 134 (m_icmp (fun x z => if x < z then 137 else 241)) := snd_icmp_ge dX2_settle_134 (by decide)
theorem s_X2_settle_137 : Snd PG.nam M54 137 (m_const (.int (nI 0)) 138) := snd_iconst dX2_settle_137 (by decide)
theorem s_X2_settle_138 : Snd PG.nam M54 138 (m_istore 4 140) := snd_istore dX2_settle_138 (by decide)
theorem s_X2_settle_140 : Snd PG.nam M54 140 (m_iload 4 142) := snd_iload dX2_settle_140
theorem s_X2_settle_142 : Snd PG.nam M54 142 (m_const (.int (nI 3)) 143) := snd_iconst dX2_settle_142 (by decide)
theorem s_X2_settle_143 : Snd PG.nam M54 143 (m_icmp (fun x z => if x < z then 146 else 176)) := snd_icmp_ge dX2_settle_143 (by decide)
theorem s_X2_settle_146 : Snd PG.nam M54 146 (m_aload 0 147) := snd_aload_n dX2_settle_146 rfl
theorem s_X2_settle_147 : Snd PG.nam M54 147 (m_getf [(1, 4)] 150) := snd_getf dX2_settle_147 fd_X2_16
theorem s_X2_settle_150 : Snd PG.nam M54 150 (m_const (.int (nI 3)) 151) := snd_iconst dX2_settle_150 (by decide)
theorem s_X2_settle_151 : Snd PG.nam M54 151 (m_iload 3 152) := snd_iload_n dX2_settle_151 rfl
theorem s_X2_settle_152 : Snd PG.nam M54 152 (m_ibin (fun a b => a * b) 153) := snd_imul dX2_settle_152
theorem s_X2_settle_153 : Snd PG.nam M54 153 (m_iload 4 155) := snd_iload dX2_settle_153
theorem s_X2_settle_155 : Snd PG.nam M54 155 (m_ibin (fun a b => a + b) 156) := snd_iadd dX2_settle_155
theorem s_X2_settle_156 : Snd PG.nam M54 156 (m_aload 0 157) := snd_aload_n dX2_settle_156 rfl
theorem s_X2_settle_157 : Snd PG.nam M54 157 (m_getf [(1, 4)] 160) := snd_getf dX2_settle_157 fd_X2_16
theorem s_X2_settle_160 : Snd PG.nam M54 160 (m_const (.int (nI 3)) 161) := snd_iconst dX2_settle_160 (by decide)
theorem s_X2_settle_161 : Snd PG.nam M54 161 (m_iload 2 162) := snd_iload_n dX2_settle_161 rfl
theorem s_X2_settle_162 : Snd PG.nam M54 162 (m_iload 3 163) := snd_iload_n dX2_settle_162 rfl
theorem s_X2_settle_163 : Snd PG.nam M54 163 (m_ibin (fun a b => a + b) 164) := snd_iadd dX2_settle_163
theorem s_X2_settle_164 : Snd PG.nam M54 164 (m_ibin (fun a b => a * b) 165) := snd_imul dX2_settle_164
theorem s_X2_settle_165 : Snd PG.nam M54 165 (m_iload 4 167) := snd_iload dX2_settle_165
theorem s_X2_settle_167 : Snd PG.nam M54 167 (m_ibin (fun a b => a + b) 168) := snd_iadd dX2_settle_167
theorem s_X2_settle_168 : Snd PG.nam M54 168 (m_lald 169) := snd_lald dX2_settle_168
theorem s_X2_settle_169 : Snd PG.nam M54 169 (m_last 170) := snd_last dX2_settle_169
theorem s_X2_settle_170 : Snd PG.nam M54 170 (m_iinc 4 (nI 1) 173) := snd_iinc dX2_settle_170 (by decide) (by decide)
theorem s_X2_settle_173 : Snd PG.nam M54 173 (m_goto 140) := snd_goto dX2_settle_173 (by decide)
theorem s_X2_settle_176 : Snd PG.nam M54 176 (m_aload 0 177) := snd_aload_n dX2_settle_176 rfl
theorem s_X2_settle_177 : Snd PG.nam M54 177 (m_getf [(1, 5)] 180) := snd_getf dX2_settle_177 fd_X2_19
theorem s_X2_settle_180 : Snd PG.nam M54 180 (m_iload 3 181) := snd_iload_n dX2_settle_180 rfl
theorem s_X2_settle_181 : Snd PG.nam M54 181 (m_aload 0 182) := snd_aload_n dX2_settle_181 rfl
theorem s_X2_settle_182 : Snd PG.nam M54 182 (m_getf [(1, 5)] 185) := snd_getf dX2_settle_182 fd_X2_19
theorem s_X2_settle_185 : Snd PG.nam M54 185 (m_iload 2 186) := snd_iload_n dX2_settle_185 rfl
theorem s_X2_settle_186 : Snd PG.nam M54 186 (m_iload 3 187) := snd_iload_n dX2_settle_186 rfl
theorem s_X2_settle_187 : Snd PG.nam M54 187 (m_ibin (fun a b => a + b) 188) := snd_iadd dX2_settle_187
theorem s_X2_settle_188 : Snd PG.nam M54 188 (m_iald [.byte, .boolean] 189) := snd_bald dX2_settle_188
theorem s_X2_settle_189 : Snd PG.nam M54 189 (m_iast [.byte, .boolean] 190) := snd_bast dX2_settle_189
theorem s_X2_settle_190 : Snd PG.nam M54 190 (m_aload 0 191) := snd_aload_n dX2_settle_190 rfl
theorem s_X2_settle_191 : Snd PG.nam M54 191 (m_getf [(1, 6)] 194) := snd_getf dX2_settle_191 fd_X2_23
theorem s_X2_settle_194 : Snd PG.nam M54 194 (m_iload 3 195) := snd_iload_n dX2_settle_194 rfl
theorem s_X2_settle_195 : Snd PG.nam M54 195 (m_const (.int (nI 0)) 196) := snd_iconst dX2_settle_195 (by decide)
theorem s_X2_settle_196 : Snd PG.nam M54 196 (m_iast [.int] 197) := snd_iast dX2_settle_196
theorem s_X2_settle_197 : Snd PG.nam M54 197 (m_aload 0 198) := snd_aload_n dX2_settle_197 rfl
theorem s_X2_settle_198 : Snd PG.nam M54 198 (m_aload 0 199) := snd_aload_n dX2_settle_198 rfl
theorem s_X2_settle_199 : Snd PG.nam M54 199 (m_getf [(1, 5)] 202) := snd_getf dX2_settle_199 fd_X2_19
theorem s_X2_settle_202 : Snd PG.nam M54 202 (m_iload 3 203) := snd_iload_n dX2_settle_202 rfl
theorem s_X2_settle_203 : Snd PG.nam M54 203 (m_iald [.byte, .boolean] 204) := snd_bald dX2_settle_203
theorem s_X2_settle_204 : Snd PG.nam M54 204 (m_aload 0 205) := snd_aload_n dX2_settle_204 rfl
theorem s_X2_settle_205 : Snd PG.nam M54 205 (m_getf [(1, 4)] 208) := snd_getf dX2_settle_205 fd_X2_16
theorem s_X2_settle_208 : Snd PG.nam M54 208 (m_const (.int (nI 3)) 209) := snd_iconst dX2_settle_208 (by decide)
theorem s_X2_settle_209 : Snd PG.nam M54 209 (m_iload 3 210) := snd_iload_n dX2_settle_209 rfl
theorem s_X2_settle_210 : Snd PG.nam M54 210 (m_ibin (fun a b => a * b) 211) := snd_imul dX2_settle_210
theorem s_X2_settle_211 : Snd PG.nam M54 211 (m_lald 212) := snd_lald dX2_settle_211
theorem s_X2_settle_212 : Snd PG.nam M54 212 (m_aload 0 213) := snd_aload_n dX2_settle_212 rfl
theorem s_X2_settle_213 : Snd PG.nam M54 213 (m_getf [(1, 4)] 216) := snd_getf dX2_settle_213 fd_X2_16
theorem s_X2_settle_216 : Snd PG.nam M54 216 (m_const (.int (nI 3)) 217) := snd_iconst dX2_settle_216 (by decide)
theorem s_X2_settle_217 : Snd PG.nam M54 217 (m_iload 3 218) := snd_iload_n dX2_settle_217 rfl
theorem s_X2_settle_218 : Snd PG.nam M54 218 (m_ibin (fun a b => a * b) 219) := snd_imul dX2_settle_218
theorem s_X2_settle_219 : Snd PG.nam M54 219 (m_const (.int (nI 1)) 220) := snd_iconst dX2_settle_219 (by decide)
theorem s_X2_settle_220 : Snd PG.nam M54 220 (m_ibin (fun a b => a + b) 221) := snd_iadd dX2_settle_220
theorem s_X2_settle_221 : Snd PG.nam M54 221 (m_lald 222) := snd_lald dX2_settle_221
theorem s_X2_settle_222 : Snd PG.nam M54 222 (m_aload 0 223) := snd_aload_n dX2_settle_222 rfl
theorem s_X2_settle_223 : Snd PG.nam M54 223 (m_getf [(1, 4)] 226) := snd_getf dX2_settle_223 fd_X2_16
theorem s_X2_settle_226 : Snd PG.nam M54 226 (m_const (.int (nI 3)) 227) := snd_iconst dX2_settle_226 (by decide)
theorem s_X2_settle_227 : Snd PG.nam M54 227 (m_iload 3 228) := snd_iload_n dX2_settle_227 rfl
theorem s_X2_settle_228 : Snd PG.nam M54 228 (m_ibin (fun a b => a * b) 229) := snd_imul dX2_settle_228
theorem s_X2_settle_229 : Snd PG.nam M54 229 (m_const (.int (nI 2)) 230) := snd_iconst dX2_settle_229 (by decide)
theorem s_X2_settle_230 : Snd PG.nam M54 230 (m_ibin (fun a b => a + b) 231) := snd_iadd dX2_settle_230
theorem s_X2_settle_231 : Snd PG.nam M54 231 (m_lald 232) := snd_lald dX2_settle_231
theorem s_X2_settle_232 : Snd PG.nam M54 232 (m_callV true [(1, 46)] 4 235) := snd_callV (nam := PG.nam) (List.forall_mem_cons.mpr ⟨dr_V (ym := PG.nam 46) dX2_settle_232 (Or.inl w1624) mi_46 rfl (lw_all_tbl qs28), (fun q hq => absurd hq List.not_mem_nil)⟩) (by decide)
theorem s_X2_settle_235 : Snd PG.nam M54 235 (m_iinc 3 (nI 1) 238) := snd_iinc dX2_settle_235 (by decide) (by decide)
theorem s_X2_settle_238 : Snd PG.nam M54 238 (m_goto 132) := snd_goto dX2_settle_238 (by decide)
theorem s_X2_settle_241 : Snd PG.nam M54 241 (m_aload 0 242) := snd_aload_n dX2_settle_241 rfl
theorem s_X2_settle_242 : Snd PG.nam M54 242 (m_iload 1 243) := snd_iload_n dX2_settle_242 rfl
theorem s_X2_settle_243 : Snd PG.nam M54 243 (m_putf [(1, 7)] .int 246) := snd_putf dX2_settle_243 fd_X2_117
theorem s_X2_settle_246 : Snd PG.nam M54 246 (m_aload 0 247) := snd_aload_n dX2_settle_246 rfl
theorem s_X2_settle_247 : Snd PG.nam M54 247 (m_const (.int (nI 0)) 248) := snd_iconst dX2_settle_247 (by decide)
theorem s_X2_settle_248 : Snd PG.nam M54 248 (m_putf [(1, 11)] .int 251) := snd_putf dX2_settle_248 fd_X2_148
theorem s_X2_settle_251 : Snd PG.nam M54 251 (m_aload 0 252) := snd_aload_n dX2_settle_251 rfl
theorem s_X2_settle_252 : Snd PG.nam M54 252 (m_const (.int (nI 0)) 253) := snd_iconst dX2_settle_252 (by decide)
theorem s_X2_settle_253 : Snd PG.nam M54 253 (m_putf [(1, 9)] .int 256) := snd_putf dX2_settle_253 fd_X2_120
theorem s_X2_settle_256 : Snd PG.nam M54 256 (m_vret) := snd_vret dX2_settle_256 rfl
theorem T54 : ∀ q ∈ S54, Snd PG.nam M54 q.1 q.2 := List.forall_mem_cons.mpr ⟨s_X2_settle_0, List.forall_mem_cons.mpr ⟨s_X2_settle_1, List.forall_mem_cons.mpr ⟨s_X2_settle_4, List.forall_mem_cons.mpr ⟨s_X2_settle_7, List.forall_mem_cons.mpr ⟨s_X2_settle_8, List.forall_mem_cons.mpr ⟨s_X2_settle_11, List.forall_mem_cons.mpr ⟨s_X2_settle_12, List.forall_mem_cons.mpr ⟨s_X2_settle_15, List.forall_mem_cons.mpr ⟨s_X2_settle_16, List.forall_mem_cons.mpr ⟨s_X2_settle_19, List.forall_mem_cons.mpr ⟨s_X2_settle_20, List.forall_mem_cons.mpr ⟨s_X2_settle_21, List.forall_mem_cons.mpr ⟨s_X2_settle_22, List.forall_mem_cons.mpr ⟨s_X2_settle_25, List.forall_mem_cons.mpr ⟨s_X2_settle_26, List.forall_mem_cons.mpr ⟨s_X2_settle_27, List.forall_mem_cons.mpr ⟨s_X2_settle_28, List.forall_mem_cons.mpr ⟨s_X2_settle_29, List.forall_mem_cons.mpr ⟨s_X2_settle_32, List.forall_mem_cons.mpr ⟨s_X2_settle_33, List.forall_mem_cons.mpr ⟨s_X2_settle_34, List.forall_mem_cons.mpr ⟨s_X2_settle_35, List.forall_mem_cons.mpr ⟨s_X2_settle_36, List.forall_mem_cons.mpr ⟨s_X2_settle_37, List.forall_mem_cons.mpr ⟨s_X2_settle_40, List.forall_mem_cons.mpr ⟨s_X2_settle_41, List.forall_mem_cons.mpr ⟨s_X2_settle_42, List.forall_mem_cons.mpr ⟨s_X2_settle_45, List.forall_mem_cons.mpr ⟨s_X2_settle_46, List.forall_mem_cons.mpr ⟨s_X2_settle_47, List.forall_mem_cons.mpr ⟨s_X2_settle_50, List.forall_mem_cons.mpr ⟨s_X2_settle_51, List.forall_mem_cons.mpr ⟨s_X2_settle_54, List.forall_mem_cons.mpr ⟨s_X2_settle_55, List.forall_mem_cons.mpr ⟨s_X2_settle_56, List.forall_mem_cons.mpr ⟨s_X2_settle_59, List.forall_mem_cons.mpr ⟨s_X2_settle_60, List.forall_mem_cons.mpr ⟨s_X2_settle_61, List.forall_mem_cons.mpr ⟨s_X2_settle_62, List.forall_mem_cons.mpr ⟨s_X2_settle_63, List.forall_mem_cons.mpr ⟨s_X2_settle_64, List.forall_mem_cons.mpr ⟨s_X2_settle_67, List.forall_mem_cons.mpr ⟨s_X2_settle_68, List.forall_mem_cons.mpr ⟨s_X2_settle_69, List.forall_mem_cons.mpr ⟨s_X2_settle_70, List.forall_mem_cons.mpr ⟨s_X2_settle_71, List.forall_mem_cons.mpr ⟨s_X2_settle_72, List.forall_mem_cons.mpr ⟨s_X2_settle_73, List.forall_mem_cons.mpr ⟨s_X2_settle_74, List.forall_mem_cons.mpr ⟨s_X2_settle_77, List.forall_mem_cons.mpr ⟨s_X2_settle_78, List.forall_mem_cons.mpr ⟨s_X2_settle_79, List.forall_mem_cons.mpr ⟨s_X2_settle_80, List.forall_mem_cons.mpr ⟨s_X2_settle_81, List.forall_mem_cons.mpr ⟨s_X2_settle_82, List.forall_mem_cons.mpr ⟨s_X2_settle_83, List.forall_mem_cons.mpr ⟨s_X2_settle_86, List.forall_mem_cons.mpr ⟨s_X2_settle_89, List.forall_mem_cons.mpr ⟨s_X2_settle_92, List.forall_mem_cons.mpr ⟨s_X2_settle_93, List.forall_mem_cons.mpr ⟨s_X2_settle_94, List.forall_mem_cons.mpr ⟨s_X2_settle_95, List.forall_mem_cons.mpr ⟨s_X2_settle_96, List.forall_mem_cons.mpr ⟨s_X2_settle_97, List.forall_mem_cons.mpr ⟨s_X2_settle_100, List.forall_mem_cons.mpr ⟨s_X2_settle_101, List.forall_mem_cons.mpr ⟨s_X2_settle_104, List.forall_mem_cons.mpr ⟨s_X2_settle_105, List.forall_mem_cons.mpr ⟨s_X2_settle_108, List.forall_mem_cons.mpr ⟨s_X2_settle_109, List.forall_mem_cons.mpr ⟨s_X2_settle_110, List.forall_mem_cons.mpr ⟨s_X2_settle_113, List.forall_mem_cons.mpr ⟨s_X2_settle_114, List.forall_mem_cons.mpr ⟨s_X2_settle_115, List.forall_mem_cons.mpr ⟨s_X2_settle_116, List.forall_mem_cons.mpr ⟨s_X2_settle_119, List.forall_mem_cons.mpr ⟨s_X2_settle_122, List.forall_mem_cons.mpr ⟨s_X2_settle_123, List.forall_mem_cons.mpr ⟨s_X2_settle_124, List.forall_mem_cons.mpr ⟨s_X2_settle_127, List.forall_mem_cons.mpr ⟨s_X2_settle_130, List.forall_mem_cons.mpr ⟨s_X2_settle_131, List.forall_mem_cons.mpr ⟨s_X2_settle_132, List.forall_mem_cons.mpr ⟨s_X2_settle_133, List.forall_mem_cons.mpr ⟨s_X2_settle_134, List.forall_mem_cons.mpr ⟨s_X2_settle_137, List.forall_mem_cons.mpr ⟨s_X2_settle_138, List.forall_mem_cons.mpr ⟨s_X2_settle_140, List.forall_mem_cons.mpr ⟨s_X2_settle_142, List.forall_mem_cons.mpr ⟨s_X2_settle_143, List.forall_mem_cons.mpr ⟨s_X2_settle_146, List.forall_mem_cons.mpr ⟨s_X2_settle_147, List.forall_mem_cons.mpr ⟨s_X2_settle_150, List.forall_mem_cons.mpr ⟨s_X2_settle_151, List.forall_mem_cons.mpr ⟨s_X2_settle_152, List.forall_mem_cons.mpr ⟨s_X2_settle_153, List.forall_mem_cons.mpr ⟨s_X2_settle_155, List.forall_mem_cons.mpr ⟨s_X2_settle_156, List.forall_mem_cons.mpr ⟨s_X2_settle_157, List.forall_mem_cons.mpr ⟨s_X2_settle_160, List.forall_mem_cons.mpr ⟨s_X2_settle_161, List.forall_mem_cons.mpr ⟨s_X2_settle_162, List.forall_mem_cons.mpr ⟨s_X2_settle_163, List.forall_mem_cons.mpr ⟨s_X2_settle_164, List.forall_mem_cons.mpr ⟨s_X2_settle_165, List.forall_mem_cons.mpr ⟨s_X2_settle_167, List.forall_mem_cons.mpr ⟨s_X2_settle_168, List.forall_mem_cons.mpr ⟨s_X2_settle_169, List.forall_mem_cons.mpr ⟨s_X2_settle_170, List.forall_mem_cons.mpr ⟨s_X2_settle_173, List.forall_mem_cons.mpr ⟨s_X2_settle_176, List.forall_mem_cons.mpr ⟨s_X2_settle_177, List.forall_mem_cons.mpr ⟨s_X2_settle_180, List.forall_mem_cons.mpr ⟨s_X2_settle_181, List.forall_mem_cons.mpr ⟨s_X2_settle_182, List.forall_mem_cons.mpr ⟨s_X2_settle_185, List.forall_mem_cons.mpr ⟨s_X2_settle_186, List.forall_mem_cons.mpr ⟨s_X2_settle_187, List.forall_mem_cons.mpr ⟨s_X2_settle_188, List.forall_mem_cons.mpr ⟨s_X2_settle_189, List.forall_mem_cons.mpr ⟨s_X2_settle_190, List.forall_mem_cons.mpr ⟨s_X2_settle_191, List.forall_mem_cons.mpr ⟨s_X2_settle_194, List.forall_mem_cons.mpr ⟨s_X2_settle_195, List.forall_mem_cons.mpr ⟨s_X2_settle_196, List.forall_mem_cons.mpr ⟨s_X2_settle_197, List.forall_mem_cons.mpr ⟨s_X2_settle_198, List.forall_mem_cons.mpr ⟨s_X2_settle_199, List.forall_mem_cons.mpr ⟨s_X2_settle_202, List.forall_mem_cons.mpr ⟨s_X2_settle_203, List.forall_mem_cons.mpr ⟨s_X2_settle_204, List.forall_mem_cons.mpr ⟨s_X2_settle_205, List.forall_mem_cons.mpr ⟨s_X2_settle_208, List.forall_mem_cons.mpr ⟨s_X2_settle_209, List.forall_mem_cons.mpr ⟨s_X2_settle_210, List.forall_mem_cons.mpr ⟨s_X2_settle_211, List.forall_mem_cons.mpr ⟨s_X2_settle_212, List.forall_mem_cons.mpr ⟨s_X2_settle_213, List.forall_mem_cons.mpr ⟨s_X2_settle_216, List.forall_mem_cons.mpr ⟨s_X2_settle_217, List.forall_mem_cons.mpr ⟨s_X2_settle_218, List.forall_mem_cons.mpr ⟨s_X2_settle_219, List.forall_mem_cons.mpr ⟨s_X2_settle_220, List.forall_mem_cons.mpr ⟨s_X2_settle_221, List.forall_mem_cons.mpr ⟨s_X2_settle_222, List.forall_mem_cons.mpr ⟨s_X2_settle_223, List.forall_mem_cons.mpr ⟨s_X2_settle_226, List.forall_mem_cons.mpr ⟨s_X2_settle_227, List.forall_mem_cons.mpr ⟨s_X2_settle_228, List.forall_mem_cons.mpr ⟨s_X2_settle_229, List.forall_mem_cons.mpr ⟨s_X2_settle_230, List.forall_mem_cons.mpr ⟨s_X2_settle_231, List.forall_mem_cons.mpr ⟨s_X2_settle_232, List.forall_mem_cons.mpr ⟨s_X2_settle_235, List.forall_mem_cons.mpr ⟨s_X2_settle_238, List.forall_mem_cons.mpr ⟨s_X2_settle_241, List.forall_mem_cons.mpr ⟨s_X2_settle_242, List.forall_mem_cons.mpr ⟨s_X2_settle_243, List.forall_mem_cons.mpr ⟨s_X2_settle_246, List.forall_mem_cons.mpr ⟨s_X2_settle_247, List.forall_mem_cons.mpr ⟨s_X2_settle_248, List.forall_mem_cons.mpr ⟨s_X2_settle_251, List.forall_mem_cons.mpr ⟨s_X2_settle_252, List.forall_mem_cons.mpr ⟨s_X2_settle_253, List.forall_mem_cons.mpr ⟨s_X2_settle_256, (fun q hq => absurd hq List.not_mem_nil)⟩⟩⟩⟩⟩⟩⟩⟩⟩⟩⟩⟩⟩⟩⟩⟩⟩⟩⟩⟩⟩⟩⟩⟩⟩⟩⟩⟩⟩⟩⟩⟩⟩⟩⟩⟩⟩⟩⟩⟩⟩⟩⟩⟩⟩⟩⟩⟩⟩⟩⟩⟩⟩⟩⟩⟩⟩⟩⟩⟩⟩⟩⟩⟩⟩⟩⟩⟩⟩⟩⟩⟩⟩⟩⟩⟩⟩⟩⟩⟩⟩⟩⟩⟩⟩⟩⟩⟩⟩⟩⟩⟩⟩⟩⟩⟩⟩⟩⟩⟩⟩⟩⟩⟩⟩⟩⟩⟩⟩⟩⟩⟩⟩⟩⟩⟩⟩⟩⟩⟩⟩⟩⟩⟩⟩⟩⟩⟩⟩⟩⟩⟩⟩⟩⟩⟩⟩⟩⟩⟩⟩⟩⟩⟩⟩⟩⟩⟩⟩⟩⟩⟩⟩⟩⟩⟩⟩⟩⟩⟩⟩⟩⟩⟩⟩
theorem s_X2_crash_0 : Snd PG.nam M55 0 (m_aload 0 1) := snd_aload_n dX2_crash_0 rfl
theorem s_X2_crash_1 : Snd PG.nam M55 1 (m_iload 1 2) := snd_iload_n dX2_crash_1 rfl
theorem s_X2_crash_2 : Snd PG.nam M55 2 (m_const (.int (nI 0)) 3) := snd_iconst dX2_crash_2 (by decide)
theorem s_X2_crash_3 : Snd PG.nam M55 3 (m_const (.int (nI 1000)) 6) := snd_sipush dX2_crash_3 (by decide)
theorem s_X2_crash_6 : Snd PG.nam M55 6 (m_callS false 41 3 9) := snd_callS (nam := PG.nam) (yy := 41) dX2_crash_6 (Or.inl w1604) w1605 ⟨by decide, by decide +kernel⟩ (by decide)
theorem s_X2_crash_9 : Snd PG.nam M55 9 (m_const (.int (nI 1)) 10) := snd_iconst dX2_crash_9 (by decide)
theorem s_X2_crash_10 : Snd PG.nam M55 10 (m_callV false [(1, 43)] 2 13) := snd_callV (nam := PG.nam) (List.forall_mem_cons.mpr ⟨dr_V (ym := PG.nam 43) dX2_crash_10 (Or.inl w1612) mi_43 rfl (lw_all_tbl qs25), (fun q hq => absurd hq List.not_mem_nil)⟩) (by decide)
theorem s_X2_crash_13 : Snd PG.nam M55 13 (m_ifz (fun x => if x = 0 then 16 else 18)) := snd_if_ne dX2_crash_13 (by decide)
theorem s_X2_crash_16 : Snd PG.nam M55 16 (m_const (.int (nI 0)) 17) := snd_iconst dX2_crash_16 (by decide)
theorem s_X2_crash_17 : Snd PG.nam M55 17 (m_iret .int) := snd_iret dX2_crash_17 rfl
theorem s_X2_crash_18 : Snd PG.nam M55 18 (m_const (.int (nI 0)) 19) := snd_iconst dX2_crash_18 (by decide)
theorem s_X2_crash_19 : Snd PG.nam M55 19 (m_istore 2 20) := snd_istore_n dX2_crash_19 rfl (by decide)
theorem s_X2_crash_20 : Snd PG.nam M55 20 (m_iload 2 21) := snd_iload_n dX2_crash_20 rfl
theorem s_X2_crash_21 : Snd PG.nam M55 21 (m_const (.int (nI 3)) 22) := snd_iconst dX2_crash_21 (by decide)
theorem s_X2_crash_22 : Snd PG.nam M55 22 (m_aload 0 23) := snd_aload_n dX2_crash_22 rfl
theorem s_X2_crash_23 : Snd PG.nam M55 23 (m_getf [(1, 3)] 26) := snd_getf dX2_crash_23 fd_X2_155
theorem s_X2_crash_26 : Snd PG.nam M55 26 (m_ibin (fun a b => a * b) 27) := snd_imul dX2_crash_26
theorem s_X2_crash_27 : Snd PG.nam M55 27 (m_icmp (fun x z => if x < z then 30 else 48)) := snd_icmp_ge dX2_crash_27 (by decide)
theorem s_X2_crash_30 : Snd PG.nam M55 30 (m_aload 0 31) := snd_aload_n dX2_crash_30 rfl
theorem s_X2_crash_31 : Snd PG.nam M55 31 (m_getf [(1, 0)] 34) := snd_getf dX2_crash_31 fd_X2_7
theorem s_X2_crash_34 : Snd PG.nam M55 34 (m_iload 2 35) := snd_iload_n dX2_crash_34 rfl
theorem s_X2_crash_35 : Snd PG.nam M55 35 (m_aload 0 36) := snd_aload_n dX2_crash_35 rfl
theorem s_X2_crash_36 : Snd PG.nam M55 36 (m_getf [(1, 2)] 39) := snd_getf dX2_crash_36 fd_X2_13
theorem s_X2_crash_39 : Snd PG.nam M55 39 (m_iload 2 40) := snd_iload_n dX2_crash_39 rfl
theorem s_X2_crash_40 : Snd PG.nam M55 40 (m_lald 41) := snd_lald dX2_crash_40
theorem s_X2_crash_41 : Snd PG.nam M55 41 (m_last 42) := snd_last dX2_crash_41
theorem s_X2_crash_42 : Snd PG.nam M55 42 (m_iinc 2 (nI 1) 45) := snd_iinc dX2_crash_42 (by decide) (by decide)
theorem s_X2_crash_45 : Snd PG.nam M55 45 (m_goto 20) := snd_goto dX2_crash_45 (by decide)
theorem s_X2_crash_48 : Snd PG.nam M55 48 (m_aload 0 49) := snd_aload_n dX2_crash_48 rfl
theorem s_X2_crash_49 : Snd PG.nam M55 49 (m_aload 0 50) := snd_aload_n dX2_crash_49 rfl
theorem s_X2_crash_50 : Snd PG.nam M55 50 (m_getf [(1, 3)] 53) := snd_getf dX2_crash_50 fd_X2_155
theorem s_X2_crash_53 : Snd PG.nam M55 53 (m_putf [(1, 1)] .int 56) := snd_putf dX2_crash_53 fd_X2_102
theorem s_X2_crash_56 : Snd PG.nam M55 56 (m_aload 0 57) := snd_aload_n dX2_crash_56 rfl
theorem s_X2_crash_57 : Snd PG.nam M55 57 (m_getf [(1, 10)] 60) := snd_getf dX2_crash_57 fd_X2_123
theorem s_X2_crash_60 : Snd PG.nam M55 60 (m_ifz (fun x => if x = 0 then 70 else 63)) := snd_if_eq dX2_crash_60 (by decide)
theorem s_X2_crash_63 : Snd PG.nam M55 63 (m_aload 0 64) := snd_aload_n dX2_crash_63 rfl
theorem s_X2_crash_64 : Snd PG.nam M55 64 (m_getf [(1, 11)] 67) := snd_getf dX2_crash_64 fd_X2_148
theorem s_X2_crash_67 : Snd PG.nam M55 67 (m_goto 74) := snd_goto dX2_crash_67 (by decide)
theorem s_X2_crash_70 : Snd PG.nam M55 70 (m_aload 0 71) := snd_aload_n dX2_crash_70 rfl
theorem s_X2_crash_71 : Snd PG.nam M55 71 (m_getf [(1, 7)] 74) := snd_getf dX2_crash_71 fd_X2_117
theorem s_X2_crash_74 : Snd PG.nam M55 74 (m_istore 2 75) := snd_istore_n dX2_crash_74 rfl (by decide)
theorem s_X2_crash_75 : Snd PG.nam M55 75 (m_const (.int (nI 0)) 76) := snd_iconst dX2_crash_75 (by decide)
theorem s_X2_crash_76 : Snd PG.nam M55 76 (m_istore 3 77) := snd_istore_n dX2_crash_76 rfl (by decide)
theorem s_X2_crash_77 : Snd PG.nam M55 77 (m_iload 3 78) := snd_iload_n dX2_crash_77 rfl
theorem s_X2_crash_78 : Snd PG.nam M55 78 (m_iload 2 79) := snd_iload_n dX2_crash_78 rfl
theorem s_X2_crash_79 : Snd PG.nam M55 79 (m_icmp (fun x z => if x < z then 82 else 136)) := snd_icmp_ge dX2_crash_79 (by decide)
theorem s_X2_crash_82 : Snd PG.nam M55 82 (m_aload 0 83) := snd_aload_n dX2_crash_82 rfl
theorem s_X2_crash_83 : Snd PG.nam M55 83 (m_getf [(1, 6)] 86) := snd_getf dX2_crash_83 fd_X2_23
theorem s_X2_crash_86 : Snd PG.nam M55 86 (m_iload 3 87) := snd_iload_n dX2_crash_86 rfl
theorem s_X2_crash_87 : Snd PG.nam M55 87 (m_iald [.int] 88) := snd_iald dX2_crash_87
theorem s_X2_crash_88 : Snd PG.nam M55 88 (m_iload 1 89) := snd_iload_n dX2_crash_88 rfl
theorem s_X2_crash_89 : Snd PG.nam M55 89 (m_icmp (fun x z => if x < z then 92 else 130)) := snd_icmp_ge dX2_crash_89 (by decide)
theorem s_X2_crash_92 : Snd PG.nam M55 92 (m_aload 0 93) := snd_aload_n dX2_crash_92 rfl
theorem s_X2_crash_93 : Snd PG.nam M55 93 (m_aload 0 94) := snd_aload_n dX2_crash_93 rfl
theorem s_X2_crash_94 : Snd PG.nam M55 94 (m_getf [(1, 5)] 97) := snd_getf dX2_crash_94 fd_X2_19
theorem s_X2_crash_97 : Snd PG.nam M55 97 (m_iload 3 98) := snd_iload_n dX2_crash_97 rfl
theorem s_X2_crash_98 : Snd PG.nam M55 98 (m_iald [.byte, .boolean] 99) := snd_bald dX2_crash_98
theorem s_X2_crash_99 : Snd PG.nam M55 99 (m_aload 0 100) := snd_aload_n dX2_crash_99 rfl
theorem s_X2_crash_100 : Snd PG.nam M55 100 (m_getf [(1, 4)] 103) := snd_getf dX2_crash_100 fd_X2_16
theorem s_X2_crash_103 : Snd PG.nam M55 103 (m_const (.int (nI 3)) 104) := snd_iconst dX2_crash_103 (by decide)
theorem s_X2_crash_104 : Snd PG.nam M55 104 (m_iload 3 105) := snd_iload_n dX2_crash_104 rfl
theorem s_X2_crash_105 : Snd PG.nam M55 105 (m_ibin (fun a b => a * b) 106) := snd_imul dX2_crash_105
theorem s_X2_crash_106 : Snd PG.nam M55 106 (m_lald 107) := snd_lald dX2_crash_106
theorem s_X2_crash_107 : Snd PG.nam M55 107 (m_aload 0 108) := snd_aload_n dX2_crash_107 rfl
theorem s_X2_crash_108 : Snd PG.nam M55 108 (m_getf [(1, 4)] 111) := snd_getf dX2_crash_108 fd_X2_16
theorem s_X2_crash_111 : Snd PG.nam M55 111 (m_const (.int (nI 3)) 112) := snd_iconst dX2_crash_111 (by decide)
theorem s_X2_crash_112 : Snd PG.nam M55 112 (m_iload 3 113) := snd_iload_n dX2_crash_112 rfl
theorem s_X2_crash_113 : Snd PG.nam M55 113 (m_ibin (fun a b => a * b) 114) := snd_imul dX2_crash_113
theorem s_X2_crash_114 : Snd PG.nam M55 114 (m_const (.int (nI 1)) 115) := snd_iconst dX2_crash_114 (by decide)
theorem s_X2_crash_115 : Snd PG.nam M55 115 (m_ibin (fun a b => a + b) 116) := snd_iadd dX2_crash_115
theorem s_X2_crash_116 : Snd PG.nam M55 116 (m_lald 117) := snd_lald dX2_crash_116
theorem s_X2_crash_117 : Snd PG.nam M55 117 (m_aload 0 118) := snd_aload_n dX2_crash_117 rfl
theorem s_X2_crash_118 : Snd PG.nam M55 118 (m_getf [(1, 4)] 121) := snd_getf dX2_crash_118 fd_X2_16
theorem s_X2_crash_121 : Snd PG.nam M55 121 (m_const (.int (nI 3)) 122) := snd_iconst dX2_crash_121 (by decide)
theorem s_X2_crash_122 : Snd PG.nam M55 122 (m_iload 3 123) := snd_iload_n dX2_crash_122 rfl
theorem s_X2_crash_123 : Snd PG.nam M55 123 (m_ibin (fun a b => a * b) 124) := snd_imul dX2_crash_123
theorem s_X2_crash_124 : Snd PG.nam M55 124 (m_const (.int (nI 2)) 125) := snd_iconst dX2_crash_124 (by decide)
theorem s_X2_crash_125 : Snd PG.nam M55 125 (m_ibin (fun a b => a + b) 126) := snd_iadd dX2_crash_125
theorem s_X2_crash_126 : Snd PG.nam M55 126 (m_lald 127) := snd_lald dX2_crash_126
theorem s_X2_crash_127 : Snd PG.nam M55 127 (m_callV true [(1, 46)] 4 130) := snd_callV (nam := PG.nam) (List.forall_mem_cons.mpr ⟨dr_V (ym := PG.nam 46) dX2_crash_127 (Or.inl w1624) mi_46 rfl (lw_all_tbl qs28), (fun q hq => absurd hq List.not_mem_nil)⟩) (by decide)
theorem s_X2_crash_130 : Snd PG.nam M55 130 (m_iinc 3 (nI 1) 133) := snd_iinc dX2_crash_130 (by decide) (by decide)
theorem s_X2_crash_133 : Snd PG.nam M55 133 (m_goto 77) := snd_goto dX2_crash_133 (by decide)
theorem s_X2_crash_136 : Snd PG.nam M55 136 (m_aload 0 137) := snd_aload_n dX2_crash_136 rfl
theorem s_X2_crash_137 : Snd PG.nam M55 137 (m_const (.int (nI 0)) 138) := snd_iconst dX2_crash_137 (by decide)
theorem s_X2_crash_138 : Snd PG.nam M55 138 (m_putf [(1, 10)] .boolean 141) := snd_putf dX2_crash_138 fd_X2_123
theorem s_X2_crash_141 : Snd PG.nam M55 141 (m_aload 0 142) := snd_aload_n dX2_crash_141 rfl
theorem s_X2_crash_142 : Snd PG.nam M55 142 (m_const (.int (nI 0)) 143) := snd_iconst dX2_crash_142 (by decide)
theorem s_X2_crash_143 : Snd PG.nam M55 143 (m_putf [(1, 7)] .int 146) := snd_putf dX2_crash_143 fd_X2_117
theorem s_X2_crash_146 : Snd PG.nam M55 146 (m_aload 0 147) := snd_aload_n dX2_crash_146 rfl
theorem s_X2_crash_147 : Snd PG.nam M55 147 (m_callV true [(1, 54)] 0 150) := snd_callV (nam := PG.nam) (List.forall_mem_cons.mpr ⟨dr_V (ym := PG.nam 54) dX2_crash_147 (Or.inl w1656) mi_54 rfl (lw_all_tbl qs31), (fun q hq => absurd hq List.not_mem_nil)⟩) (by decide)
theorem s_X2_crash_150 : Snd PG.nam M55 150 (m_aload 0 151) := snd_aload_n dX2_crash_150 rfl
theorem s_X2_crash_151 : Snd PG.nam M55 151 (m_getf [(1, 1)] 154) := snd_getf dX2_crash_151 fd_X2_102
theorem s_X2_crash_154 : Snd PG.nam M55 154 (m_iret .int) := snd_iret dX2_crash_154 rfl
theorem T55 : ∀ q ∈ S55, Snd PG.nam M55 q.1 q.2 := List.forall_mem_cons.mpr ⟨s_X2_crash_0, List.forall_mem_cons.mpr ⟨s_X2_crash_1, List.forall_mem_cons.mpr ⟨s_X2_crash_2, List.forall_mem_cons.mpr ⟨s_X2_crash_3, List.forall_mem_cons.mpr ⟨s_X2_crash_6, List.forall_mem_cons.mpr ⟨s_X2_crash_9, List.forall_mem_cons.mpr ⟨s_X2_crash_10, List.forall_mem_cons.mpr ⟨s_X2_crash_13, List.forall_mem_cons.mpr ⟨s_X2_crash_16, List.forall_mem_cons.mpr ⟨s_X2_crash_17, List.forall_mem_cons.mpr ⟨s_X2_crash_18, List.forall_mem_cons.mpr ⟨s_X2_crash_19, List.forall_mem_cons.mpr ⟨s_X2_crash_20, List.forall_mem_cons.mpr ⟨s_X2_crash_21, List.forall_mem_cons.mpr ⟨s_X2_crash_22, List.forall_mem_cons.mpr ⟨s_X2_crash_23, List.forall_mem_cons.mpr ⟨s_X2_crash_26, List.forall_mem_cons.mpr ⟨s_X2_crash_27, List.forall_mem_cons.mpr ⟨s_X2_crash_30, List.forall_mem_cons.mpr ⟨s_X2_crash_31, List.forall_mem_cons.mpr ⟨s_X2_crash_34, List.forall_mem_cons.mpr ⟨s_X2_crash_35, List.forall_mem_cons.mpr ⟨s_X2_crash_36, List.forall_mem_cons.mpr ⟨s_X2_crash_39, List.forall_mem_cons.mpr ⟨s_X2_crash_40, List.forall_mem_cons.mpr ⟨s_X2_crash_41, List.forall_mem_cons.mpr ⟨s_X2_crash_42, List.forall_mem_cons.mpr ⟨s_X2_crash_45, List.forall_mem_cons.mpr ⟨s_X2_crash_48, List.forall_mem_cons.mpr ⟨s_X2_crash_49, List.forall_mem_cons.mpr ⟨s_X2_crash_50, List.forall_mem_cons.mpr ⟨s_X2_crash_53, List.forall_mem_cons.mpr ⟨s_X2_crash_56, List.forall_mem_cons.mpr ⟨s_X2_crash_57, List.forall_mem_cons.mpr ⟨s_X2_crash_60, List.forall_mem_cons.mpr ⟨s_X2_crash_63, List.forall_mem_cons.mpr ⟨s_X2_crash_64, List.forall_mem_cons.mpr ⟨s_X2_crash_67, List.forall_mem_cons.mpr ⟨s_X2_crash_70, List.forall_mem_cons.mpr ⟨s_X2_crash_71, List.forall_mem_cons.mpr ⟨s_X2_crash_74, List.forall_mem_cons.mpr ⟨s_X2_crash_75, List.forall_mem_cons.mpr ⟨s_X2_crash_76, List.forall_mem_cons.mpr ⟨s_X2_crash_77, List.forall_mem_cons.mpr ⟨s_X2_crash_78, List.forall_mem_cons.mpr ⟨s_X2_crash_79, List.forall_mem_cons.mpr ⟨s_X2_crash_82, List.forall_mem_cons.mpr ⟨s_X2_crash_83, List.forall_mem_cons.mpr ⟨s_X2_crash_86, List.forall_mem_cons.mpr ⟨s_X2_crash_87, List.forall_mem_cons.mpr ⟨s_X2_crash_88, List.forall_mem_cons.mpr ⟨s_X2_crash_89, List.forall_mem_cons.mpr ⟨s_X2_crash_92, List.forall_mem_cons.mpr ⟨s_X2_crash_93, List.forall_mem_cons.mpr ⟨s_X2_crash_94, List.forall_mem_cons.mpr ⟨s_X2_crash_97, List.forall_mem_cons.mpr ⟨s_X2_crash_98, List.forall_mem_cons.mpr ⟨s_X2_crash_99, List.forall_mem_cons.mpr ⟨s_X2_crash_100, List.forall_mem_cons.mpr ⟨s_X2_crash_103, List.forall_mem_cons.mpr ⟨s_X2_crash_104, List.forall_mem_cons.mpr ⟨s_X2_crash_105, List.forall_mem_cons.mpr ⟨s_X2_crash_106, List.forall_mem_cons.mpr ⟨s_X2_crash_107, List.forall_mem_cons.mpr ⟨s_X2_crash_108, List.forall_mem_cons.mpr ⟨s_X2_crash_111, List.forall_mem_cons.mpr ⟨s_X2_crash_112, List.forall_mem_cons.mpr ⟨s_X2_crash_113, List.forall_mem_cons.mpr ⟨s_X2_crash_114, List.forall_mem_cons.mpr ⟨s_X2_crash_115, List.forall_mem_cons.mpr ⟨s_X2_crash_116, List.forall_mem_cons.mpr ⟨s_X2_crash_117, List.forall_mem_cons.mpr ⟨s_X2_crash_118, List.forall_mem_cons.mpr ⟨s_X2_crash_121, List.forall_mem_cons.mpr ⟨s_X2_crash_122, List.forall_mem_cons.mpr ⟨s_X2_crash_123, List.forall_mem_cons.mpr ⟨s_X2_crash_124, List.forall_mem_cons.mpr ⟨s_X2_crash_125, List.forall_mem_cons.mpr ⟨s_X2_crash_126, List.forall_mem_cons.mpr ⟨s_X2_crash_127, List.forall_mem_cons.mpr ⟨s_X2_crash_130, List.forall_mem_cons.mpr ⟨s_X2_crash_133, List.forall_mem_cons.mpr ⟨s_X2_crash_136, List.forall_mem_cons.mpr ⟨s_X2_crash_137, List.forall_mem_cons.mpr ⟨s_X2_crash_138, List.forall_mem_cons.mpr ⟨s_X2_crash_141, List.forall_mem_cons.mpr ⟨s_X2_crash_142, List.forall_mem_cons.mpr ⟨s_X2_crash_143, List.forall_mem_cons.mpr ⟨s_X2_crash_146, List.forall_mem_cons.mpr ⟨s_X2_crash_147, List.forall_mem_cons.mpr ⟨s_X2_crash_150, List.forall_mem_cons.mpr ⟨s_X2_crash_151, List.forall_mem_cons.mpr ⟨s_X2_crash_154, (fun q hq => absurd hq List.not_mem_nil)⟩⟩⟩⟩⟩⟩⟩⟩⟩⟩⟩⟩⟩⟩⟩⟩⟩⟩⟩⟩⟩⟩⟩⟩⟩⟩⟩⟩⟩⟩⟩⟩⟩⟩⟩⟩⟩⟩⟩⟩⟩⟩⟩⟩⟩⟩⟩⟩⟩⟩⟩⟩⟩⟩⟩⟩⟩⟩⟩⟩⟩⟩⟩⟩⟩⟩⟩⟩⟩⟩⟩⟩⟩⟩⟩⟩⟩⟩⟩⟩⟩⟩⟩⟩⟩⟩⟩⟩⟩⟩⟩⟩⟩
theorem s_X2_append_0 : Snd PG.nam M56 0 (m_aload 0 1) := snd_aload_n dX2_append_0 rfl
theorem s_X2_append_1 : Snd PG.nam M56 1 (m_iload 3 2) := snd_iload_n dX2_append_1 rfl
theorem s_X2_append_2 : Snd PG.nam M56 2 (m_const (.int (nI 1)) 3) := snd_iconst dX2_append_2 (by decide)
theorem s_X2_append_3 : Snd PG.nam M56 3 (m_const (.int (nI 8)) 5) := snd_bipush dX2_append_3 (by decide)
theorem s_X2_append_5 : Snd PG.nam M56 5 (m_callS false 41 3 8) := snd_callS (nam := PG.nam) (yy := 41) dX2_append_5 (Or.inl w1604) w1605 ⟨by decide, by decide +kernel⟩ (by decide)
theorem s_X2_append_8 : Snd PG.nam M56 8 (m_const (.int (nI 1)) 9) := snd_iconst dX2_append_8 (by decide)
theorem s_X2_append_9 : Snd PG.nam M56 9 (m_callV false [(1, 43)] 2 12) := snd_callV (nam := PG.nam) (List.forall_mem_cons.mpr ⟨dr_V (ym := PG.nam 43) dX2_append_9 (Or.inl w1612) mi_43 rfl (lw_all_tbl qs25), (fun q hq => absurd hq List.not_mem_nil)⟩) (by decide)
theorem s_X2_append_12 : Snd PG.nam M56 12 (m_ifz (fun x => if x = 0 then 15 else 17)) := snd_if_ne dX2_append_12 (by decide)
theorem s_X2_append_15 : Snd PG.nam M56 15 (m_const (.int (nI 0)) 16) := snd_iconst dX2_append_15 (by decide)
theorem s_X2_append_16 : Snd PG.nam M56 16 (m_iret .int) := snd_iret dX2_append_16 rfl
theorem s_X2_append_17 : Snd PG.nam M56 17 (m_const (.int (nI 0)) 18) := snd_iconst dX2_append_17 (by decide)
theorem s_X2_append_18 : Snd PG.nam M56 18 (m_istore 4 20) := snd_istore dX2_append_18 (by decide)
theorem s_X2_append_20 : Snd PG.nam M56 20 (m_iload 4 22) := snd_iload dX2_append_20
theorem s_X2_append_22 : Snd PG.nam M56 22 (m_iload 3 23) := snd_iload_n dX2_append_22 rfl
theorem s_X2_append_23 : Snd PG.nam M56 23 (m_icmp (fun x z => if x < z then 26 else 61)) := snd_icmp_ge dX2_append_23 (by decide)
theorem s_X2_append_26 : Snd PG.nam M56 26 (m_aload 0 27) := snd_aload_n dX2_append_26 rfl
theorem s_X2_append_27 : Snd PG.nam M56 27 (m_lload 1 28) := snd_lload_n dX2_append_27 rfl
theorem s_X2_append_28 : Snd PG.nam M56 28 (m_const (.int (nI 8)) 30) := snd_bipush dX2_append_28 (by decide)
theorem s_X2_append_30 : Snd PG.nam M56 30 (m_iload 4 32) := snd_iload dX2_append_30
theorem s_X2_append_32 : Snd PG.nam M56 32 (m_ibin (fun a b => a * b) 33) := snd_imul dX2_append_32
theorem s_X2_append_33 : Snd PG.nam M56 33 (m_lsh (fun a b => a >>> (b.toInt64 &&& 63)) 34) := snd_lshr dX2_append_33
theorem s_X2_append_34 : Snd PG.nam M56 34 (m_l2i 35) := snd_l2i dX2_append_34
theorem s_X2_append_35 : Snd PG.nam M56 35 (m_const (.int (nI 255)) 38) := snd_sipush dX2_append_35 (by decide)
theorem s_X2_append_38 : Snd PG.nam M56 38 (m_ibin (fun a b => a &&& b) 39) := snd_iand dX2_append_38
theorem s_X2_append_39 : Snd PG.nam M56 39 (m_const (.int (nI 32)) 41) := snd_bipush dX2_append_39 (by decide)
theorem s_X2_append_41 : Snd PG.nam M56 41 (m_const (.int (nI 126)) 43) := snd_bipush dX2_append_41 (by decide)
theorem s_X2_append_43 : Snd PG.nam M56 43 (m_callS false 41 3 46) := snd_callS (nam := PG.nam) (yy := 41) dX2_append_43 (Or.inl w1604) w1605 ⟨by decide, by decide +kernel⟩ (by decide)
theorem s_X2_append_46 : Snd PG.nam M56 46 (m_const (.int (nI 1)) 47) := snd_iconst dX2_append_46 (by decide)
theorem s_X2_append_47 : Snd PG.nam M56 47 (m_callV false [(1, 43)] 2 50) := snd_callV (nam := PG.nam) (List.forall_mem_cons.mpr ⟨dr_V (ym := PG.nam 43) dX2_append_47 (Or.inl w1612) mi_43 rfl (lw_all_tbl qs25), (fun q hq => absurd hq List.not_mem_nil)⟩) (by decide)
theorem s_X2_append_50 : Snd PG.nam M56 50 (m_ifz (fun x => if x = 0 then 53 else 55)) := snd_if_ne dX2_append_50 (by decide)
theorem s_X2_append_53 : Snd PG.nam M56 53 (m_const (.int (nI 0)) 54) := snd_iconst dX2_append_53 (by decide)
theorem s_X2_append_54 : Snd PG.nam M56 54 (m_iret .int) := snd_iret dX2_append_54 rfl
theorem s_X2_append_55 : Snd PG.nam M56 55 (m_iinc 4 (nI 1) 58) := snd_iinc dX2_append_55 (by decide) (by decide)
theorem s_X2_append_58 : Snd PG.nam M56 58 (m_goto 20) := snd_goto dX2_append_58 (by decide)
theorem s_X2_append_61 : Snd PG.nam M56 61 (m_aload 0 62) := snd_aload_n dX2_append_61 rfl
theorem s_X2_append_62 : Snd PG.nam M56 62 (m_aload 0 63) := snd_aload_n dX2_append_62 rfl
theorem s_X2_append_63 : Snd PG.nam M56 63 (m_getf [(1, 13)] 66) := snd_getf dX2_append_63 fd_X2_161
theorem s_X2_append_66 : Snd PG.nam M56 66 (m_iload 3 67) := snd_iload_n dX2_append_66 rfl
theorem s_X2_append_67 : Snd PG.nam M56 67 (m_ibin (fun a b => a + b) 68) := snd_iadd dX2_append_67
theorem s_X2_append_68 : Snd PG.nam M56 68 (m_const (.int (nI 160)) 71) := snd_sipush dX2_append_68 (by decide)
theorem s_X2_append_71 : Snd PG.nam M56 71 (m_icmp (fun x z => if z < x then 78 else 74)) := snd_icmp_gt dX2_append_71 (by decide)
theorem s_X2_append_74 : Snd PG.nam M56 74 (m_const (.int (nI 1)) 75) := snd_iconst dX2_append_74 (by decide)
theorem s_X2_append_75 : Snd PG.nam M56 75 (m_goto 79) := snd_goto dX2_append_75 (by decide)
theorem s_X2_append_78 : Snd PG.nam M56 78 (m_const (.int (nI 0)) 79) := snd_iconst dX2_append_78 (by decide)
theorem s_X2_append_79 : Snd PG.nam M56 79 (m_const (.int (nI 2)) 80) := snd_iconst dX2_append_79 (by decide)
theorem s_X2_append_80 : Snd PG.nam M56 80 (m_callV false [(1, 43)] 2 83) := snd_callV (nam := PG.nam) (List.forall_mem_cons.mpr ⟨dr_V (ym := PG.nam 43) dX2_append_80 (Or.inl w1612) mi_43 rfl (lw_all_tbl qs25), (fun q hq => absurd hq List.not_mem_nil)⟩) (by decide)
theorem s_X2_append_83 : Snd PG.nam M56 83 (m_ifz (fun x => if x = 0 then 86 else 88)) := snd_if_ne dX2_append_83 (by decide)
theorem s_X2_append_86 : Snd PG.nam M56 86 (m_const (.int (nI 0)) 87) := snd_iconst dX2_append_86 (by decide)
theorem s_X2_append_87 : Snd PG.nam M56 87 (m_iret .int) := snd_iret dX2_append_87 rfl
theorem s_X2_append_88 : Snd PG.nam M56 88 (m_iload 3 89) := snd_iload_n dX2_append_88 rfl
theorem s_X2_append_89 : Snd PG.nam M56 89 (m_const (.int (nI 1)) 90) := snd_iconst dX2_append_89 (by decide)
theorem s_X2_append_90 : Snd PG.nam M56 90 (m_ibin (fun a b => a - b) 91) := snd_isub dX2_append_90
theorem s_X2_append_91 : Snd PG.nam M56 91 (m_istore 4 93) := snd_istore dX2_append_91 (by decide)
theorem s_X2_append_93 : Snd PG.nam M56 93 (m_iload 4 95) := snd_iload dX2_append_93
theorem s_X2_append_95 : Snd PG.nam M56 95 (m_ifz (fun x => if x < 0 then 135 else 98)) := snd_if_lt dX2_append_95 (by decide)
theorem s_X2_append_98 : Snd PG.nam M56 98 (m_aload 0 99) := snd_aload_n dX2_append_98 rfl
theorem s_X2_append_99 : Snd PG.nam M56 99 (m_getf [(1, 12)] 102) := snd_getf dX2_append_99 fd_X2_27
theorem s_X2_append_102 : Snd PG.nam M56 102 (m_aload 0 103) := snd_aload_n dX2_append_102 rfl
theorem s_X2_append_103 : Snd PG.nam M56 103 (m_getf [(1, 13)] 106) := snd_getf dX2_append_103 fd_X2_161
theorem s_X2_append_106 : Snd PG.nam M56 106 (m_lload 1 107) := snd_lload_n dX2_append_106 rfl
theorem s_X2_append_107 : Snd PG.nam M56 107 (m_const (.int (nI 8)) 109) := snd_bipush dX2_append_107 (by decide)
theorem s_X2_append_109 : Snd PG.nam M56 109 (m_iload 4 111) := snd_iload dX2_append_109
theorem s_X2_append_111 : Snd PG.nam M56 111 (m_ibin (fun a b => a * b) 112) := snd_imul dX2_append_111
theorem s_X2_append_112 : Snd PG.nam M56 112 (m_lsh (fun a b => a >>> (b.toInt64 &&& 63)) 113) := snd_lshr dX2_append_112
theorem s_X2_append_113 : Snd PG.nam M56 113 (m_l2i 114) := snd_l2i dX2_append_113
theorem s_X2_append_114 : Snd PG.nam M56 114 (m_const (.int (nI 255)) 117) := snd_sipush dX2_append_114 (by decide)
theorem s_X2_append_117 : Snd PG.nam M56 117 (m_ibin (fun a b => a &&& b) 118) := snd_iand dX2_append_117
theorem s_X2_append_118 : Snd PG.nam M56 118 (m_iast [.int] 119) := snd_iast dX2_append_118
theorem s_X2_append_119 : Snd PG.nam M56 119 (m_aload 0 120) := snd_aload_n dX2_append_119 rfl
theorem s_X2_append_120 : Snd PG.nam M56 120 (m_dup 121) := snd_dup dX2_append_120
theorem s_X2_append_121 : Snd PG.nam M56 121 (m_getf [(1, 13)] 124) := snd_getf dX2_append_121 fd_X2_161
theorem s_X2_append_124 : Snd PG.nam M56 124 (m_const (.int (nI 1)) 125) := snd_iconst dX2_append_124 (by decide)
theorem s_X2_append_125 : Snd PG.nam M56 125 (m_ibin (fun a b => a + b) 126) := snd_iadd dX2_append_125
theorem s_X2_append_126 : Snd PG.nam M56 126 (m_putf [(1, 13)] .int 129) := snd_putf dX2_append_126 fd_X2_161
theorem s_X2_append_129 : Snd PG.nam M56 129 (m_iinc 4 (-1) 132) := snd_iinc dX2_append_129 (by decide) (by decide)
theorem s_X2_append_132 : Snd PG.nam M56 132 (m_goto 93) := snd_goto dX2_append_132 (by decide)
theorem s_X2_append_135 : Snd PG.nam M56 135 (m_aload 0 136) := snd_aload_n dX2_append_135 rfl
theorem s_X2_append_136 : Snd PG.nam M56 136 (m_getf [(1, 13)] 139) := snd_getf dX2_append_136 fd_X2_161
theorem s_X2_append_139 : Snd PG.nam M56 139 (m_iret .int) := snd_iret dX2_append_139 rfl
theorem T56 : ∀ q ∈ S56, Snd PG.nam M56 q.1 q.2 := List.forall_mem_cons.mpr ⟨s_X2_append_0, List.forall_mem_cons.mpr ⟨s_X2_append_1, List.forall_mem_cons.mpr ⟨s_X2_append_2, List.forall_mem_cons.mpr ⟨s_X2_append_3, List.forall_mem_cons.mpr ⟨s_X2_append_5, List.forall_mem_cons.mpr ⟨s_X2_append_8, List.forall_mem_cons.mpr ⟨s_X2_append_9, List.forall_mem_cons.mpr ⟨s_X2_append_12, List.forall_mem_cons.mpr ⟨s_X2_append_15, List.forall_mem_cons.mpr ⟨s_X2_append_16, List.forall_mem_cons.mpr ⟨s_X2_append_17, List.forall_mem_cons.mpr ⟨s_X2_append_18, List.forall_mem_cons.mpr ⟨s_X2_append_20, List.forall_mem_cons.mpr ⟨s_X2_append_22, List.forall_mem_cons.mpr ⟨s_X2_append_23, List.forall_mem_cons.mpr ⟨s_X2_append_26, List.forall_mem_cons.mpr ⟨s_X2_append_27, List.forall_mem_cons.mpr ⟨s_X2_append_28, List.forall_mem_cons.mpr ⟨s_X2_append_30, List.forall_mem_cons.mpr ⟨s_X2_append_32, List.forall_mem_cons.mpr ⟨s_X2_append_33, List.forall_mem_cons.mpr ⟨s_X2_append_34, List.forall_mem_cons.mpr ⟨s_X2_append_35, List.forall_mem_cons.mpr ⟨s_X2_append_38, List.forall_mem_cons.mpr ⟨s_X2_append_39, List.forall_mem_cons.mpr ⟨s_X2_append_41, List.forall_mem_cons.mpr ⟨s_X2_append_43, List.forall_mem_cons.mpr ⟨s_X2_append_46, List.forall_mem_cons.mpr ⟨s_X2_append_47, List.forall_mem_cons.mpr ⟨s_X2_append_50, List.forall_mem_cons.mpr ⟨s_X2_append_53, List.forall_mem_cons.mpr ⟨s_X2_append_54, List.forall_mem_cons.mpr ⟨s_X2_append_55, List.forall_mem_cons.mpr ⟨s_X2_append_58, List.forall_mem_cons.mpr ⟨s_X2_append_61, List.forall_mem_cons.mpr ⟨s_X2_append_62, List.forall_mem_cons.mpr ⟨s_X2_append_63, List.forall_mem_cons.mpr ⟨s_X2_append_66, List.forall_mem_cons.mpr ⟨s_X2_append_67, List.forall_mem_cons.mpr ⟨s_X2_append_68, List.forall_mem_cons.mpr ⟨s_X2_append_71, List.forall_mem_cons.mpr ⟨s_X2_append_74, List.forall_mem_cons.mpr ⟨s_X2_append_75, List.forall_mem_cons.mpr ⟨s_X2_append_78, List.forall_mem_cons.mpr ⟨s_X2_append_79, List.forall_mem_cons.mpr ⟨s_X2_append_80, List.forall_mem_cons.mpr ⟨s_X2_append_83, List.forall_mem_cons.mpr ⟨s_X2_append_86, List.forall_mem_cons.mpr ⟨s_X2_append_87, List.forall_mem_cons.mpr ⟨s_X2_append_88, List.forall_mem_cons.mpr ⟨s_X2_append_89, List.forall_mem_cons.mpr ⟨s_X2_append_90, List.forall_mem_cons.mpr ⟨s_X2_append_91, List.forall_mem_cons.mpr ⟨s_X2_append_93, List.forall_mem_cons.mpr ⟨s_X2_append_95, List.forall_mem_cons.mpr ⟨s_X2_append_98, List.forall_mem_cons.mpr ⟨s_X2_append_99, List.forall_mem_cons.mpr ⟨s_X2_append_102, List.forall_mem_cons.mpr ⟨s_X2_append_103, List.forall_mem_cons.mpr ⟨s_X2_append_106, List.forall_mem_cons.mpr ⟨s_X2_append_107, List.forall_mem_cons.mpr ⟨s_X2_append_109, List.forall_mem_cons.mpr ⟨s_X2_append_111, List.forall_mem_cons.mpr ⟨s_X2_append_112, List.forall_mem_cons.mpr ⟨s_X2_append_113, List.forall_mem_cons.mpr ⟨s_X2_append_114, List.forall_mem_cons.mpr ⟨s_X2_append_117, List.forall_mem_cons.mpr ⟨s_X2_append_118, List.forall_mem_cons.mpr ⟨s_X2_append_119, List.forall_mem_cons.mpr ⟨s_X2_append_120, List.forall_mem_cons.mpr ⟨s_X2_append_121, List.forall_mem_cons.mpr ⟨s_X2_append_124, List.forall_mem_cons.mpr ⟨s_X2_append_125, List.forall_mem_cons.mpr ⟨s_X2_append_126, List.forall_mem_cons.mpr ⟨s_X2_append_129, List.forall_mem_cons.mpr ⟨s_X2_append_132, List.forall_mem_cons.mpr ⟨s_X2_append_135, List.forall_mem_cons.mpr ⟨s_X2_append_136, List.forall_mem_cons.mpr ⟨s_X2_append_139, (fun q hq => absurd hq List.not_mem_nil)⟩⟩⟩⟩⟩⟩⟩⟩⟩⟩⟩⟩⟩⟩⟩⟩⟩⟩⟩⟩⟩⟩⟩⟩⟩⟩⟩⟩⟩⟩⟩⟩⟩⟩⟩⟩⟩⟩⟩⟩⟩⟩⟩⟩⟩⟩⟩⟩⟩⟩⟩⟩⟩⟩⟩⟩⟩⟩⟩⟩⟩⟩⟩⟩⟩⟩⟩⟩⟩⟩⟩⟩⟩⟩⟩⟩⟩⟩⟩
theorem s_X2_ask_0 : Snd PG.nam M57 0 (m_aload 0 1) := snd_aload_n dX2_ask_0 rfl
theorem s_X2_ask_1 : Snd PG.nam M57 1 (m_const (.int (nI 0)) 2) := snd_iconst dX2_ask_1 (by decide)
theorem s_X2_ask_2 : Snd PG.nam M57 2 (m_putf [(1, 24)] .int 5) := snd_putf dX2_ask_2 fd_X2_229
theorem s_X2_ask_5 : Snd PG.nam M57 5 (m_aload 0 6) := snd_aload_n dX2_ask_5 rfl
theorem s_X2_ask_6 : Snd PG.nam M57 6 (m_const (.int (nI 0)) 7) := snd_iconst dX2_ask_6 (by decide)
theorem s_X2_ask_7 : Snd PG.nam M57 7 (m_putf [(1, 25)] .int 10) := snd_putf dX2_ask_7 fd_X2_259
theorem s_X2_ask_10 : Snd PG.nam M57 10 (m_aload 0 11) := snd_aload_n dX2_ask_10 rfl
theorem s_X2_ask_11 : Snd PG.nam M57 11 (m_const (.int (nI 0)) 12) := snd_iconst dX2_ask_11 (by decide)
theorem s_X2_ask_12 : Snd PG.nam M57 12 (m_putf [(1, 26)] .int 15) := snd_putf dX2_ask_12 fd_X2_278
theorem s_X2_ask_15 : Snd PG.nam M57 15 (m_aload 0 16) := snd_aload_n dX2_ask_15 rfl
theorem s_X2_ask_16 : Snd PG.nam M57 16 (m_const (.int (nI 0)) 17) := snd_iconst dX2_ask_16 (by decide)
theorem s_X2_ask_17 : Snd PG.nam M57 17 (m_putf [(1, 27)] .int 20) := snd_putf dX2_ask_17 fd_X2_250
theorem s_X2_ask_20 : Snd PG.nam M57 20 (m_aload 0 21) := snd_aload_n dX2_ask_20 rfl
theorem s_X2_ask_21 : Snd PG.nam M57 21 (m_const (.int (nI 0)) 22) := snd_iconst dX2_ask_21 (by decide)
theorem s_X2_ask_22 : Snd PG.nam M57 22 (m_putf [(1, 32)] .int 25) := snd_putf dX2_ask_22 fd_X2_244
theorem s_X2_ask_25 : Snd PG.nam M57 25 (m_aload 0 26) := snd_aload_n dX2_ask_25 rfl
theorem s_X2_ask_26 : Snd PG.nam M57 26 (m_const (.int (nI 0)) 27) := snd_iconst dX2_ask_26 (by decide)
theorem s_X2_ask_27 : Snd PG.nam M57 27 (m_putf [(1, 35)] .int 30) := snd_putf dX2_ask_27 fd_X2_268
theorem s_X2_ask_30 : Snd PG.nam M57 30 (m_aload 0 31) := snd_aload_n dX2_ask_30 rfl
theorem s_X2_ask_31 : Snd PG.nam M57 31 (m_const (.int (nI 0)) 32) := snd_iconst dX2_ask_31 (by decide)
theorem s_X2_ask_32 : Snd PG.nam M57 32 (m_putf [(1, 39)] .int 35) := snd_putf dX2_ask_32 fd_X2_247
theorem s_X2_ask_35 : Snd PG.nam M57 35 (m_aload 0 36) := snd_aload_n dX2_ask_35 rfl
theorem s_X2_ask_36 : Snd PG.nam M57 36 (m_const (.int (nI 0)) 37) := snd_iconst dX2_ask_36 (by decide)
theorem s_X2_ask_37 : Snd PG.nam M57 37 (m_putf [(1, 41)] .int 40) := snd_putf dX2_ask_37 fd_X2_296
theorem s_X2_ask_40 : Snd PG.nam M57 40 (m_aload 0 41) := snd_aload_n dX2_ask_40 rfl
theorem s_X2_ask_41 : Snd PG.nam M57 41 (m_const (.int (nI 0)) 42) := snd_iconst dX2_ask_41 (by decide)
theorem s_X2_ask_42 : Snd PG.nam M57 42 (m_putf [(1, 43)] .boolean 45) := snd_putf dX2_ask_42 fd_X2_293
theorem s_X2_ask_45 : Snd PG.nam M57 45 (m_aload 0 46) := snd_aload_n dX2_ask_45 rfl
theorem s_X2_ask_46 : Snd PG.nam M57 46 (m_const (.int (-1)) 47) := snd_iconst dX2_ask_46 (by decide)
theorem s_X2_ask_47 : Snd PG.nam M57 47 (m_putf [(1, 44)] .int 50) := snd_putf dX2_ask_47 fd_X2_302
theorem s_X2_ask_50 : Snd PG.nam M57 50 (m_aload 0 51) := snd_aload_n dX2_ask_50 rfl
theorem s_X2_ask_51 : Snd PG.nam M57 51 (m_const (.int (nI 0)) 52) := snd_iconst dX2_ask_51 (by decide)
theorem s_X2_ask_52 : Snd PG.nam M57 52 (m_putf [(1, 45)] .boolean 55) := snd_putf dX2_ask_52 fd_X2_305
theorem s_X2_ask_55 : Snd PG.nam M57 55 (m_aload 0 56) := snd_aload_n dX2_ask_55 rfl
theorem s_X2_ask_56 : Snd PG.nam M57 56 (m_const (.int (nI 10000)) 59) := snd_sipush dX2_ask_56 (by decide)
theorem s_X2_ask_59 : Snd PG.nam M57 59 (m_putf [(1, 46)] .int 62) := snd_putf dX2_ask_59 fd_X2_308
theorem s_X2_ask_62 : Snd PG.nam M57 62 (m_aload 0 63) := snd_aload_n dX2_ask_62 rfl
theorem s_X2_ask_63 : Snd PG.nam M57 63 (m_const (.int (nI 0)) 64) := snd_iconst dX2_ask_63 (by decide)
theorem s_X2_ask_64 : Snd PG.nam M57 64 (m_putf [(1, 18)] .int 67) := snd_putf dX2_ask_64 fd_X2_172
theorem s_X2_ask_67 : Snd PG.nam M57 67 (m_aload 0 68) := snd_aload_n dX2_ask_67 rfl
theorem s_X2_ask_68 : Snd PG.nam M57 68 (m_const (.int (-1)) 69) := snd_iconst dX2_ask_68 (by decide)
theorem s_X2_ask_69 : Snd PG.nam M57 69 (m_putf [(1, 20)] .int 72) := snd_putf dX2_ask_69 fd_X2_220
theorem s_X2_ask_72 : Snd PG.nam M57 72 (m_aload 0 73) := snd_aload_n dX2_ask_72 rfl
theorem s_X2_ask_73 : Snd PG.nam M57 73 (m_const (.int (nI 0)) 74) := snd_iconst dX2_ask_73 (by decide)
theorem s_X2_ask_74 : Snd PG.nam M57 74 (m_putf [(1, 21)] .boolean 77) := snd_putf dX2_ask_74 fd_X2_281
theorem s_X2_ask_77 : Snd PG.nam M57 77 (m_aload 0 78) := snd_aload_n dX2_ask_77 rfl
theorem s_X2_ask_78 : Snd PG.nam M57 78 (m_callV true [(1, 58)] 0 81) := snd_callV (nam := PG.nam) (List.forall_mem_cons.mpr ⟨dr_V (ym := PG.nam 58) dX2_ask_78 (Or.inl w1672) mi_58 rfl (lw_all_tbl qs32), (fun q hq => absurd hq List.not_mem_nil)⟩) (by decide)
theorem s_X2_ask_81 : Snd PG.nam M57 81 (m_aload 0 82) := snd_aload_n dX2_ask_81 rfl
theorem s_X2_ask_82 : Snd PG.nam M57 82 (m_callV true [(1, 62)] 0 85) := snd_callV (nam := PG.nam) (List.forall_mem_cons.mpr ⟨dr_V (ym := PG.nam 62) dX2_ask_82 (Or.inl w1688) mi_62 rfl (lw_all_tbl qs34), (fun q hq => absurd hq List.not_mem_nil)⟩) (by decide)
theorem s_X2_ask_85 : Snd PG.nam M57 85 (m_aload 0 86) := snd_aload_n dX2_ask_85 rfl
theorem s_X2_ask_86 : Snd PG.nam M57 86 (m_const (.int (nI 0)) 87) := snd_iconst dX2_ask_86 (by decide)
theorem s_X2_ask_87 : Snd PG.nam M57 87 (m_putf [(1, 13)] .int 90) := snd_putf dX2_ask_87 fd_X2_161
theorem s_X2_ask_90 : Snd PG.nam M57 90 (m_aload 0 91) := snd_aload_n dX2_ask_90 rfl
theorem s_X2_ask_91 : Snd PG.nam M57 91 (m_aload 0 92) := snd_aload_n dX2_ask_91 rfl
theorem s_X2_ask_92 : Snd PG.nam M57 92 (m_getf [(1, 20)] 95) := snd_getf dX2_ask_92 fd_X2_220
theorem s_X2_ask_95 : Snd PG.nam M57 95 (m_putf [(1, 14)] .int 98) := snd_putf dX2_ask_95 fd_X2_30
theorem s_X2_ask_98 : Snd PG.nam M57 98 (m_aload 0 99) := snd_aload_n dX2_ask_98 rfl
theorem s_X2_ask_99 : Snd PG.nam M57 99 (m_aload 0 100) := snd_aload_n dX2_ask_99 rfl
theorem s_X2_ask_100 : Snd PG.nam M57 100 (m_getf [(1, 20)] 103) := snd_getf dX2_ask_100 fd_X2_220
theorem s_X2_ask_103 : Snd PG.nam M57 103 (m_ifz (fun x => if x < 0 then 106 else 110)) := snd_if_ge dX2_ask_103 (by decide)
theorem s_X2_ask_106 : Snd PG.nam M57 106 (m_const (.int (nI 1)) 107) := snd_iconst dX2_ask_106 (by decide)
theorem s_X2_ask_107 : Snd PG.nam M57 107 (m_goto 111) := snd_goto dX2_ask_107 (by decide)
theorem s_X2_ask_110 : Snd PG.nam M57 110 (m_const (.int (nI 0)) 111) := snd_iconst dX2_ask_110 (by decide)
theorem s_X2_ask_111 : Snd PG.nam M57 111 (m_const (.int (nI 1)) 112) := snd_iconst dX2_ask_111 (by decide)
theorem s_X2_ask_112 : Snd PG.nam M57 112 (m_callV false [(1, 43)] 2 115) := snd_callV (nam := PG.nam) (List.forall_mem_cons.mpr ⟨dr_V (ym := PG.nam 43) dX2_ask_112 (Or.inl w1612) mi_43 rfl (lw_all_tbl qs25), (fun q hq => absurd hq List.not_mem_nil)⟩) (by decide)
theorem s_X2_ask_115 : Snd PG.nam M57 115 (m_ifz (fun x => if x = 0 then 118 else 120)) := snd_if_ne dX2_ask_115 (by decide)
theorem s_X2_ask_118 : Snd PG.nam M57 118 (m_const (.int (nI 0)) 119) := snd_iconst dX2_ask_118 (by decide)
theorem s_X2_ask_119 : Snd PG.nam M57 119 (m_iret .int) := snd_iret dX2_ask_119 rfl
theorem s_X2_ask_120 : Snd PG.nam M57 120 (m_const (.int (nI 0)) 121) := snd_iconst dX2_ask_120 (by decide)
theorem s_X2_ask_121 : Snd PG.nam M57 121 (m_istore 1 122) := snd_istore_n dX2_ask_121 rfl (by decide)
theorem s_X2_ask_122 : Snd PG.nam M57 122 (m_iload 1 123) := snd_iload_n dX2_ask_122 rfl
theorem s_X2_ask_123 : Snd PG.nam M57 123 (m_aload 0 124) := snd_aload_n dX2_ask_123 rfl
theorem s_X2_ask_124 : Snd PG.nam M57 124 (m_getf [(1, 41)] 127) := snd_getf dX2_ask_124 fd_X2_296
theorem s_X2_ask_127 : Snd PG.nam M57 127 (m_icmp (fun x z => if x < z then 130 else 148)) := snd_icmp_ge dX2_ask_127 (by decide)
theorem s_X2_ask_130 : Snd PG.nam M57 130 (m_aload 0 131) := snd_aload_n dX2_ask_130 rfl
theorem s_X2_ask_131 : Snd PG.nam M57 131 (m_getf [(1, 56)] 134) := snd_getf dX2_ask_131 fd_X2_88
theorem s_X2_ask_134 : Snd PG.nam M57 134 (m_iload 1 135) := snd_iload_n dX2_ask_134 rfl
theorem s_X2_ask_135 : Snd PG.nam M57 135 (m_aload 0 136) := snd_aload_n dX2_ask_135 rfl
theorem s_X2_ask_136 : Snd PG.nam M57 136 (m_getf [(1, 40)] 139) := snd_getf dX2_ask_136 fd_X2_64
theorem s_X2_ask_139 : Snd PG.nam M57 139 (m_iload 1 140) := snd_iload_n dX2_ask_139 rfl
theorem s_X2_ask_140 : Snd PG.nam M57 140 (m_iald [.int] 141) := snd_iald dX2_ask_140
theorem s_X2_ask_141 : Snd PG.nam M57 141 (m_iast [.int] 142) := snd_iast dX2_ask_141
theorem s_X2_ask_142 : Snd PG.nam M57 142 (m_iinc 1 (nI 1) 145) := snd_iinc dX2_ask_142 (by decide) (by decide)
theorem s_X2_ask_145 : Snd PG.nam M57 145 (m_goto 122) := snd_goto dX2_ask_145 (by decide)
theorem s_X2_ask_148 : Snd PG.nam M57 148 (m_aload 0 149) := snd_aload_n dX2_ask_148 rfl
theorem s_X2_ask_149 : Snd PG.nam M57 149 (m_aload 0 150) := snd_aload_n dX2_ask_149 rfl
theorem s_X2_ask_150 : Snd PG.nam M57 150 (m_getf [(1, 41)] 153) := snd_getf dX2_ask_150 fd_X2_296
theorem s_X2_ask_153 : Snd PG.nam M57 153 (m_putf [(1, 57)] .int 156) := snd_putf dX2_ask_153 fd_X2_364
theorem s_X2_ask_156 : Snd PG.nam M57 156 (m_aload 0 157) := snd_aload_n dX2_ask_156 rfl
theorem s_X2_ask_157 : Snd PG.nam M57 157 (m_const (.int (nI 0)) 158) := snd_iconst dX2_ask_157 (by decide)
theorem s_X2_ask_158 : Snd PG.nam M57 158 (m_putf [(1, 55)] .int 161) := snd_putf dX2_ask_158 fd_X2_358
theorem s_X2_ask_161 : Snd PG.nam M57 161 (m_aload 0 162) := snd_aload_n dX2_ask_161 rfl
theorem s_X2_ask_162 : Snd PG.nam M57 162 (m_const (.int (nI 0)) 163) := snd_iconst dX2_ask_162 (by decide)
theorem s_X2_ask_163 : Snd PG.nam M57 163 (m_putf [(1, 50)] .int 166) := snd_putf dX2_ask_163 fd_X2_318
theorem s_X2_ask_166 : Snd PG.nam M57 166 (m_aload 0 167) := snd_aload_n dX2_ask_166 rfl
theorem s_X2_ask_167 : Snd PG.nam M57 167 (m_const (.int (nI 0)) 168) := snd_iconst dX2_ask_167 (by decide)
theorem s_X2_ask_168 : Snd PG.nam M57 168 (m_putf [(1, 51)] .boolean 171) := snd_putf dX2_ask_168 fd_X2_311
theorem s_X2_ask_171 : Snd PG.nam M57 171 (m_const (.int (nI 0)) 172) := snd_iconst dX2_ask_171 (by decide)
theorem s_X2_ask_172 : Snd PG.nam M57 172 (m_istore 1 173) := snd_istore_n dX2_ask_172 rfl (by decide)
theorem s_X2_ask_173 : Snd PG.nam M57 173 (m_iload 1 174) := snd_iload_n dX2_ask_173 rfl
theorem s_X2_ask_174 : Snd PG.nam M57 174 (m_aload 0 175) := snd_aload_n dX2_ask_174 rfl
theorem s_X2_ask_175 : Snd PG.nam M57 175 (m_getf [(1, 32)] 178) := snd_getf dX2_ask_175 fd_X2_244
theorem s_X2_ask_178 : Snd PG.nam M57 178 (m_icmp (fun x z => if x < z then 181 else 210)) := snd_icmp_ge dX2_ask_178 (by decide)
theorem s_X2_ask_181 : Snd PG.nam M57 181 (m_aload 0 182) := snd_aload_n dX2_ask_181 rfl
theorem s_X2_ask_182 : Snd PG.nam M57 182 (m_getf [(1, 51)] 185) := snd_getf dX2_ask_182 fd_X2_311
theorem s_X2_ask_185 : Snd PG.nam M57 185 (m_ifz (fun x => if x = 0 then 188 else 210)) := snd_if_ne dX2_ask_185 (by decide)
theorem s_X2_ask_188 : Snd PG.nam M57 188 (m_aload 0 189) := snd_aload_n dX2_ask_188 rfl
theorem s_X2_ask_189 : Snd PG.nam M57 189 (m_aload 0 190) := snd_aload_n dX2_ask_189 rfl
theorem s_X2_ask_190 : Snd PG.nam M57 190 (m_getf [(1, 30)] 193) := snd_getf dX2_ask_190 fd_X2_43
theorem s_X2_ask_193 : Snd PG.nam M57 193 (m_iload 1 194) := snd_iload_n dX2_ask_193 rfl
theorem s_X2_ask_194 : Snd PG.nam M57 194 (m_iald [.int] 195) := snd_iald dX2_ask_194
theorem s_X2_ask_195 : Snd PG.nam M57 195 (m_aload 0 196) := snd_aload_n dX2_ask_195 rfl
theorem s_X2_ask_196 : Snd PG.nam M57 196 (m_getf [(1, 31)] 199) := snd_getf dX2_ask_196 fd_X2_46
theorem s_X2_ask_199 : Snd PG.nam M57 199 (m_iload 1 200) := snd_iload_n dX2_ask_199 rfl
theorem s_X2_ask_200 : Snd PG.nam M57 200 (m_iald [.int] 201) := snd_iald dX2_ask_200
theorem s_X2_ask_201 : Snd PG.nam M57 201 (m_callV true [(1, 77)] 2 204) := snd_callV (nam := PG.nam) (List.forall_mem_cons.mpr ⟨dr_V (ym := PG.nam 77) dX2_ask_201 (Or.inl w1759) mi_77 rfl (lw_all_tbl qs49), (fun q hq => absurd hq List.not_mem_nil)⟩) (by decide)
theorem s_X2_ask_204 : Snd PG.nam M57 204 (m_iinc 1 (nI 1) 207) := snd_iinc dX2_ask_204 (by decide) (by decide)
theorem s_X2_ask_207 : Snd PG.nam M57 207 (m_goto 173) := snd_goto dX2_ask_207 (by decide)
theorem s_X2_ask_210 : Snd PG.nam M57 210 (m_aload 0 211) := snd_aload_n dX2_ask_210 rfl
theorem s_X2_ask_211 : Snd PG.nam M57 211 (m_aload 0 212) := snd_aload_n dX2_ask_211 rfl
theorem s_X2_ask_212 : Snd PG.nam M57 212 (m_getf [(1, 51)] 215) := snd_getf dX2_ask_212 fd_X2_311
theorem s_X2_ask_215 : Snd PG.nam M57 215 (m_ifz (fun x => if x = 0 then 218 else 222)) := snd_if_ne dX2_ask_215 (by decide)
theorem s_X2_ask_218 : Snd PG.nam M57 218 (m_const (.int (nI 1)) 219) := snd_iconst dX2_ask_218 (by decide)
theorem s_X2_ask_219 : Snd PG.nam M57 219 (m_goto 223) := snd_goto dX2_ask_219 (by decide)
theorem s_X2_ask_222 : Snd PG.nam M57 222 (m_const (.int (nI 0)) 223) := snd_iconst dX2_ask_222 (by decide)
theorem s_X2_ask_223 : Snd PG.nam M57 223 (m_const (.int (nI 2)) 224) := snd_iconst dX2_ask_223 (by decide)
theorem s_X2_ask_224 : Snd PG.nam M57 224 (m_callV false [(1, 43)] 2 227) := snd_callV (nam := PG.nam) (List.forall_mem_cons.mpr ⟨dr_V (ym := PG.nam 43) dX2_ask_224 (Or.inl w1612) mi_43 rfl (lw_all_tbl qs25), (fun q hq => absurd hq List.not_mem_nil)⟩) (by decide)
theorem s_X2_ask_227 : Snd PG.nam M57 227 (m_ifz (fun x => if x = 0 then 230 else 232)) := snd_if_ne dX2_ask_227 (by decide)
theorem s_X2_ask_230 : Snd PG.nam M57 230 (m_const (.int (nI 0)) 231) := snd_iconst dX2_ask_230 (by decide)
theorem s_X2_ask_231 : Snd PG.nam M57 231 (m_iret .int) := snd_iret dX2_ask_231 rfl
theorem s_X2_ask_232 : Snd PG.nam M57 232 (m_aload 0 233) := snd_aload_n dX2_ask_232 rfl
theorem s_X2_ask_233 : Snd PG.nam M57 233 (m_callV true [(1, 87)] 0 236) := snd_callV (nam := PG.nam) (List.forall_mem_cons.mpr ⟨dr_V (ym := PG.nam 87) dX2_ask_233 (Or.inl w1798) mi_87 rfl (lw_all_tbl qs58), (fun q hq => absurd hq List.not_mem_nil)⟩) (by decide)
theorem s_X2_ask_236 : Snd PG.nam M57 236 (m_aload 0 237) := snd_aload_n dX2_ask_236 rfl
theorem s_X2_ask_237 : Snd PG.nam M57 237 (m_getf [(1, 55)] 240) := snd_getf dX2_ask_237 fd_X2_358
theorem s_X2_ask_240 : Snd PG.nam M57 240 (m_iret .int) := snd_iret dX2_ask_240 rfl
theorem T57 : ∀ q ∈ S57, Snd PG.nam M57 q.1 q.2 := List.forall_mem_cons.mpr ⟨s_X2_ask_0, List.forall_mem_cons.mpr ⟨s_X2_ask_1, List.forall_mem_cons.mpr ⟨s_X2_ask_2, List.forall_mem_cons.mpr ⟨s_X2_ask_5, List.forall_mem_cons.mpr ⟨s_X2_ask_6, List.forall_mem_cons.mpr ⟨s_X2_ask_7, List.forall_mem_cons.mpr ⟨s_X2_ask_10, List.forall_mem_cons.mpr ⟨s_X2_ask_11, List.forall_mem_cons.mpr ⟨s_X2_ask_12, List.forall_mem_cons.mpr ⟨s_X2_ask_15, List.forall_mem_cons.mpr ⟨s_X2_ask_16, List.forall_mem_cons.mpr ⟨s_X2_ask_17, List.forall_mem_cons.mpr ⟨s_X2_ask_20, List.forall_mem_cons.mpr ⟨s_X2_ask_21, List.forall_mem_cons.mpr ⟨s_X2_ask_22, List.forall_mem_cons.mpr ⟨s_X2_ask_25, List.forall_mem_cons.mpr ⟨s_X2_ask_26, List.forall_mem_cons.mpr ⟨s_X2_ask_27, List.forall_mem_cons.mpr ⟨s_X2_ask_30, List.forall_mem_cons.mpr ⟨s_X2_ask_31, List.forall_mem_cons.mpr ⟨s_X2_ask_32, List.forall_mem_cons.mpr ⟨s_X2_ask_35, List.forall_mem_cons.mpr ⟨s_X2_ask_36, List.forall_mem_cons.mpr ⟨s_X2_ask_37, List.forall_mem_cons.mpr ⟨s_X2_ask_40, List.forall_mem_cons.mpr ⟨s_X2_ask_41, List.forall_mem_cons.mpr ⟨s_X2_ask_42, List.forall_mem_cons.mpr ⟨s_X2_ask_45, List.forall_mem_cons.mpr ⟨s_X2_ask_46, List.forall_mem_cons.mpr ⟨s_X2_ask_47, List.forall_mem_cons.mpr ⟨s_X2_ask_50, List.forall_mem_cons.mpr ⟨s_X2_ask_51, List.forall_mem_cons.mpr ⟨s_X2_ask_52, List.forall_mem_cons.mpr ⟨s_X2_ask_55, List.forall_mem_cons.mpr ⟨s_X2_ask_56, List.forall_mem_cons.mpr ⟨s_X2_ask_59, List.forall_mem_cons.mpr ⟨s_X2_ask_62, List.forall_mem_cons.mpr ⟨s_X2_ask_63, List.forall_mem_cons.mpr ⟨s_X2_ask_64, List.forall_mem_cons.mpr ⟨s_X2_ask_67, List.forall_mem_cons.mpr ⟨s_X2_ask_68, List.forall_mem_cons.mpr ⟨s_X2_ask_69, List.forall_mem_cons.mpr ⟨s_X2_ask_72, List.forall_mem_cons.mpr ⟨s_X2_ask_73, List.forall_mem_cons.mpr ⟨s_X2_ask_74, List.forall_mem_cons.mpr ⟨s_X2_ask_77, List.forall_mem_cons.mpr ⟨s_X2_ask_78, List.forall_mem_cons.mpr ⟨s_X2_ask_81, List.forall_mem_cons.mpr ⟨s_X2_ask_82, List.forall_mem_cons.mpr ⟨s_X2_ask_85, List.forall_mem_cons.mpr ⟨s_X2_ask_86, List.forall_mem_cons.mpr ⟨s_X2_ask_87, List.forall_mem_cons.mpr ⟨s_X2_ask_90, List.forall_mem_cons.mpr ⟨s_X2_ask_91, List.forall_mem_cons.mpr ⟨s_X2_ask_92, List.forall_mem_cons.mpr ⟨s_X2_ask_95, List.forall_mem_cons.mpr ⟨s_X2_ask_98, List.forall_mem_cons.mpr ⟨s_X2_ask_99, List.forall_mem_cons.mpr ⟨s_X2_ask_100, List.forall_mem_cons.mpr ⟨s_X2_ask_103, List.forall_mem_cons.mpr ⟨s_X2_ask_106, List.forall_mem_cons.mpr ⟨s_X2_ask_107, List.forall_mem_cons.mpr ⟨s_X2_ask_110, List.forall_mem_cons.mpr ⟨s_X2_ask_111, List.forall_mem_cons.mpr ⟨s_X2_ask_112, List.forall_mem_cons.mpr ⟨s_X2_ask_115, List.forall_mem_cons.mpr ⟨s_X2_ask_118, List.forall_mem_cons.mpr ⟨s_X2_ask_119, List.forall_mem_cons.mpr ⟨s_X2_ask_120, List.forall_mem_cons.mpr ⟨s_X2_ask_121, List.forall_mem_cons.mpr ⟨s_X2_ask_122, List.forall_mem_cons.mpr ⟨s_X2_ask_123, List.forall_mem_cons.mpr ⟨s_X2_ask_124, List.forall_mem_cons.mpr ⟨s_X2_ask_127, List.forall_mem_cons.mpr ⟨s_X2_ask_130, List.forall_mem_cons.mpr ⟨s_X2_ask_131, List.forall_mem_cons.mpr ⟨s_X2_ask_134, List.forall_mem_cons.mpr ⟨s_X2_ask_135, List.forall_mem_cons.mpr ⟨s_X2_ask_136, List.forall_mem_cons.mpr ⟨s_X2_ask_139, List.forall_mem_cons.mpr ⟨s_X2_ask_140, List.forall_mem_cons.mpr ⟨s_X2_ask_141, List.forall_mem_cons.mpr ⟨s_X2_ask_142, List.forall_mem_cons.mpr ⟨s_X2_ask_145, List.forall_mem_cons.mpr ⟨s_X2_ask_148, List.forall_mem_cons.mpr ⟨s_X2_ask_149, List.forall_mem_cons.mpr ⟨s_X2_ask_150, List.forall_mem_cons.mpr ⟨s_X2_ask_153, List.forall_mem_cons.mpr ⟨s_X2_ask_156, List.forall_mem_cons.mpr ⟨s_X2_ask_157, List.forall_mem_cons.mpr ⟨s_X2_ask_158, List.forall_mem_cons.mpr ⟨s_X2_ask_161, List.forall_mem_cons.mpr ⟨s_X2_ask_162, List.forall_mem_cons.mpr ⟨s_X2_ask_163, List.forall_mem_cons.mpr ⟨s_X2_ask_166, List.forall_mem_cons.mpr ⟨s_X2_ask_167, List.forall_mem_cons.mpr ⟨s_X2_ask_168, List.forall_mem_cons.mpr ⟨s_X2_ask_171, List.forall_mem_cons.mpr ⟨s_X2_ask_172, List.forall_mem_cons.mpr ⟨s_X2_ask_173, List.forall_mem_cons.mpr ⟨s_X2_ask_174, List.forall_mem_cons.mpr ⟨s_X2_ask_175, List.forall_mem_cons.mpr ⟨s_X2_ask_178, List.forall_mem_cons.mpr ⟨s_X2_ask_181, List.forall_mem_cons.mpr ⟨s_X2_ask_182, List.forall_mem_cons.mpr ⟨s_X2_ask_185, List.forall_mem_cons.mpr ⟨s_X2_ask_188, List.forall_mem_cons.mpr ⟨s_X2_ask_189, List.forall_mem_cons.mpr ⟨s_X2_ask_190, List.forall_mem_cons.mpr ⟨s_X2_ask_193, List.forall_mem_cons.mpr ⟨s_X2_ask_194, List.forall_mem_cons.mpr ⟨s_X2_ask_195, List.forall_mem_cons.mpr ⟨s_X2_ask_196, List.forall_mem_cons.mpr ⟨s_X2_ask_199, List.forall_mem_cons.mpr ⟨s_X2_ask_200, List.forall_mem_cons.mpr ⟨s_X2_ask_201, List.forall_mem_cons.mpr ⟨s_X2_ask_204, List.forall_mem_cons.mpr ⟨s_X2_ask_207, List.forall_mem_cons.mpr ⟨s_X2_ask_210, List.forall_mem_cons.mpr ⟨s_X2_ask_211, List.forall_mem_cons.mpr ⟨s_X2_ask_212, List.forall_mem_cons.mpr ⟨s_X2_ask_215, List.forall_mem_cons.mpr ⟨s_X2_ask_218, List.forall_mem_cons.mpr ⟨s_X2_ask_219, List.forall_mem_cons.mpr ⟨s_X2_ask_222, List.forall_mem_cons.mpr ⟨s_X2_ask_223, List.forall_mem_cons.mpr ⟨s_X2_ask_224, List.forall_mem_cons.mpr ⟨s_X2_ask_227, List.forall_mem_cons.mpr ⟨s_X2_ask_230, List.forall_mem_cons.mpr ⟨s_X2_ask_231, List.forall_mem_cons.mpr ⟨s_X2_ask_232, List.forall_mem_cons.mpr ⟨s_X2_ask_233, List.forall_mem_cons.mpr ⟨s_X2_ask_236, List.forall_mem_cons.mpr ⟨s_X2_ask_237, List.forall_mem_cons.mpr ⟨s_X2_ask_240, (fun q hq => absurd hq List.not_mem_nil)⟩⟩⟩⟩⟩⟩⟩⟩⟩⟩⟩⟩⟩⟩⟩⟩⟩⟩⟩⟩⟩⟩⟩⟩⟩⟩⟩⟩⟩⟩⟩⟩⟩⟩⟩⟩⟩⟩⟩⟩⟩⟩⟩⟩⟩⟩⟩⟩⟩⟩⟩⟩⟩⟩⟩⟩⟩⟩⟩⟩⟩⟩⟩⟩⟩⟩⟩⟩⟩⟩⟩⟩⟩⟩⟩⟩⟩⟩⟩⟩⟩⟩⟩⟩⟩⟩⟩⟩⟩⟩⟩⟩⟩⟩⟩⟩⟩⟩⟩⟩⟩⟩⟩⟩⟩⟩⟩⟩⟩⟩⟩⟩⟩⟩⟩⟩⟩⟩⟩⟩⟩⟩⟩⟩⟩⟩⟩⟩⟩⟩⟩⟩⟩⟩⟩
theorem s_X2_next_0 : Snd PG.nam M58 0 (m_aload 0 1) := snd_aload_n dX2_next_0 rfl
theorem s_X2_next_1 : Snd PG.nam M58 1 (m_aload 0 2) := snd_aload_n dX2_next_1 rfl
theorem s_X2_next_2 : Snd PG.nam M58 2 (m_getf [(1, 18)] 5) := snd_getf dX2_next_2 fd_X2_172
theorem s_X2_next_5 : Snd PG.nam M58 5 (m_putf [(1, 19)] .int 8) := snd_putf dX2_next_5 fd_X2_175
theorem s_X2_next_8 : Snd PG.nam M58 8 (m_aload 0 9) := snd_aload_n dX2_next_8 rfl
theorem s_X2_next_9 : Snd PG.nam M58 9 (m_getf [(1, 18)] 12) := snd_getf dX2_next_9 fd_X2_172
theorem s_X2_next_12 : Snd PG.nam M58 12 (m_istore 1 13) := snd_istore_n dX2_next_12 rfl (by decide)
theorem s_X2_next_13 : Snd PG.nam M58 13 (m_iload 1 14) := snd_iload_n dX2_next_13 rfl
theorem s_X2_next_14 : Snd PG.nam M58 14 (m_aload 0 15) := snd_aload_n dX2_next_14 rfl
theorem s_X2_next_15 : Snd PG.nam M58 15 (m_getf [(1, 13)] 18) := snd_getf dX2_next_15 fd_X2_161
theorem s_X2_next_18 : Snd PG.nam M58 18 (m_icmp (fun x z => if x < z then 21 else 38)) := snd_icmp_ge dX2_next_18 (by decide)
theorem s_X2_next_21 : Snd PG.nam M58 21 (m_aload 0 22) := snd_aload_n dX2_next_21 rfl
theorem s_X2_next_22 : Snd PG.nam M58 22 (m_getf [(1, 12)] 25) := snd_getf dX2_next_22 fd_X2_27
theorem s_X2_next_25 : Snd PG.nam M58 25 (m_iload 1 26) := snd_iload_n dX2_next_25 rfl
theorem s_X2_next_26 : Snd PG.nam M58 26 (m_iald [.int] 27) := snd_iald dX2_next_26
theorem s_X2_next_27 : Snd PG.nam M58 27 (m_const (.int (nI 32)) 29) := snd_bipush dX2_next_27 (by decide)
theorem s_X2_next_29 : Snd PG.nam M58 29 (m_icmp (fun x z => if x = z then 32 else 38)) := snd_icmp_ne dX2_next_29 (by decide)
theorem s_X2_next_32 : Snd PG.nam M58 32 (m_iinc 1 (nI 1) 35) := snd_iinc dX2_next_32 (by decide) (by decide)
theorem s_X2_next_35 : Snd PG.nam M58 35 (m_goto 13) := snd_goto dX2_next_35 (by decide)
theorem s_X2_next_38 : Snd PG.nam M58 38 (m_aload 0 39) := snd_aload_n dX2_next_38 rfl
theorem s_X2_next_39 : Snd PG.nam M58 39 (m_iload 1 40) := snd_iload_n dX2_next_39 rfl
theorem s_X2_next_40 : Snd PG.nam M58 40 (m_putf [(1, 17)] .int 43) := snd_putf dX2_next_40 fd_X2_178
theorem s_X2_next_43 : Snd PG.nam M58 43 (m_aload 0 44) := snd_aload_n dX2_next_43 rfl
theorem s_X2_next_44 : Snd PG.nam M58 44 (m_const (.int (nI 0)) 45) := snd_iconst dX2_next_44 (by decide)
theorem s_X2_next_45 : Snd PG.nam M58 45 (m_putf [(1, 15)] .int 48) := snd_putf dX2_next_45 fd_X2_181
theorem s_X2_next_48 : Snd PG.nam M58 48 (m_iload 1 49) := snd_iload_n dX2_next_48 rfl
theorem s_X2_next_49 : Snd PG.nam M58 49 (m_aload 0 50) := snd_aload_n dX2_next_49 rfl
theorem s_X2_next_50 : Snd PG.nam M58 50 (m_getf [(1, 13)] 53) := snd_getf dX2_next_50 fd_X2_161
theorem s_X2_next_53 : Snd PG.nam M58 53 (m_icmp (fun x z => if x = z then 56 else 57)) := snd_icmp_ne dX2_next_53 (by decide)
theorem s_X2_next_56 : Snd PG.nam M58 56 (m_vret) := snd_vret dX2_next_56 rfl
theorem s_X2_next_57 : Snd PG.nam M58 57 (m_aload 0 58) := snd_aload_n dX2_next_57 rfl
theorem s_X2_next_58 : Snd PG.nam M58 58 (m_getf [(1, 12)] 61) := snd_getf dX2_next_58 fd_X2_27
theorem s_X2_next_61 : Snd PG.nam M58 61 (m_iload 1 62) := snd_iload_n dX2_next_61 rfl
theorem s_X2_next_62 : Snd PG.nam M58 62 (m_iald [.int] 63) := snd_iald dX2_next_62
theorem s_X2_next_63 : Snd PG.nam M58 63 (m_istore 2 64) := snd_istore_n dX2_next_63 rfl (by decide)
theorem s_X2_next_64 : Snd PG.nam M58 64 (m_aload 0 65) := snd_aload_n dX2_next_64 rfl
theorem s_X2_next_65 : Snd PG.nam M58 65 (m_iload 1 66) := snd_iload_n dX2_next_65 rfl
theorem s_X2_next_66 : Snd PG.nam M58 66 (m_const (.int (nI 1)) 67) := snd_iconst dX2_next_66 (by decide)
theorem s_X2_next_67 : Snd PG.nam M58 67 (m_ibin (fun a b => a + b) 68) := snd_iadd dX2_next_67
theorem s_X2_next_68 : Snd PG.nam M58 68 (m_putf [(1, 18)] .int 71) := snd_putf dX2_next_68 fd_X2_172
theorem s_X2_next_71 : Snd PG.nam M58 71 (m_iload 2 72) := snd_iload_n dX2_next_71 rfl
theorem s_X2_next_72 : Snd PG.nam M58 72 (m_callS false 59 1 75) := snd_callS (nam := PG.nam) (yy := 59) dX2_next_72 (Or.inl w1676) w1677 ⟨by decide, by decide +kernel⟩ (by decide)
theorem s_X2_next_75 : Snd PG.nam M58 75 (m_ifz (fun x => if x = 0 then 110 else 78)) := snd_if_eq dX2_next_75 (by decide)
theorem s_X2_next_78 : Snd PG.nam M58 78 (m_aload 0 79) := snd_aload_n dX2_next_78 rfl
theorem s_X2_next_79 : Snd PG.nam M58 79 (m_aload 0 80) := snd_aload_n dX2_next_79 rfl
theorem s_X2_next_80 : Snd PG.nam M58 80 (m_iload 1 81) := snd_iload_n dX2_next_80 rfl
theorem s_X2_next_81 : Snd PG.nam M58 81 (m_callV false [(1, 60)] 1 84) := snd_callV (nam := PG.nam) (List.forall_mem_cons.mpr ⟨dr_V (ym := PG.nam 60) dX2_next_81 (Or.inl w1679) mi_60 rfl (lw_all_tbl qs33), (fun q hq => absurd hq List.not_mem_nil)⟩) (by decide)
theorem s_X2_next_84 : Snd PG.nam M58 84 (m_putf [(1, 18)] .int 87) := snd_putf dX2_next_84 fd_X2_172
theorem s_X2_next_87 : Snd PG.nam M58 87 (m_aload 0 88) := snd_aload_n dX2_next_87 rfl
theorem s_X2_next_88 : Snd PG.nam M58 88 (m_aload 0 89) := snd_aload_n dX2_next_88 rfl
theorem s_X2_next_89 : Snd PG.nam M58 89 (m_getf [(1, 18)] 92) := snd_getf dX2_next_89 fd_X2_172
theorem s_X2_next_92 : Snd PG.nam M58 92 (m_iload 1 93) := snd_iload_n dX2_next_92 rfl
theorem s_X2_next_93 : Snd PG.nam M58 93 (m_ibin (fun a b => a - b) 94) := snd_isub dX2_next_93
theorem s_X2_next_94 : Snd PG.nam M58 94 (m_const (.int (nI 8)) 96) := snd_bipush dX2_next_94 (by decide)
theorem s_X2_next_96 : Snd PG.nam M58 96 (m_icmp (fun x z => if z < x then 99 else 103)) := snd_icmp_le dX2_next_96 (by decide)
theorem s_X2_next_99 : Snd PG.nam M58 99 (m_const (.int (nI 5)) 100) := snd_iconst dX2_next_99 (by decide)
theorem s_X2_next_100 : Snd PG.nam M58 100 (m_goto 104) := snd_goto dX2_next_100 (by decide)
theorem s_X2_next_103 : Snd PG.nam M58 103 (m_const (.int (nI 1)) 104) := snd_iconst dX2_next_103 (by decide)
theorem s_X2_next_104 : Snd PG.nam M58 104 (m_putf [(1, 15)] .int 107) := snd_putf dX2_next_104 fd_X2_181
theorem s_X2_next_107 : Snd PG.nam M58 107 (m_goto 315) := snd_goto dX2_next_107 (by decide)
theorem s_X2_next_110 : Snd PG.nam M58 110 (m_iload 2 111) := snd_iload_n dX2_next_110 rfl
theorem s_X2_next_111 : Snd PG.nam M58 111 (m_callS false 61 1 114) := snd_callS (nam := PG.nam) (yy := 61) dX2_next_111 (Or.inl w1683) w1684 ⟨by decide, by decide +kernel⟩ (by decide)
theorem s_X2_next_114 : Snd PG.nam M58 114 (m_ifz (fun x => if x = 0 then 212 else 117)) := snd_if_eq dX2_next_114 (by decide)
theorem s_X2_next_117 : Snd PG.nam M58 117 (m_aload 0 118) := snd_aload_n dX2_next_117 rfl
theorem s_X2_next_118 : Snd PG.nam M58 118 (m_const (.long (0 : Int64)) 119) := snd_lconst dX2_next_118 (by decide)
theorem s_X2_next_119 : Snd PG.nam M58 119 (m_putf [(1, 16)] .long 122) := snd_putf dX2_next_119 fd_X2_164
theorem s_X2_next_122 : Snd PG.nam M58 122 (m_iload 1 123) := snd_iload_n dX2_next_122 rfl
theorem s_X2_next_123 : Snd PG.nam M58 123 (m_aload 0 124) := snd_aload_n dX2_next_123 rfl
theorem s_X2_next_124 : Snd PG.nam M58 124 (m_getf [(1, 13)] 127) := snd_getf dX2_next_124 fd_X2_161
theorem s_X2_next_127 : Snd PG.nam M58 127 (m_icmp (fun x z => if x < z then 130 else 182)) := snd_icmp_ge dX2_next_127 (by decide)
theorem s_X2_next_130 : Snd PG.nam M58 130 (m_aload 0 131) := snd_aload_n dX2_next_130 rfl
theorem s_X2_next_131 : Snd PG.nam M58 131 (m_getf [(1, 12)] 134) := snd_getf dX2_next_131 fd_X2_27
theorem s_X2_next_134 : Snd PG.nam M58 134 (m_iload 1 135) := snd_iload_n dX2_next_134 rfl
theorem s_X2_next_135 : Snd PG.nam M58 135 (m_iald [.int] 136) := snd_iald dX2_next_135
theorem s_X2_next_136 : Snd PG.nam M58 136 (m_callS false 61 1 139) := snd_callS (nam := PG.nam) (yy := 61) dX2_next_136 (Or.inl w1683) w1684 ⟨by decide, by decide +kernel⟩ (by decide)
theorem s_X2_next_139 : Snd PG.nam M58 139 (m_ifz (fun x => if x = 0 then 182 else 142)) := snd_if_eq dX2_next_139 (by decide)
theorem s_X2_next_142 : Snd PG.nam M58 142 (m_iload 1 143) := snd_iload_n dX2_next_142 rfl
theorem s_X2_next_143 : Snd PG.nam M58 143 (m_aload 0 144) := snd_aload_n dX2_next_143 rfl
theorem s_X2_next_144 : Snd PG.nam M58 144 (m_getf [(1, 17)] 147) := snd_getf dX2_next_144 fd_X2_178
theorem s_X2_next_147 : Snd PG.nam M58 147 (m_ibin (fun a b => a - b) 148) := snd_isub dX2_next_147
theorem s_X2_next_148 : Snd PG.nam M58 148 (m_const (.int (nI 4)) 149) := snd_iconst dX2_next_148 (by decide)
theorem s_X2_next_149 : Snd PG.nam M58 149 (m_icmp (fun x z => if x < z then 152 else 176)) := snd_icmp_ge dX2_next_149 (by decide)
theorem s_X2_next_152 : Snd PG.nam M58 152 (m_aload 0 153) := snd_aload_n dX2_next_152 rfl
theorem s_X2_next_153 : Snd PG.nam M58 153 (m_const (.long (10 : Int64)) 156) := snd_ldc2 dX2_next_153 w1686
theorem s_X2_next_156 : Snd PG.nam M58 156 (m_aload 0 157) := snd_aload_n dX2_next_156 rfl
theorem s_X2_next_157 : Snd PG.nam M58 157 (m_getf [(1, 16)] 160) := snd_getf dX2_next_157 fd_X2_164
theorem s_X2_next_160 : Snd PG.nam M58 160 (m_lbin (fun a b => a * b) 161) := snd_lmul dX2_next_160
theorem s_X2_next_161 : Snd PG.nam M58 161 (m_aload 0 162) := snd_aload_n dX2_next_161 rfl
theorem s_X2_next_162 : Snd PG.nam M58 162 (m_getf [(1, 12)] 165) := snd_getf dX2_next_162 fd_X2_27
theorem s_X2_next_165 : Snd PG.nam M58 165 (m_iload 1 166) := snd_iload_n dX2_next_165 rfl
theorem s_X2_next_166 : Snd PG.nam M58 166 (m_iald [.int] 167) := snd_iald dX2_next_166
theorem s_X2_next_167 : Snd PG.nam M58 167 (m_i2l 168) := snd_i2l dX2_next_167
theorem s_X2_next_168 : Snd PG.nam M58 168 (m_lbin (fun a b => a + b) 169) := snd_ladd dX2_next_168
theorem s_X2_next_169 : Snd PG.nam M58 169 (m_const (.long (48 : Int64)) 172) := snd_ldc2 dX2_next_169 w1687
theorem s_X2_next_172 : Snd PG.nam M58 172 (m_lbin (fun a b => a - b) 173) := snd_lsub dX2_next_172
theorem s_X2_next_173 : Snd PG.nam M58 173 (m_putf [(1, 16)] .long 176) := snd_putf dX2_next_173 fd_X2_164
theorem s_X2_next_176 : Snd PG.nam M58 176 (m_iinc 1 (nI 1) 179) := snd_iinc dX2_next_176 (by decide) (by decide)
theorem s_X2_next_179 : Snd PG.nam M58 179 (m_goto 122) := snd_goto dX2_next_179 (by decide)
theorem s_X2_next_182 : Snd PG.nam M58 182 (m_aload 0 183) := snd_aload_n dX2_next_182 rfl
theorem s_X2_next_183 : Snd PG.nam M58 183 (m_iload 1 184) := snd_iload_n dX2_next_183 rfl
theorem s_X2_next_184 : Snd PG.nam M58 184 (m_putf [(1, 18)] .int 187) := snd_putf dX2_next_184 fd_X2_172
theorem s_X2_next_187 : Snd PG.nam M58 187 (m_aload 0 188) := snd_aload_n dX2_next_187 rfl
theorem s_X2_next_188 : Snd PG.nam M58 188 (m_aload 0 189) := snd_aload_n dX2_next_188 rfl
theorem s_X2_next_189 : Snd PG.nam M58 189 (m_getf [(1, 18)] 192) := snd_getf dX2_next_189 fd_X2_172
theorem s_X2_next_192 : Snd PG.nam M58 192 (m_aload 0 193) := snd_aload_n dX2_next_192 rfl
theorem s_X2_next_193 : Snd PG.nam M58 193 (m_getf [(1, 17)] 196) := snd_getf dX2_next_193 fd_X2_178
theorem s_X2_next_196 : Snd PG.nam M58 196 (m_ibin (fun a b => a - b) 197) := snd_isub dX2_next_196
theorem s_X2_next_197 : Snd PG.nam M58 197 (m_const (.int (nI 4)) 198) := snd_iconst dX2_next_197 (by decide)
theorem s_X2_next_198 : Snd PG.nam M58 198 (m_icmp (fun x z => if z < x then 201 else 205)) := snd_icmp_le dX2_next_198 (by decide)
theorem s_X2_next_201 : Snd PG.nam M58 201 (m_const (.int (nI 5)) 202) := snd_iconst dX2_next_201 (by decide)
theorem s_X2_next_202 : Snd PG.nam M58 202 (m_goto 206) := snd_goto dX2_next_202 (by decide)
theorem s_X2_next_205 : Snd PG.nam M58 205 (m_const (.int (nI 2)) 206) := snd_iconst dX2_next_205 (by decide)
theorem s_X2_next_206 : Snd PG.nam M58 206 (m_putf [(1, 15)] .int 209) := snd_putf dX2_next_206 fd_X2_181
theorem s_X2_next_209 : Snd PG.nam M58 209 (m_goto 315) := snd_goto dX2_next_209 (by decide)
theorem s_X2_next_212 : Snd PG.nam M58 212 (m_iload 2 213) := snd_iload_n dX2_next_212 rfl
theorem s_X2_next_213 : Snd PG.nam M58 213 (m_const (.int (nI 63)) 215) := snd_bipush dX2_next_213 (by decide)
theorem s_X2_next_215 : Snd PG.nam M58 215 (m_icmp (fun x z => if x = z then 218 else 258)) := snd_icmp_ne dX2_next_215 (by decide)
theorem s_X2_next_218 : Snd PG.nam M58 218 (m_aload 0 219) := snd_aload_n dX2_next_218 rfl
theorem s_X2_next_219 : Snd PG.nam M58 219 (m_aload 0 220) := snd_aload_n dX2_next_219 rfl
theorem s_X2_next_220 : Snd PG.nam M58 220 (m_iload 1 221) := snd_iload_n dX2_next_220 rfl
theorem s_X2_next_221 : Snd PG.nam M58 221 (m_const (.int (nI 1)) 222) := snd_iconst dX2_next_221 (by decide)
theorem s_X2_next_222 : Snd PG.nam M58 222 (m_ibin (fun a b => a + b) 223) := snd_iadd dX2_next_222
theorem s_X2_next_223 : Snd PG.nam M58 223 (m_callV false [(1, 60)] 1 226) := snd_callV (nam := PG.nam) (List.forall_mem_cons.mpr ⟨dr_V (ym := PG.nam 60) dX2_next_223 (Or.inl w1679) mi_60 rfl (lw_all_tbl qs33), (fun q hq => absurd hq List.not_mem_nil)⟩) (by decide)
theorem s_X2_next_226 : Snd PG.nam M58 226 (m_putf [(1, 18)] .int 229) := snd_putf dX2_next_226 fd_X2_172
theorem s_X2_next_229 : Snd PG.nam M58 229 (m_aload 0 230) := snd_aload_n dX2_next_229 rfl
theorem s_X2_next_230 : Snd PG.nam M58 230 (m_aload 0 231) := snd_aload_n dX2_next_230 rfl
theorem s_X2_next_231 : Snd PG.nam M58 231 (m_getf [(1, 18)] 234) := snd_getf dX2_next_231 fd_X2_172
theorem s_X2_next_234 : Snd PG.nam M58 234 (m_iload 1 235) := snd_iload_n dX2_next_234 rfl
theorem s_X2_next_235 : Snd PG.nam M58 235 (m_ibin (fun a b => a - b) 236) := snd_isub dX2_next_235
theorem s_X2_next_236 : Snd PG.nam M58 236 (m_const (.int (nI 1)) 237) := snd_iconst dX2_next_236 (by decide)
theorem s_X2_next_237 : Snd PG.nam M58 237 (m_ibin (fun a b => a - b) 238) := snd_isub dX2_next_237
theorem s_X2_next_238 : Snd PG.nam M58 238 (m_const (.int (nI 1)) 239) := snd_iconst dX2_next_238 (by decide)
theorem s_X2_next_239 : Snd PG.nam M58 239 (m_const (.int (nI 8)) 241) := snd_bipush dX2_next_239 (by decide)
theorem s_X2_next_241 : Snd PG.nam M58 241 (m_callS false 41 3 244) := snd_callS (nam := PG.nam) (yy := 41) dX2_next_241 (Or.inl w1604) w1605 ⟨by decide, by decide +kernel⟩ (by decide)
theorem s_X2_next_244 : Snd PG.nam M58 244 (m_ifz (fun x => if x = 0 then 251 else 247)) := snd_if_eq dX2_next_244 (by decide)
theorem s_X2_next_247 : Snd PG.nam M58 247 (m_const (.int (nI 3)) 248) := snd_iconst dX2_next_247 (by decide)
theorem s_X2_next_248 : Snd PG.nam M58 248 (m_goto 252) := snd_goto dX2_next_248 (by decide)
theorem s_X2_next_251 : Snd PG.nam M58 251 (m_const (.int (nI 5)) 252) := snd_iconst dX2_next_251 (by decide)
theorem s_X2_next_252 : Snd PG.nam M58 252 (m_putf [(1, 15)] .int 255) := snd_putf dX2_next_252 fd_X2_181
theorem s_X2_next_255 : Snd PG.nam M58 255 (m_goto 315) := snd_goto dX2_next_255 (by decide)
theorem s_X2_next_258 : Snd PG.nam M58 258 (m_aload 0 259) := snd_aload_n dX2_next_258 rfl
theorem s_X2_next_259 : Snd PG.nam M58 259 (m_iload 2 260) := snd_iload_n dX2_next_259 rfl
theorem s_X2_next_260 : Snd PG.nam M58 260 (m_i2l 261) := snd_i2l dX2_next_260
theorem s_X2_next_261 : Snd PG.nam M58 261 (m_putf [(1, 16)] .long 264) := snd_putf dX2_next_261 fd_X2_164
theorem s_X2_next_264 : Snd PG.nam M58 264 (m_aload 0 265) := snd_aload_n dX2_next_264 rfl
theorem s_X2_next_265 : Snd PG.nam M58 265 (m_iload 2 266) := snd_iload_n dX2_next_265 rfl
theorem s_X2_next_266 : Snd PG.nam M58 266 (m_const (.int (nI 123)) 268) := snd_bipush dX2_next_266 (by decide)
theorem s_X2_next_268 : Snd PG.nam M58 268 (m_icmp (fun x z => if x = z then 307 else 271)) := snd_icmp_eq dX2_next_268 (by decide)
theorem s_X2_next_271 : Snd PG.nam M58 271 (m_iload 2 272) := snd_iload_n dX2_next_271 rfl
theorem s_X2_next_272 : Snd PG.nam M58 272 (m_const (.int (nI 125)) 274) := snd_bipush dX2_next_272 (by decide)
theorem s_X2_next_274 : Snd PG.nam M58 274 (m_icmp (fun x z => if x = z then 307 else 277)) := snd_icmp_eq dX2_next_274 (by decide)
theorem s_X2_next_277 : Snd PG.nam M58 277 (m_iload 2 278) := snd_iload_n dX2_next_277 rfl
theorem s_X2_next_278 : Snd PG.nam M58 278 (m_const (.int (nI 46)) 280) := snd_bipush dX2_next_278 (by decide)
theorem s_X2_next_280 : Snd PG.nam M58 280 (m_icmp (fun x z => if x = z then 307 else 283)) := snd_icmp_eq dX2_next_280 (by decide)
theorem s_X2_next_283 : Snd PG.nam M58 283 (m_iload 2 284) := snd_iload_n dX2_next_283 rfl
theorem s_X2_next_284 : Snd PG.nam M58 284 (m_const (.int (nI 61)) 286) := snd_bipush dX2_next_284 (by decide)
theorem s_X2_next_286 : Snd PG.nam M58 286 (m_icmp (fun x z => if x = z then 307 else 289)) := snd_icmp_eq dX2_next_286 (by decide)
theorem s_X2_next_289 : Snd PG.nam M58 289 (m_iload 2 290) := snd_iload_n dX2_next_289 rfl
theorem s_X2_next_290 : Snd PG.nam M58 290 (m_const (.int (nI 60)) 292) := snd_bipush dX2_next_290 (by decide)
theorem s_X2_next_292 : Snd PG.nam M58 292 (m_icmp (fun x z => if x = z then 307 else 295)) := snd_icmp_eq dX2_next_292 (by decide)
theorem s_X2_next_295 : Snd PG.nam M58 295 (m_iload 2 296) := snd_iload_n dX2_next_295 rfl
theorem s_X2_next_296 : Snd PG.nam M58 296 (m_const (.int (nI 62)) 298) := snd_bipush dX2_next_296 (by decide)
theorem s_X2_next_298 : Snd PG.nam M58 298 (m_icmp (fun x z => if x = z then 307 else 301)) := snd_icmp_eq dX2_next_298 (by decide)
theorem s_X2_next_301 : Snd PG.nam M58 301 (m_iload 2 302) := snd_iload_n dX2_next_301 rfl
theorem s_X2_next_302 : Snd PG.nam M58 302 (m_const (.int (nI 33)) 304) := snd_bipush dX2_next_302 (by decide)
theorem s_X2_next_304 : Snd PG.nam M58 304 (m_icmp (fun x z => if x = z then 307 else 311)) := snd_icmp_ne dX2_next_304 (by decide)
theorem s_X2_next_307 : Snd PG.nam M58 307 (m_const (.int (nI 4)) 308) := snd_iconst dX2_next_307 (by decide)
theorem s_X2_next_308 : Snd PG.nam M58 308 (m_goto 312) := snd_goto dX2_next_308 (by decide)
theorem s_X2_next_311 : Snd PG.nam M58 311 (m_const (.int (nI 5)) 312) := snd_iconst dX2_next_311 (by decide)
theorem s_X2_next_312 : Snd PG.nam M58 312 (m_putf [(1, 15)] .int 315) := snd_putf dX2_next_312 fd_X2_181
theorem s_X2_next_315 : Snd PG.nam M58 315 (m_vret) := snd_vret dX2_next_315 rfl
theorem T58 : ∀ q ∈ S58, Snd PG.nam M58 q.1 q.2 := List.forall_mem_cons.mpr ⟨s_X2_next_0, List.forall_mem_cons.mpr ⟨s_X2_next_1, List.forall_mem_cons.mpr ⟨s_X2_next_2, List.forall_mem_cons.mpr ⟨s_X2_next_5, List.forall_mem_cons.mpr ⟨s_X2_next_8, List.forall_mem_cons.mpr ⟨s_X2_next_9, List.forall_mem_cons.mpr ⟨s_X2_next_12, List.forall_mem_cons.mpr ⟨s_X2_next_13, List.forall_mem_cons.mpr ⟨s_X2_next_14, List.forall_mem_cons.mpr ⟨s_X2_next_15, List.forall_mem_cons.mpr ⟨s_X2_next_18, List.forall_mem_cons.mpr ⟨s_X2_next_21, List.forall_mem_cons.mpr ⟨s_X2_next_22, List.forall_mem_cons.mpr ⟨s_X2_next_25, List.forall_mem_cons.mpr ⟨s_X2_next_26, List.forall_mem_cons.mpr ⟨s_X2_next_27, List.forall_mem_cons.mpr ⟨s_X2_next_29, List.forall_mem_cons.mpr ⟨s_X2_next_32, List.forall_mem_cons.mpr ⟨s_X2_next_35, List.forall_mem_cons.mpr ⟨s_X2_next_38, List.forall_mem_cons.mpr ⟨s_X2_next_39, List.forall_mem_cons.mpr ⟨s_X2_next_40, List.forall_mem_cons.mpr ⟨s_X2_next_43, List.forall_mem_cons.mpr ⟨s_X2_next_44, List.forall_mem_cons.mpr ⟨s_X2_next_45, List.forall_mem_cons.mpr ⟨s_X2_next_48, List.forall_mem_cons.mpr ⟨s_X2_next_49, List.forall_mem_cons.mpr ⟨s_X2_next_50, List.forall_mem_cons.mpr ⟨s_X2_next_53, List.forall_mem_cons.mpr ⟨s_X2_next_56, List.forall_mem_cons.mpr ⟨s_X2_next_57, List.forall_mem_cons.mpr ⟨s_X2_next_58, List.forall_mem_cons.mpr ⟨s_X2_next_61, List.forall_mem_cons.mpr ⟨s_X2_next_62, List.forall_mem_cons.mpr ⟨s_X2_next_63, List.forall_mem_cons.mpr ⟨s_X2_next_64, List.forall_mem_cons.mpr ⟨s_X2_next_65, List.forall_mem_cons.mpr ⟨s_X2_next_66, List.forall_mem_cons.mpr ⟨s_X2_next_67, List.forall_mem_cons.mpr ⟨s_X2_next_68, List.forall_mem_cons.mpr ⟨s_X2_next_71, List.forall_mem_cons.mpr ⟨s_X2_next_72, List.forall_mem_cons.mpr ⟨s_X2_next_75, List.forall_mem_cons.mpr ⟨s_X2_next_78, List.forall_mem_cons.mpr ⟨s_X2_next_79, List.forall_mem_cons.mpr ⟨s_X2_next_80, List.forall_mem_cons.mpr ⟨s_X2_next_81, List.forall_mem_cons.mpr ⟨s_X2_next_84, List.forall_mem_cons.mpr ⟨s_X2_next_87, List.forall_mem_cons.mpr ⟨s_X2_next_88, List.forall_mem_cons.mpr ⟨s_X2_next_89, List.forall_mem_cons.mpr ⟨s_X2_next_92, List.forall_mem_cons.mpr ⟨s_X2_next_93, List.forall_mem_cons.mpr ⟨s_X2_next_94, List.forall_mem_cons.mpr ⟨s_X2_next_96, List.forall_mem_cons.mpr ⟨s_X2_next_99, List.forall_mem_cons.mpr ⟨s_X2_next_100, List.forall_mem_cons.mpr ⟨s_X2_next_103, List.forall_mem_cons.mpr ⟨s_X2_next_104, List.forall_mem_cons.mpr ⟨s_X2_next_107, List.forall_mem_cons.mpr ⟨s_X2_next_110, List.forall_mem_cons.mpr ⟨s_X2_next_111, List.forall_mem_cons.mpr ⟨s_X2_next_114, List.forall_mem_cons.mpr ⟨s_X2_next_117, List.forall_mem_cons.mpr ⟨s_X2_next_118, List.forall_mem_cons.mpr ⟨s_X2_next_119, List.forall_mem_cons.mpr ⟨s_X2_next_122, List.forall_mem_cons.mpr ⟨s_X2_next_123, List.forall_mem_cons.mpr ⟨s_X2_next_124, List.forall_mem_cons.mpr ⟨s_X2_next_127, List.forall_mem_cons.mpr ⟨s_X2_next_130, List.forall_mem_cons.mpr ⟨s_X2_next_131, List.forall_mem_cons.mpr ⟨s_X2_next_134, List.forall_mem_cons.mpr ⟨s_X2_next_135, List.forall_mem_cons.mpr ⟨s_X2_next_136, List.forall_mem_cons.mpr ⟨s_X2_next_139, List.forall_mem_cons.mpr ⟨s_X2_next_142, List.forall_mem_cons.mpr ⟨s_X2_next_143, List.forall_mem_cons.mpr ⟨s_X2_next_144, List.forall_mem_cons.mpr ⟨s_X2_next_147, List.forall_mem_cons.mpr ⟨s_X2_next_148, List.forall_mem_cons.mpr ⟨s_X2_next_149, List.forall_mem_cons.mpr ⟨s_X2_next_152, List.forall_mem_cons.mpr ⟨s_X2_next_153, List.forall_mem_cons.mpr ⟨s_X2_next_156, List.forall_mem_cons.mpr ⟨s_X2_next_157, List.forall_mem_cons.mpr ⟨s_X2_next_160, List.forall_mem_cons.mpr ⟨s_X2_next_161, List.forall_mem_cons.mpr ⟨s_X2_next_162, List.forall_mem_cons.mpr ⟨s_X2_next_165, List.forall_mem_cons.mpr ⟨s_X2_next_166, List.forall_mem_cons.mpr ⟨s_X2_next_167, List.forall_mem_cons.mpr ⟨s_X2_next_168, List.forall_mem_cons.mpr ⟨s_X2_next_169, List.forall_mem_cons.mpr ⟨s_X2_next_172, List.forall_mem_cons.mpr ⟨s_X2_next_173, List.forall_mem_cons.mpr ⟨s_X2_next_176, List.forall_mem_cons.mpr ⟨s_X2_next_179, List.forall_mem_cons.mpr ⟨s_X2_next_182, List.forall_mem_cons.mpr ⟨s_X2_next_183, List.forall_mem_cons.mpr ⟨s_X2_next_184, List.forall_mem_cons.mpr ⟨s_X2_next_187, List.forall_mem_cons.mpr ⟨s_X2_next_188, List.forall_mem_cons.mpr ⟨s_X2_next_189, List.forall_mem_cons.mpr ⟨s_X2_next_192, List.forall_mem_cons.mpr ⟨s_X2_next_193, List.forall_mem_cons.mpr ⟨s_X2_next_196, List.forall_mem_cons.mpr ⟨s_X2_next_197, List.forall_mem_cons.mpr ⟨s_X2_next_198, List.forall_mem_cons.mpr ⟨s_X2_next_201, List.forall_mem_cons.mpr ⟨s_X2_next_202, List.forall_mem_cons.mpr ⟨s_X2_next_205, List.forall_mem_cons.mpr ⟨s_X2_next_206, List.forall_mem_cons.mpr ⟨s_X2_next_209, List.forall_mem_cons.mpr ⟨s_X2_next_212, List.forall_mem_cons.mpr ⟨s_X2_next_213, List.forall_mem_cons.mpr ⟨s_X2_next_215, List.forall_mem_cons.mpr ⟨s_X2_next_218, List.forall_mem_cons.mpr ⟨s_X2_next_219, List.forall_mem_cons.mpr ⟨s_X2_next_220, List.forall_mem_cons.mpr ⟨s_X2_next_221, List.forall_mem_cons.mpr ⟨s_X2_next_222, List.forall_mem_cons.mpr ⟨s_X2_next_223, List.forall_mem_cons.mpr ⟨s_X2_next_226, List.forall_mem_cons.mpr ⟨s_X2_next_229, List.forall_mem_cons.mpr ⟨s_X2_next_230, List.forall_mem_cons.mpr ⟨s_X2_next_231, List.forall_mem_cons.mpr ⟨s_X2_next_234, List.forall_mem_cons.mpr ⟨s_X2_next_235, List.forall_mem_cons.mpr ⟨s_X2_next_236, List.forall_mem_cons.mpr ⟨s_X2_next_237, List.forall_mem_cons.mpr ⟨s_X2_next_238, List.forall_mem_cons.mpr ⟨s_X2_next_239, List.forall_mem_cons.mpr ⟨s_X2_next_241, List.forall_mem_cons.mpr ⟨s_X2_next_244, List.forall_mem_cons.mpr ⟨s_X2_next_247, List.forall_mem_cons.mpr ⟨s_X2_next_248, List.forall_mem_cons.mpr ⟨s_X2_next_251, List.forall_mem_cons.mpr ⟨s_X2_next_252, List.forall_mem_cons.mpr ⟨s_X2_next_255, List.forall_mem_cons.mpr ⟨s_X2_next_258, List.forall_mem_cons.mpr ⟨s_X2_next_259, List.forall_mem_cons.mpr ⟨s_X2_next_260, List.forall_mem_cons.mpr ⟨s_X2_next_261, List.forall_mem_cons.mpr ⟨s_X2_next_264, List.forall_mem_cons.mpr ⟨s_X2_next_265, List.forall_mem_cons.mpr ⟨s_X2_next_266, List.forall_mem_cons.mpr ⟨s_X2_next_268, List.forall_mem_cons.mpr ⟨s_X2_next_271, List.forall_mem_cons.mpr ⟨s_X2_next_272, List.forall_mem_cons.mpr ⟨s_X2_next_274, List.forall_mem_cons.mpr ⟨s_X2_next_277, List.forall_mem_cons.mpr ⟨s_X2_next_278, List.forall_mem_cons.mpr ⟨s_X2_next_280, List.forall_mem_cons.mpr ⟨s_X2_next_283, List.forall_mem_cons.mpr ⟨s_X2_next_284, List.forall_mem_cons.mpr ⟨s_X2_next_286, List.forall_mem_cons.mpr ⟨s_X2_next_289, List.forall_mem_cons.mpr ⟨s_X2_next_290, List.forall_mem_cons.mpr ⟨s_X2_next_292, List.forall_mem_cons.mpr ⟨s_X2_next_295, List.forall_mem_cons.mpr ⟨s_X2_next_296, List.forall_mem_cons.mpr ⟨s_X2_next_298, List.forall_mem_cons.mpr ⟨s_X2_next_301, List.forall_mem_cons.mpr ⟨s_X2_next_302, List.forall_mem_cons.mpr ⟨s_X2_next_304, List.forall_mem_cons.mpr ⟨s_X2_next_307, List.forall_mem_cons.mpr ⟨s_X2_next_308, List.forall_mem_cons.mpr ⟨s_X2_next_311, List.forall_mem_cons.mpr ⟨s_X2_next_312, List.forall_mem_cons.mpr ⟨s_X2_next_315, (fun q hq => absurd hq List.not_mem_nil)⟩⟩⟩⟩⟩⟩⟩⟩⟩⟩⟩⟩⟩⟩⟩⟩⟩⟩⟩⟩⟩⟩⟩⟩⟩⟩⟩⟩⟩⟩⟩⟩⟩⟩⟩⟩⟩⟩⟩⟩⟩⟩⟩⟩⟩⟩⟩⟩⟩⟩⟩⟩⟩⟩⟩⟩⟩⟩⟩⟩⟩⟩⟩⟩⟩⟩⟩⟩⟩⟩⟩⟩⟩⟩⟩⟩⟩⟩⟩⟩⟩⟩⟩⟩⟩⟩⟩⟩⟩⟩⟩⟩⟩⟩⟩⟩⟩⟩⟩⟩⟩⟩⟩⟩⟩⟩⟩⟩⟩⟩⟩⟩⟩⟩⟩⟩⟩⟩⟩⟩⟩⟩⟩⟩⟩⟩⟩⟩⟩⟩⟩⟩⟩⟩⟩⟩⟩⟩⟩⟩⟩⟩⟩⟩⟩⟩⟩⟩⟩⟩⟩⟩⟩⟩⟩⟩⟩⟩⟩⟩⟩⟩⟩⟩⟩⟩⟩⟩⟩⟩⟩
theorem s_X2_isLetter_0 : Snd PG.nam M59 0 (m_iload 0 1) := snd_iload_n dX2_isLetter_0 rfl
theorem s_X2_isLetter_1 : Snd PG.nam M59 1 (m_const (.int (nI 97)) 3) := snd_bipush dX2_isLetter_1 (by decide)
theorem s_X2_isLetter_3 : Snd PG.nam M59 3 (m_const (.int (nI 122)) 5) := snd_bipush dX2_isLetter_3 (by decide)
theorem s_X2_isLetter_5 : Snd PG.nam M59 5 (m_callS false 41 3 8) := snd_callS (nam := PG.nam) (yy := 41) dX2_isLetter_5 (Or.inl w1604) w1605 ⟨by decide, by decide +kernel⟩ (by decide)
theorem s_X2_isLetter_8 : Snd PG.nam M59 8 (m_iret .boolean) := snd_iret dX2_isLetter_8 rfl
theorem T59 : ∀ q ∈ S59, Snd PG.nam M59 q.1 q.2 := List.forall_mem_cons.mpr ⟨s_X2_isLetter_0, List.forall_mem_cons.mpr ⟨s_X2_isLetter_1, List.forall_mem_cons.mpr ⟨s_X2_isLetter_3, List.forall_mem_cons.mpr ⟨s_X2_isLetter_5, List.forall_mem_cons.mpr ⟨s_X2_isLetter_8, (fun q hq => absurd hq List.not_mem_nil)⟩⟩⟩⟩⟩
theorem s_X2_letters_0 : Snd PG.nam M60 0 (m_iload 1 1) := snd_iload_n dX2_letters_0 rfl
theorem s_X2_letters_1 : Snd PG.nam M60 1 (m_istore 2 2) := snd_istore_n dX2_letters_1 rfl (by decide)
theorem s_X2_letters_2 : Snd PG.nam M60 2 (m_aload 0 3) := snd_aload_n dX2_letters_2 rfl
theorem s_X2_letters_3 : Snd PG.nam M60 3 (m_const (.long (0 : Int64)) 4) := snd_lconst dX2_letters_3 (by decide)
theorem s_X2_letters_4 : Snd PG.nam M60 4 (m_putf [(1, 16)] .long 7) := snd_putf dX2_letters_4 fd_X2_164
theorem s_X2_letters_7 : Snd PG.nam M60 7 (m_iload 2 8) := snd_iload_n dX2_letters_7 rfl
theorem s_X2_letters_8 : Snd PG.nam M60 8 (m_aload 0 9) := snd_aload_n dX2_letters_8 rfl
theorem s_X2_letters_9 : Snd PG.nam M60 9 (m_getf [(1, 13)] 12) := snd_getf dX2_letters_9 fd_X2_161
theorem s_X2_letters_12 : Snd PG.nam M60 12 (m_icmp (fun x z => if x < z then 15 else 60)) := snd_icmp_ge dX2_letters_12 (by decide)
theorem s_X2_letters_15 : Snd PG.nam M60 15 (m_aload 0 16) := snd_aload_n dX2_letters_15 rfl
theorem s_X2_letters_16 : Snd PG.nam M60 16 (m_getf [(1, 12)] 19) := snd_getf dX2_letters_16 fd_X2_27
theorem s_X2_letters_19 : Snd PG.nam M60 19 (m_iload 2 20) := snd_iload_n dX2_letters_19 rfl
theorem s_X2_letters_20 : Snd PG.nam M60 20 (m_iald [.int] 21) := snd_iald dX2_letters_20
theorem s_X2_letters_21 : Snd PG.nam M60 21 (m_callS false 59 1 24) := snd_callS (nam := PG.nam) (yy := 59) dX2_letters_21 (Or.inl w1676) w1677 ⟨by decide, by decide +kernel⟩ (by decide)
theorem s_X2_letters_24 : Snd PG.nam M60 24 (m_ifz (fun x => if x = 0 then 60 else 27)) := snd_if_eq dX2_letters_24 (by decide)
theorem s_X2_letters_27 : Snd PG.nam M60 27 (m_iload 2 28) := snd_iload_n dX2_letters_27 rfl
theorem s_X2_letters_28 : Snd PG.nam M60 28 (m_iload 1 29) := snd_iload_n dX2_letters_28 rfl
theorem s_X2_letters_29 : Snd PG.nam M60 29 (m_ibin (fun a b => a - b) 30) := snd_isub dX2_letters_29
theorem s_X2_letters_30 : Snd PG.nam M60 30 (m_const (.int (nI 8)) 32) := snd_bipush dX2_letters_30 (by decide)
theorem s_X2_letters_32 : Snd PG.nam M60 32 (m_icmp (fun x z => if x < z then 35 else 54)) := snd_icmp_ge dX2_letters_32 (by decide)
theorem s_X2_letters_35 : Snd PG.nam M60 35 (m_aload 0 36) := snd_aload_n dX2_letters_35 rfl
theorem s_X2_letters_36 : Snd PG.nam M60 36 (m_aload 0 37) := snd_aload_n dX2_letters_36 rfl
theorem s_X2_letters_37 : Snd PG.nam M60 37 (m_getf [(1, 16)] 40) := snd_getf dX2_letters_37 fd_X2_164
theorem s_X2_letters_40 : Snd PG.nam M60 40 (m_const (.int (nI 8)) 42) := snd_bipush dX2_letters_40 (by decide)
theorem s_X2_letters_42 : Snd PG.nam M60 42 (m_lsh (fun a b => a <<< (b.toInt64 &&& 63)) 43) := snd_lshl dX2_letters_42
theorem s_X2_letters_43 : Snd PG.nam M60 43 (m_aload 0 44) := snd_aload_n dX2_letters_43 rfl
theorem s_X2_letters_44 : Snd PG.nam M60 44 (m_getf [(1, 12)] 47) := snd_getf dX2_letters_44 fd_X2_27
theorem s_X2_letters_47 : Snd PG.nam M60 47 (m_iload 2 48) := snd_iload_n dX2_letters_47 rfl
theorem s_X2_letters_48 : Snd PG.nam M60 48 (m_iald [.int] 49) := snd_iald dX2_letters_48
theorem s_X2_letters_49 : Snd PG.nam M60 49 (m_i2l 50) := snd_i2l dX2_letters_49
theorem s_X2_letters_50 : Snd PG.nam M60 50 (m_lbin (fun a b => a ||| b) 51) := snd_lor dX2_letters_50
theorem s_X2_letters_51 : Snd PG.nam M60 51 (m_putf [(1, 16)] .long 54) := snd_putf dX2_letters_51 fd_X2_164
theorem s_X2_letters_54 : Snd PG.nam M60 54 (m_iinc 2 (nI 1) 57) := snd_iinc dX2_letters_54 (by decide) (by decide)
theorem s_X2_letters_57 : Snd PG.nam M60 57 (m_goto 7) := snd_goto dX2_letters_57 (by decide)
theorem s_X2_letters_60 : Snd PG.nam M60 60 (m_iload 2 61) := snd_iload_n dX2_letters_60 rfl
theorem s_X2_letters_61 : Snd PG.nam M60 61 (m_iret .int) := snd_iret dX2_letters_61 rfl
theorem T60 : ∀ q ∈ S60, Snd PG.nam M60 q.1 q.2 := List.forall_mem_cons.mpr ⟨s_X2_letters_0, List.forall_mem_cons.mpr ⟨s_X2_letters_1, List.forall_mem_cons.mpr ⟨s_X2_letters_2, List.forall_mem_cons.mpr ⟨s_X2_letters_3, List.forall_mem_cons.mpr ⟨s_X2_letters_4, List.forall_mem_cons.mpr ⟨s_X2_letters_7, List.forall_mem_cons.mpr ⟨s_X2_letters_8, List.forall_mem_cons.mpr ⟨s_X2_letters_9, List.forall_mem_cons.mpr ⟨s_X2_letters_12, List.forall_mem_cons.mpr ⟨s_X2_letters_15, List.forall_mem_cons.mpr ⟨s_X2_letters_16, List.forall_mem_cons.mpr ⟨s_X2_letters_19, List.forall_mem_cons.mpr ⟨s_X2_letters_20, List.forall_mem_cons.mpr ⟨s_X2_letters_21, List.forall_mem_cons.mpr ⟨s_X2_letters_24, List.forall_mem_cons.mpr ⟨s_X2_letters_27, List.forall_mem_cons.mpr ⟨s_X2_letters_28, List.forall_mem_cons.mpr ⟨s_X2_letters_29, List.forall_mem_cons.mpr ⟨s_X2_letters_30, List.forall_mem_cons.mpr ⟨s_X2_letters_32, List.forall_mem_cons.mpr ⟨s_X2_letters_35, List.forall_mem_cons.mpr ⟨s_X2_letters_36, List.forall_mem_cons.mpr ⟨s_X2_letters_37, List.forall_mem_cons.mpr ⟨s_X2_letters_40, List.forall_mem_cons.mpr ⟨s_X2_letters_42, List.forall_mem_cons.mpr ⟨s_X2_letters_43, List.forall_mem_cons.mpr ⟨s_X2_letters_44, List.forall_mem_cons.mpr ⟨s_X2_letters_47, List.forall_mem_cons.mpr ⟨s_X2_letters_48, List.forall_mem_cons.mpr ⟨s_X2_letters_49, List.forall_mem_cons.mpr ⟨s_X2_letters_50, List.forall_mem_cons.mpr ⟨s_X2_letters_51, List.forall_mem_cons.mpr ⟨s_X2_letters_54, List.forall_mem_cons.mpr ⟨s_X2_letters_57, List.forall_mem_cons.mpr ⟨s_X2_letters_60, List.forall_mem_cons.mpr ⟨s_X2_letters_61, (fun q hq => absurd hq List.not_mem_nil)⟩⟩⟩⟩⟩⟩⟩⟩⟩⟩⟩⟩⟩⟩⟩⟩⟩⟩⟩⟩⟩⟩⟩⟩⟩⟩⟩⟩⟩⟩⟩⟩⟩⟩⟩⟩
theorem s_X2_isFigure_0 : Snd PG.nam M61 0 (m_iload 0 1) := snd_iload_n dX2_isFigure_0 rfl
theorem s_X2_isFigure_1 : Snd PG.nam M61 1 (m_const (.int (nI 48)) 3) := snd_bipush dX2_isFigure_1 (by decide)
theorem s_X2_isFigure_3 : Snd PG.nam M61 3 (m_const (.int (nI 57)) 5) := snd_bipush dX2_isFigure_3 (by decide)
theorem s_X2_isFigure_5 : Snd PG.nam M61 5 (m_callS false 41 3 8) := snd_callS (nam := PG.nam) (yy := 41) dX2_isFigure_5 (Or.inl w1604) w1605 ⟨by decide, by decide +kernel⟩ (by decide)
theorem s_X2_isFigure_8 : Snd PG.nam M61 8 (m_iret .boolean) := snd_iret dX2_isFigure_8 rfl
theorem T61 : ∀ q ∈ S61, Snd PG.nam M61 q.1 q.2 := List.forall_mem_cons.mpr ⟨s_X2_isFigure_0, List.forall_mem_cons.mpr ⟨s_X2_isFigure_1, List.forall_mem_cons.mpr ⟨s_X2_isFigure_3, List.forall_mem_cons.mpr ⟨s_X2_isFigure_5, List.forall_mem_cons.mpr ⟨s_X2_isFigure_8, (fun q hq => absurd hq List.not_mem_nil)⟩⟩⟩⟩⟩
theorem s_X2_readQuery_0 : Snd PG.nam M62 0 (m_aload 0 1) := snd_aload_n dX2_readQuery_0 rfl
theorem s_X2_readQuery_1 : Snd PG.nam M62 1 (m_aload 0 2) := snd_aload_n dX2_readQuery_1 rfl
theorem s_X2_readQuery_2 : Snd PG.nam M62 2 (m_const (.int (nI 0)) 3) := snd_iconst dX2_readQuery_2 (by decide)
theorem s_X2_readQuery_3 : Snd PG.nam M62 3 (m_callV false [(1, 63)] 1 6) := snd_callV (nam := PG.nam) (List.forall_mem_cons.mpr ⟨dr_V (ym := PG.nam 63) dX2_readQuery_3 (Or.inl w1692) mi_63 rfl (lw_all_tbl qs35), (fun q hq => absurd hq List.not_mem_nil)⟩) (by decide)
theorem s_X2_readQuery_6 : Snd PG.nam M62 6 (m_callV false [(1, 64)] 1 9) := snd_callV (nam := PG.nam) (List.forall_mem_cons.mpr ⟨dr_V (ym := PG.nam 64) dX2_readQuery_6 (Or.inl w1707) mi_64 rfl (lw_all_tbl qs36), (fun q hq => absurd hq List.not_mem_nil)⟩) (by decide)
theorem s_X2_readQuery_9 : Snd PG.nam M62 9 (m_ifz (fun x => if x = 0 then 12 else 13)) := snd_if_ne dX2_readQuery_9 (by decide)
theorem s_X2_readQuery_12 : Snd PG.nam M62 12 (m_vret) := snd_vret dX2_readQuery_12 rfl
theorem s_X2_readQuery_13 : Snd PG.nam M62 13 (m_aload 0 14) := snd_aload_n dX2_readQuery_13 rfl
theorem s_X2_readQuery_14 : Snd PG.nam M62 14 (m_aload 0 15) := snd_aload_n dX2_readQuery_14 rfl
theorem s_X2_readQuery_15 : Snd PG.nam M62 15 (m_const (.int (nI 1)) 16) := snd_iconst dX2_readQuery_15 (by decide)
theorem s_X2_readQuery_16 : Snd PG.nam M62 16 (m_callV false [(1, 63)] 1 19) := snd_callV (nam := PG.nam) (List.forall_mem_cons.mpr ⟨dr_V (ym := PG.nam 63) dX2_readQuery_16 (Or.inl w1692) mi_63 rfl (lw_all_tbl qs35), (fun q hq => absurd hq List.not_mem_nil)⟩) (by decide)
theorem s_X2_readQuery_19 : Snd PG.nam M62 19 (m_putf [(1, 43)] .boolean 22) := snd_putf dX2_readQuery_19 fd_X2_293
theorem s_X2_readQuery_22 : Snd PG.nam M62 22 (m_aload 0 23) := snd_aload_n dX2_readQuery_22 rfl
theorem s_X2_readQuery_23 : Snd PG.nam M62 23 (m_getf [(1, 43)] 26) := snd_getf dX2_readQuery_23 fd_X2_293
theorem s_X2_readQuery_26 : Snd PG.nam M62 26 (m_ifz (fun x => if x = 0 then 33 else 29)) := snd_if_eq dX2_readQuery_26 (by decide)
theorem s_X2_readQuery_29 : Snd PG.nam M62 29 (m_aload 0 30) := snd_aload_n dX2_readQuery_29 rfl
theorem s_X2_readQuery_30 : Snd PG.nam M62 30 (m_callV true [(1, 58)] 0 33) := snd_callV (nam := PG.nam) (List.forall_mem_cons.mpr ⟨dr_V (ym := PG.nam 58) dX2_readQuery_30 (Or.inl w1672) mi_58 rfl (lw_all_tbl qs32), (fun q hq => absurd hq List.not_mem_nil)⟩) (by decide)
theorem s_X2_readQuery_33 : Snd PG.nam M62 33 (m_const (.int (nI 1)) 34) := snd_iconst dX2_readQuery_33 (by decide)
theorem s_X2_readQuery_34 : Snd PG.nam M62 34 (m_istore 1 35) := snd_istore_n dX2_readQuery_34 rfl (by decide)
theorem s_X2_readQuery_35 : Snd PG.nam M62 35 (m_iload 1 36) := snd_iload_n dX2_readQuery_35 rfl
theorem s_X2_readQuery_36 : Snd PG.nam M62 36 (m_ifz (fun x => if x = 0 then 108 else 39)) := snd_if_eq dX2_readQuery_36 (by decide)
theorem s_X2_readQuery_39 : Snd PG.nam M62 39 (m_aload 0 40) := snd_aload_n dX2_readQuery_39 rfl
theorem s_X2_readQuery_40 : Snd PG.nam M62 40 (m_getf [(1, 41)] 43) := snd_getf dX2_readQuery_40 fd_X2_296
theorem s_X2_readQuery_43 : Snd PG.nam M62 43 (m_const (.int (nI 6)) 45) := snd_bipush dX2_readQuery_43 (by decide)
theorem s_X2_readQuery_45 : Snd PG.nam M62 45 (m_icmp (fun x z => if x = z then 48 else 52)) := snd_icmp_ne dX2_readQuery_45 (by decide)
theorem s_X2_readQuery_48 : Snd PG.nam M62 48 (m_aload 0 49) := snd_aload_n dX2_readQuery_48 rfl
theorem s_X2_readQuery_49 : Snd PG.nam M62 49 (m_callV true [(1, 65)] 0 52) := snd_callV (nam := PG.nam) (List.forall_mem_cons.mpr ⟨dr_V (ym := PG.nam 65) dX2_readQuery_49 (Or.inl w1711) mi_65 rfl (lw_all_tbl qs37), (fun q hq => absurd hq List.not_mem_nil)⟩) (by decide)
theorem s_X2_readQuery_52 : Snd PG.nam M62 52 (m_aload 0 53) := snd_aload_n dX2_readQuery_52 rfl
theorem s_X2_readQuery_53 : Snd PG.nam M62 53 (m_getf [(1, 20)] 56) := snd_getf dX2_readQuery_53 fd_X2_220
theorem s_X2_readQuery_56 : Snd PG.nam M62 56 (m_ifz (fun x => if x < 0 then 60 else 59)) := snd_if_lt dX2_readQuery_56 (by decide)
theorem s_X2_readQuery_59 : Snd PG.nam M62 59 (m_vret) := snd_vret dX2_readQuery_59 rfl
theorem s_X2_readQuery_60 : Snd PG.nam M62 60 (m_aload 0 61) := snd_aload_n dX2_readQuery_60 rfl
theorem s_X2_readQuery_61 : Snd PG.nam M62 61 (m_getf [(1, 40)] 64) := snd_getf dX2_readQuery_61 fd_X2_64
theorem s_X2_readQuery_64 : Snd PG.nam M62 64 (m_aload 0 65) := snd_aload_n dX2_readQuery_64 rfl
theorem s_X2_readQuery_65 : Snd PG.nam M62 65 (m_getf [(1, 41)] 68) := snd_getf dX2_readQuery_65 fd_X2_296
theorem s_X2_readQuery_68 : Snd PG.nam M62 68 (m_aload 0 69) := snd_aload_n dX2_readQuery_68 rfl
theorem s_X2_readQuery_69 : Snd PG.nam M62 69 (m_callV false [(1, 66)] 0 72) := snd_callV (nam := PG.nam) (List.forall_mem_cons.mpr ⟨dr_V (ym := PG.nam 66) dX2_readQuery_69 (Or.inl w1715) mi_66 rfl (lw_all_tbl qs38), (fun q hq => absurd hq List.not_mem_nil)⟩) (by decide)
theorem s_X2_readQuery_72 : Snd PG.nam M62 72 (m_iast [.int] 73) := snd_iast dX2_readQuery_72
theorem s_X2_readQuery_73 : Snd PG.nam M62 73 (m_aload 0 74) := snd_aload_n dX2_readQuery_73 rfl
theorem s_X2_readQuery_74 : Snd PG.nam M62 74 (m_dup 75) := snd_dup dX2_readQuery_74
theorem s_X2_readQuery_75 : Snd PG.nam M62 75 (m_getf [(1, 41)] 78) := snd_getf dX2_readQuery_75 fd_X2_296
theorem s_X2_readQuery_78 : Snd PG.nam M62 78 (m_const (.int (nI 1)) 79) := snd_iconst dX2_readQuery_78 (by decide)
theorem s_X2_readQuery_79 : Snd PG.nam M62 79 (m_ibin (fun a b => a + b) 80) := snd_iadd dX2_readQuery_79
theorem s_X2_readQuery_80 : Snd PG.nam M62 80 (m_putf [(1, 41)] .int 83) := snd_putf dX2_readQuery_80 fd_X2_296
theorem s_X2_readQuery_83 : Snd PG.nam M62 83 (m_aload 0 84) := snd_aload_n dX2_readQuery_83 rfl
theorem s_X2_readQuery_84 : Snd PG.nam M62 84 (m_getf [(1, 20)] 87) := snd_getf dX2_readQuery_84 fd_X2_220
theorem s_X2_readQuery_87 : Snd PG.nam M62 87 (m_ifz (fun x => if x < 0 then 91 else 90)) := snd_if_lt dX2_readQuery_87 (by decide)
theorem s_X2_readQuery_90 : Snd PG.nam M62 90 (m_vret) := snd_vret dX2_readQuery_90 rfl
theorem s_X2_readQuery_91 : Snd PG.nam M62 91 (m_aload 0 92) := snd_aload_n dX2_readQuery_91 rfl
theorem s_X2_readQuery_92 : Snd PG.nam M62 92 (m_getf [(1, 15)] 95) := snd_getf dX2_readQuery_92 fd_X2_181
theorem s_X2_readQuery_95 : Snd PG.nam M62 95 (m_const (.int (nI 3)) 96) := snd_iconst dX2_readQuery_95 (by decide)
theorem s_X2_readQuery_96 : Snd PG.nam M62 96 (m_icmp (fun x z => if x = z then 99 else 103)) := snd_icmp_ne dX2_readQuery_96 (by decide)
theorem s_X2_readQuery_99 : Snd PG.nam M62 99 (m_const (.int (nI 1)) 100) := snd_iconst dX2_readQuery_99 (by decide)
theorem s_X2_readQuery_100 : Snd PG.nam M62 100 (m_goto 104) := snd_goto dX2_readQuery_100 (by decide)
theorem s_X2_readQuery_103 : Snd PG.nam M62 103 (m_const (.int (nI 0)) 104) := snd_iconst dX2_readQuery_103 (by decide)
theorem s_X2_readQuery_104 : Snd PG.nam M62 104 (m_istore 1 105) := snd_istore_n dX2_readQuery_104 rfl (by decide)
theorem s_X2_readQuery_105 : Snd PG.nam M62 105 (m_goto 35) := snd_goto dX2_readQuery_105 (by decide)
theorem s_X2_readQuery_108 : Snd PG.nam M62 108 (m_aload 0 109) := snd_aload_n dX2_readQuery_108 rfl
theorem s_X2_readQuery_109 : Snd PG.nam M62 109 (m_callV true [(1, 67)] 0 112) := snd_callV (nam := PG.nam) (List.forall_mem_cons.mpr ⟨dr_V (ym := PG.nam 67) dX2_readQuery_109 (Or.inl w1719) mi_67 rfl (lw_all_tbl qs39), (fun q hq => absurd hq List.not_mem_nil)⟩) (by decide)
theorem s_X2_readQuery_112 : Snd PG.nam M62 112 (m_aload 0 113) := snd_aload_n dX2_readQuery_112 rfl
theorem s_X2_readQuery_113 : Snd PG.nam M62 113 (m_getf [(1, 20)] 116) := snd_getf dX2_readQuery_113 fd_X2_220
theorem s_X2_readQuery_116 : Snd PG.nam M62 116 (m_ifz (fun x => if x < 0 then 120 else 119)) := snd_if_lt dX2_readQuery_116 (by decide)
theorem s_X2_readQuery_119 : Snd PG.nam M62 119 (m_vret) := snd_vret dX2_readQuery_119 rfl
theorem s_X2_readQuery_120 : Snd PG.nam M62 120 (m_aload 0 121) := snd_aload_n dX2_readQuery_120 rfl
theorem s_X2_readQuery_121 : Snd PG.nam M62 121 (m_const (.int (nI 2)) 122) := snd_iconst dX2_readQuery_121 (by decide)
theorem s_X2_readQuery_122 : Snd PG.nam M62 122 (m_callV false [(1, 63)] 1 125) := snd_callV (nam := PG.nam) (List.forall_mem_cons.mpr ⟨dr_V (ym := PG.nam 63) dX2_readQuery_122 (Or.inl w1692) mi_63 rfl (lw_all_tbl qs35), (fun q hq => absurd hq List.not_mem_nil)⟩) (by decide)
theorem s_X2_readQuery_125 : Snd PG.nam M62 125 (m_ifz (fun x => if x = 0 then 168 else 128)) := snd_if_eq dX2_readQuery_125 (by decide)
theorem s_X2_readQuery_128 : Snd PG.nam M62 128 (m_aload 0 129) := snd_aload_n dX2_readQuery_128 rfl
theorem s_X2_readQuery_129 : Snd PG.nam M62 129 (m_callV true [(1, 58)] 0 132) := snd_callV (nam := PG.nam) (List.forall_mem_cons.mpr ⟨dr_V (ym := PG.nam 58) dX2_readQuery_129 (Or.inl w1672) mi_58 rfl (lw_all_tbl qs32), (fun q hq => absurd hq List.not_mem_nil)⟩) (by decide)
theorem s_X2_readQuery_132 : Snd PG.nam M62 132 (m_aload 0 133) := snd_aload_n dX2_readQuery_132 rfl
theorem s_X2_readQuery_133 : Snd PG.nam M62 133 (m_aload 0 134) := snd_aload_n dX2_readQuery_133 rfl
theorem s_X2_readQuery_134 : Snd PG.nam M62 134 (m_callV false [(1, 66)] 0 137) := snd_callV (nam := PG.nam) (List.forall_mem_cons.mpr ⟨dr_V (ym := PG.nam 66) dX2_readQuery_134 (Or.inl w1715) mi_66 rfl (lw_all_tbl qs38), (fun q hq => absurd hq List.not_mem_nil)⟩) (by decide)
theorem s_X2_readQuery_137 : Snd PG.nam M62 137 (m_putf [(1, 44)] .int 140) := snd_putf dX2_readQuery_137 fd_X2_302
theorem s_X2_readQuery_140 : Snd PG.nam M62 140 (m_aload 0 141) := snd_aload_n dX2_readQuery_140 rfl
theorem s_X2_readQuery_141 : Snd PG.nam M62 141 (m_getf [(1, 20)] 144) := snd_getf dX2_readQuery_141 fd_X2_220
theorem s_X2_readQuery_144 : Snd PG.nam M62 144 (m_ifz (fun x => if x < 0 then 148 else 147)) := snd_if_lt dX2_readQuery_144 (by decide)
theorem s_X2_readQuery_147 : Snd PG.nam M62 147 (m_vret) := snd_vret dX2_readQuery_147 rfl
theorem s_X2_readQuery_148 : Snd PG.nam M62 148 (m_aload 0 149) := snd_aload_n dX2_readQuery_148 rfl
theorem s_X2_readQuery_149 : Snd PG.nam M62 149 (m_aload 0 150) := snd_aload_n dX2_readQuery_149 rfl
theorem s_X2_readQuery_150 : Snd PG.nam M62 150 (m_const (.int (nI 3)) 151) := snd_iconst dX2_readQuery_150 (by decide)
theorem s_X2_readQuery_151 : Snd PG.nam M62 151 (m_callV false [(1, 63)] 1 154) := snd_callV (nam := PG.nam) (List.forall_mem_cons.mpr ⟨dr_V (ym := PG.nam 63) dX2_readQuery_151 (Or.inl w1692) mi_63 rfl (lw_all_tbl qs35), (fun q hq => absurd hq List.not_mem_nil)⟩) (by decide)
theorem s_X2_readQuery_154 : Snd PG.nam M62 154 (m_putf [(1, 45)] .boolean 157) := snd_putf dX2_readQuery_154 fd_X2_305
theorem s_X2_readQuery_157 : Snd PG.nam M62 157 (m_aload 0 158) := snd_aload_n dX2_readQuery_157 rfl
theorem s_X2_readQuery_158 : Snd PG.nam M62 158 (m_getf [(1, 45)] 161) := snd_getf dX2_readQuery_158 fd_X2_305
theorem s_X2_readQuery_161 : Snd PG.nam M62 161 (m_ifz (fun x => if x = 0 then 168 else 164)) := snd_if_eq dX2_readQuery_161 (by decide)
theorem s_X2_readQuery_164 : Snd PG.nam M62 164 (m_aload 0 165) := snd_aload_n dX2_readQuery_164 rfl
theorem s_X2_readQuery_165 : Snd PG.nam M62 165 (m_callV true [(1, 58)] 0 168) := snd_callV (nam := PG.nam) (List.forall_mem_cons.mpr ⟨dr_V (ym := PG.nam 58) dX2_readQuery_165 (Or.inl w1672) mi_58 rfl (lw_all_tbl qs32), (fun q hq => absurd hq List.not_mem_nil)⟩) (by decide)
theorem s_X2_readQuery_168 : Snd PG.nam M62 168 (m_aload 0 169) := snd_aload_n dX2_readQuery_168 rfl
theorem s_X2_readQuery_169 : Snd PG.nam M62 169 (m_const (.int (nI 4)) 170) := snd_iconst dX2_readQuery_169 (by decide)
theorem s_X2_readQuery_170 : Snd PG.nam M62 170 (m_callV false [(1, 63)] 1 173) := snd_callV (nam := PG.nam) (List.forall_mem_cons.mpr ⟨dr_V (ym := PG.nam 63) dX2_readQuery_170 (Or.inl w1692) mi_63 rfl (lw_all_tbl qs35), (fun q hq => absurd hq List.not_mem_nil)⟩) (by decide)
theorem s_X2_readQuery_173 : Snd PG.nam M62 173 (m_ifz (fun x => if x = 0 then 210 else 176)) := snd_if_eq dX2_readQuery_173 (by decide)
theorem s_X2_readQuery_176 : Snd PG.nam M62 176 (m_aload 0 177) := snd_aload_n dX2_readQuery_176 rfl
theorem s_X2_readQuery_177 : Snd PG.nam M62 177 (m_callV true [(1, 58)] 0 180) := snd_callV (nam := PG.nam) (List.forall_mem_cons.mpr ⟨dr_V (ym := PG.nam 58) dX2_readQuery_177 (Or.inl w1672) mi_58 rfl (lw_all_tbl qs32), (fun q hq => absurd hq List.not_mem_nil)⟩) (by decide)
theorem s_X2_readQuery_180 : Snd PG.nam M62 180 (m_aload 0 181) := snd_aload_n dX2_readQuery_180 rfl
theorem s_X2_readQuery_181 : Snd PG.nam M62 181 (m_aload 0 182) := snd_aload_n dX2_readQuery_181 rfl
theorem s_X2_readQuery_182 : Snd PG.nam M62 182 (m_getf [(1, 16)] 185) := snd_getf dX2_readQuery_182 fd_X2_164
theorem s_X2_readQuery_185 : Snd PG.nam M62 185 (m_l2i 186) := snd_l2i dX2_readQuery_185
theorem s_X2_readQuery_186 : Snd PG.nam M62 186 (m_putf [(1, 46)] .int 189) := snd_putf dX2_readQuery_186 fd_X2_308
theorem s_X2_readQuery_189 : Snd PG.nam M62 189 (m_aload 0 190) := snd_aload_n dX2_readQuery_189 rfl
theorem s_X2_readQuery_190 : Snd PG.nam M62 190 (m_aload 0 191) := snd_aload_n dX2_readQuery_190 rfl
theorem s_X2_readQuery_191 : Snd PG.nam M62 191 (m_getf [(1, 15)] 194) := snd_getf dX2_readQuery_191 fd_X2_181
theorem s_X2_readQuery_194 : Snd PG.nam M62 194 (m_const (.int (nI 2)) 195) := snd_iconst dX2_readQuery_194 (by decide)
theorem s_X2_readQuery_195 : Snd PG.nam M62 195 (m_icmp (fun x z => if x = z then 198 else 202)) := snd_icmp_ne dX2_readQuery_195 (by decide)
theorem s_X2_readQuery_198 : Snd PG.nam M62 198 (m_const (.int (nI 1)) 199) := snd_iconst dX2_readQuery_198 (by decide)
theorem s_X2_readQuery_199 : Snd PG.nam M62 199 (m_goto 203) := snd_goto dX2_readQuery_199 (by decide)
theorem s_X2_readQuery_202 : Snd PG.nam M62 202 (m_const (.int (nI 0)) 203) := snd_iconst dX2_readQuery_202 (by decide)
theorem s_X2_readQuery_203 : Snd PG.nam M62 203 (m_callV false [(1, 64)] 1 206) := snd_callV (nam := PG.nam) (List.forall_mem_cons.mpr ⟨dr_V (ym := PG.nam 64) dX2_readQuery_203 (Or.inl w1707) mi_64 rfl (lw_all_tbl qs36), (fun q hq => absurd hq List.not_mem_nil)⟩) (by decide)
theorem s_X2_readQuery_206 : Snd PG.nam M62 206 (m_ifz (fun x => if x = 0 then 209 else 210)) := snd_if_ne dX2_readQuery_206 (by decide)
theorem s_X2_readQuery_209 : Snd PG.nam M62 209 (m_vret) := snd_vret dX2_readQuery_209 rfl
theorem s_X2_readQuery_210 : Snd PG.nam M62 210 (m_aload 0 211) := snd_aload_n dX2_readQuery_210 rfl
theorem s_X2_readQuery_211 : Snd PG.nam M62 211 (m_getf [(1, 15)] 214) := snd_getf dX2_readQuery_211 fd_X2_181
theorem s_X2_readQuery_214 : Snd PG.nam M62 214 (m_ifz (fun x => if x = 0 then 221 else 217)) := snd_if_eq dX2_readQuery_214 (by decide)
theorem s_X2_readQuery_217 : Snd PG.nam M62 217 (m_aload 0 218) := snd_aload_n dX2_readQuery_217 rfl
theorem s_X2_readQuery_218 : Snd PG.nam M62 218 (m_callV true [(1, 65)] 0 221) := snd_callV (nam := PG.nam) (List.forall_mem_cons.mpr ⟨dr_V (ym := PG.nam 65) dX2_readQuery_218 (Or.inl w1711) mi_65 rfl (lw_all_tbl qs37), (fun q hq => absurd hq List.not_mem_nil)⟩) (by decide)
theorem s_X2_readQuery_221 : Snd PG.nam M62 221 (m_vret) := snd_vret dX2_readQuery_221 rfl
theorem T62 : ∀ q ∈ S62, Snd PG.nam M62 q.1 q.2 := List.forall_mem_cons.mpr ⟨s_X2_readQuery_0, List.forall_mem_cons.mpr ⟨s_X2_readQuery_1, List.forall_mem_cons.mpr ⟨s_X2_readQuery_2, List.forall_mem_cons.mpr ⟨s_X2_readQuery_3, List.forall_mem_cons.mpr ⟨s_X2_readQuery_6, List.forall_mem_cons.mpr ⟨s_X2_readQuery_9, List.forall_mem_cons.mpr ⟨s_X2_readQuery_12, List.forall_mem_cons.mpr ⟨s_X2_readQuery_13, List.forall_mem_cons.mpr ⟨s_X2_readQuery_14, List.forall_mem_cons.mpr ⟨s_X2_readQuery_15, List.forall_mem_cons.mpr ⟨s_X2_readQuery_16, List.forall_mem_cons.mpr ⟨s_X2_readQuery_19, List.forall_mem_cons.mpr ⟨s_X2_readQuery_22, List.forall_mem_cons.mpr ⟨s_X2_readQuery_23, List.forall_mem_cons.mpr ⟨s_X2_readQuery_26, List.forall_mem_cons.mpr ⟨s_X2_readQuery_29, List.forall_mem_cons.mpr ⟨s_X2_readQuery_30, List.forall_mem_cons.mpr ⟨s_X2_readQuery_33, List.forall_mem_cons.mpr ⟨s_X2_readQuery_34, List.forall_mem_cons.mpr ⟨s_X2_readQuery_35, List.forall_mem_cons.mpr ⟨s_X2_readQuery_36, List.forall_mem_cons.mpr ⟨s_X2_readQuery_39, List.forall_mem_cons.mpr ⟨s_X2_readQuery_40, List.forall_mem_cons.mpr ⟨s_X2_readQuery_43, List.forall_mem_cons.mpr ⟨s_X2_readQuery_45, List.forall_mem_cons.mpr ⟨s_X2_readQuery_48, List.forall_mem_cons.mpr ⟨s_X2_readQuery_49, List.forall_mem_cons.mpr ⟨s_X2_readQuery_52, List.forall_mem_cons.mpr ⟨s_X2_readQuery_53, List.forall_mem_cons.mpr ⟨s_X2_readQuery_56, List.forall_mem_cons.mpr ⟨s_X2_readQuery_59, List.forall_mem_cons.mpr ⟨s_X2_readQuery_60, List.forall_mem_cons.mpr ⟨s_X2_readQuery_61, List.forall_mem_cons.mpr ⟨s_X2_readQuery_64, List.forall_mem_cons.mpr ⟨s_X2_readQuery_65, List.forall_mem_cons.mpr ⟨s_X2_readQuery_68, List.forall_mem_cons.mpr ⟨s_X2_readQuery_69, List.forall_mem_cons.mpr ⟨s_X2_readQuery_72, List.forall_mem_cons.mpr ⟨s_X2_readQuery_73, List.forall_mem_cons.mpr ⟨s_X2_readQuery_74, List.forall_mem_cons.mpr ⟨s_X2_readQuery_75, List.forall_mem_cons.mpr ⟨s_X2_readQuery_78, List.forall_mem_cons.mpr ⟨s_X2_readQuery_79, List.forall_mem_cons.mpr ⟨s_X2_readQuery_80, List.forall_mem_cons.mpr ⟨s_X2_readQuery_83, List.forall_mem_cons.mpr ⟨s_X2_readQuery_84, List.forall_mem_cons.mpr ⟨s_X2_readQuery_87, List.forall_mem_cons.mpr ⟨s_X2_readQuery_90, List.forall_mem_cons.mpr ⟨s_X2_readQuery_91, List.forall_mem_cons.mpr ⟨s_X2_readQuery_92, List.forall_mem_cons.mpr ⟨s_X2_readQuery_95, List.forall_mem_cons.mpr ⟨s_X2_readQuery_96, List.forall_mem_cons.mpr ⟨s_X2_readQuery_99, List.forall_mem_cons.mpr ⟨s_X2_readQuery_100, List.forall_mem_cons.mpr ⟨s_X2_readQuery_103, List.forall_mem_cons.mpr ⟨s_X2_readQuery_104, List.forall_mem_cons.mpr ⟨s_X2_readQuery_105, List.forall_mem_cons.mpr ⟨s_X2_readQuery_108, List.forall_mem_cons.mpr ⟨s_X2_readQuery_109, List.forall_mem_cons.mpr ⟨s_X2_readQuery_112, List.forall_mem_cons.mpr ⟨s_X2_readQuery_113, List.forall_mem_cons.mpr ⟨s_X2_readQuery_116, List.forall_mem_cons.mpr ⟨s_X2_readQuery_119, List.forall_mem_cons.mpr ⟨s_X2_readQuery_120, List.forall_mem_cons.mpr ⟨s_X2_readQuery_121, List.forall_mem_cons.mpr ⟨s_X2_readQuery_122, List.forall_mem_cons.mpr ⟨s_X2_readQuery_125, List.forall_mem_cons.mpr ⟨s_X2_readQuery_128, List.forall_mem_cons.mpr ⟨s_X2_readQuery_129, List.forall_mem_cons.mpr ⟨s_X2_readQuery_132, List.forall_mem_cons.mpr ⟨s_X2_readQuery_133, List.forall_mem_cons.mpr ⟨s_X2_readQuery_134, List.forall_mem_cons.mpr ⟨s_X2_readQuery_137, List.forall_mem_cons.mpr ⟨s_X2_readQuery_140, List.forall_mem_cons.mpr ⟨s_X2_readQuery_141, List.forall_mem_cons.mpr ⟨s_X2_readQuery_144, List.forall_mem_cons.mpr ⟨s_X2_readQuery_147, List.forall_mem_cons.mpr ⟨s_X2_readQuery_148, List.forall_mem_cons.mpr ⟨s_X2_readQuery_149, List.forall_mem_cons.mpr ⟨s_X2_readQuery_150, List.forall_mem_cons.mpr ⟨s_X2_readQuery_151, List.forall_mem_cons.mpr ⟨s_X2_readQuery_154, List.forall_mem_cons.mpr ⟨s_X2_readQuery_157, List.forall_mem_cons.mpr ⟨s_X2_readQuery_158, List.forall_mem_cons.mpr ⟨s_X2_readQuery_161, List.forall_mem_cons.mpr ⟨s_X2_readQuery_164, List.forall_mem_cons.mpr ⟨s_X2_readQuery_165, List.forall_mem_cons.mpr ⟨s_X2_readQuery_168, List.forall_mem_cons.mpr ⟨s_X2_readQuery_169, List.forall_mem_cons.mpr ⟨s_X2_readQuery_170, List.forall_mem_cons.mpr ⟨s_X2_readQuery_173, List.forall_mem_cons.mpr ⟨s_X2_readQuery_176, List.forall_mem_cons.mpr ⟨s_X2_readQuery_177, List.forall_mem_cons.mpr ⟨s_X2_readQuery_180, List.forall_mem_cons.mpr ⟨s_X2_readQuery_181, List.forall_mem_cons.mpr ⟨s_X2_readQuery_182, List.forall_mem_cons.mpr ⟨s_X2_readQuery_185, List.forall_mem_cons.mpr ⟨s_X2_readQuery_186, List.forall_mem_cons.mpr ⟨s_X2_readQuery_189, List.forall_mem_cons.mpr ⟨s_X2_readQuery_190, List.forall_mem_cons.mpr ⟨s_X2_readQuery_191, List.forall_mem_cons.mpr ⟨s_X2_readQuery_194, List.forall_mem_cons.mpr ⟨s_X2_readQuery_195, List.forall_mem_cons.mpr ⟨s_X2_readQuery_198, List.forall_mem_cons.mpr ⟨s_X2_readQuery_199, List.forall_mem_cons.mpr ⟨s_X2_readQuery_202, List.forall_mem_cons.mpr ⟨s_X2_readQuery_203, List.forall_mem_cons.mpr ⟨s_X2_readQuery_206, List.forall_mem_cons.mpr ⟨s_X2_readQuery_209, List.forall_mem_cons.mpr ⟨s_X2_readQuery_210, List.forall_mem_cons.mpr ⟨s_X2_readQuery_211, List.forall_mem_cons.mpr ⟨s_X2_readQuery_214, List.forall_mem_cons.mpr ⟨s_X2_readQuery_217, List.forall_mem_cons.mpr ⟨s_X2_readQuery_218, List.forall_mem_cons.mpr ⟨s_X2_readQuery_221, (fun q hq => absurd hq List.not_mem_nil)⟩⟩⟩⟩⟩⟩⟩⟩⟩⟩⟩⟩⟩⟩⟩⟩⟩⟩⟩⟩⟩⟩⟩⟩⟩⟩⟩⟩⟩⟩⟩⟩⟩⟩⟩⟩⟩⟩⟩⟩⟩⟩⟩⟩⟩⟩⟩⟩⟩⟩⟩⟩⟩⟩⟩⟩⟩⟩⟩⟩⟩⟩⟩⟩⟩⟩⟩⟩⟩⟩⟩⟩⟩⟩⟩⟩⟩⟩⟩⟩⟩⟩⟩⟩⟩⟩⟩⟩⟩⟩⟩⟩⟩⟩⟩⟩⟩⟩⟩⟩⟩⟩⟩⟩⟩⟩⟩⟩⟩⟩⟩⟩⟩⟩⟩
theorem s_X2_isKey_0 : Snd PG.nam M63 0 (m_aload 0 1) := snd_aload_n dX2_isKey_0 rfl
theorem s_X2_isKey_1 : Snd PG.nam M63 1 (m_getf [(1, 15)] 4) := snd_getf dX2_isKey_1 fd_X2_181
theorem s_X2_isKey_4 : Snd PG.nam M63 4 (m_const (.int (nI 1)) 5) := snd_iconst dX2_isKey_4 (by decide)
theorem s_X2_isKey_5 : Snd PG.nam M63 5 (m_icmp (fun x z => if x = z then 10 else 8)) := snd_icmp_eq dX2_isKey_5 (by decide)
theorem s_X2_isKey_8 : Snd PG.nam M63 8 (m_const (.int (nI 0)) 9) := snd_iconst dX2_isKey_8 (by decide)
theorem s_X2_isKey_9 : Snd PG.nam M63 9 (m_iret .boolean) := snd_iret dX2_isKey_9 rfl
theorem s_X2_isKey_10 : Snd PG.nam M63 10 (m_iload 1 11) := snd_iload_n dX2_isKey_10 rfl
theorem s_X2_isKey_11 : Snd PG.nam M63 11 (m_ifz (fun x => if x = 0 then 14 else 20)) := snd_if_ne dX2_isKey_11 (by decide)
theorem s_X2_isKey_14 : Snd PG.nam M63 14 (m_const (.long (126879447475060 : Int64)) 17) := snd_ldc2 dX2_isKey_14 w1696
theorem s_X2_isKey_17 : Snd PG.nam M63 17 (m_goto 126) := snd_goto dX2_isKey_17 (by decide)
theorem s_X2_isKey_20 : Snd PG.nam M63 20 (m_iload 1 21) := snd_iload_n dX2_isKey_20 rfl
theorem s_X2_isKey_21 : Snd PG.nam M63 21 (m_const (.int (nI 1)) 22) := snd_iconst dX2_isKey_21 (by decide)
theorem s_X2_isKey_22 : Snd PG.nam M63 22 (m_icmp (fun x z => if x = z then 25 else 31)) := snd_icmp_ne dX2_isKey_22 (by decide)
theorem s_X2_isKey_25 : Snd PG.nam M63 25 (m_const (.long (7235441220169655156 : Int64)) 28) := snd_ldc2 dX2_isKey_25 w1697
theorem s_X2_isKey_28 : Snd PG.nam M63 28 (m_goto 126) := snd_goto dX2_isKey_28 (by decide)
theorem s_X2_isKey_31 : Snd PG.nam M63 31 (m_iload 1 32) := snd_iload_n dX2_isKey_31 rfl
theorem s_X2_isKey_32 : Snd PG.nam M63 32 (m_const (.int (nI 2)) 33) := snd_iconst dX2_isKey_32 (by decide)
theorem s_X2_isKey_33 : Snd PG.nam M63 33 (m_icmp (fun x z => if x = z then 36 else 42)) := snd_icmp_ne dX2_isKey_33 (by decide)
theorem s_X2_isKey_36 : Snd PG.nam M63 36 (m_const (.long (478660552050 : Int64)) 39) := snd_ldc2 dX2_isKey_36 w1698
theorem s_X2_isKey_39 : Snd PG.nam M63 39 (m_goto 126) := snd_goto dX2_isKey_39 (by decide)
theorem s_X2_isKey_42 : Snd PG.nam M63 42 (m_iload 1 43) := snd_iload_n dX2_isKey_42 rfl
theorem s_X2_isKey_43 : Snd PG.nam M63 43 (m_const (.int (nI 3)) 44) := snd_iconst dX2_isKey_43 (by decide)
theorem s_X2_isKey_44 : Snd PG.nam M63 44 (m_icmp (fun x z => if x = z then 47 else 53)) := snd_icmp_ne dX2_isKey_44 (by decide)
theorem s_X2_isKey_47 : Snd PG.nam M63 47 (m_const (.long (1684370275 : Int64)) 50) := snd_ldc2 dX2_isKey_47 w1699
theorem s_X2_isKey_50 : Snd PG.nam M63 50 (m_goto 126) := snd_goto dX2_isKey_50 (by decide)
theorem s_X2_isKey_53 : Snd PG.nam M63 53 (m_iload 1 54) := snd_iload_n dX2_isKey_53 rfl
theorem s_X2_isKey_54 : Snd PG.nam M63 54 (m_const (.int (nI 4)) 55) := snd_iconst dX2_isKey_54 (by decide)
theorem s_X2_isKey_55 : Snd PG.nam M63 55 (m_icmp (fun x z => if x = z then 58 else 64)) := snd_icmp_ne dX2_isKey_55 (by decide)
theorem s_X2_isKey_58 : Snd PG.nam M63 58 (m_const (.long (465625246068 : Int64)) 61) := snd_ldc2 dX2_isKey_58 w1700
theorem s_X2_isKey_61 : Snd PG.nam M63 61 (m_goto 126) := snd_goto dX2_isKey_61 (by decide)
theorem s_X2_isKey_64 : Snd PG.nam M63 64 (m_iload 1 65) := snd_iload_n dX2_isKey_64 rfl
theorem s_X2_isKey_65 : Snd PG.nam M63 65 (m_const (.int (nI 5)) 66) := snd_iconst dX2_isKey_65 (by decide)
theorem s_X2_isKey_66 : Snd PG.nam M63 66 (m_icmp (fun x z => if x = z then 69 else 75)) := snd_icmp_ne dX2_isKey_66 (by decide)
theorem s_X2_isKey_69 : Snd PG.nam M63 69 (m_const (.long (112602977166706 : Int64)) 72) := snd_ldc2 dX2_isKey_69 w1701
theorem s_X2_isKey_72 : Snd PG.nam M63 72 (m_goto 126) := snd_goto dX2_isKey_72 (by decide)
theorem s_X2_isKey_75 : Snd PG.nam M63 75 (m_iload 1 76) := snd_iload_n dX2_isKey_75 rfl
theorem s_X2_isKey_76 : Snd PG.nam M63 76 (m_const (.int (nI 6)) 78) := snd_bipush dX2_isKey_76 (by decide)
theorem s_X2_isKey_78 : Snd PG.nam M63 78 (m_icmp (fun x z => if x = z then 81 else 87)) := snd_icmp_ne dX2_isKey_78 (by decide)
theorem s_X2_isKey_81 : Snd PG.nam M63 81 (m_const (.long (8030046131791487340 : Int64)) 84) := snd_ldc2 dX2_isKey_81 w1702
theorem s_X2_isKey_84 : Snd PG.nam M63 84 (m_goto 126) := snd_goto dX2_isKey_84 (by decide)
theorem s_X2_isKey_87 : Snd PG.nam M63 87 (m_iload 1 88) := snd_iload_n dX2_isKey_87 rfl
theorem s_X2_isKey_88 : Snd PG.nam M63 88 (m_const (.int (nI 7)) 90) := snd_bipush dX2_isKey_88 (by decide)
theorem s_X2_isKey_90 : Snd PG.nam M63 90 (m_icmp (fun x z => if x = z then 93 else 99)) := snd_icmp_ne dX2_isKey_90 (by decide)
theorem s_X2_isKey_93 : Snd PG.nam M63 93 (m_const (.long (469920281971 : Int64)) 96) := snd_ldc2 dX2_isKey_93 w1703
theorem s_X2_isKey_96 : Snd PG.nam M63 96 (m_goto 126) := snd_goto dX2_isKey_96 (by decide)
theorem s_X2_isKey_99 : Snd PG.nam M63 99 (m_iload 1 100) := snd_iload_n dX2_isKey_99 rfl
theorem s_X2_isKey_100 : Snd PG.nam M63 100 (m_const (.int (nI 8)) 102) := snd_bipush dX2_isKey_100 (by decide)
theorem s_X2_isKey_102 : Snd PG.nam M63 102 (m_icmp (fun x z => if x = z then 105 else 111)) := snd_icmp_ne dX2_isKey_102 (by decide)
theorem s_X2_isKey_105 : Snd PG.nam M63 105 (m_const (.long (504363577198 : Int64)) 108) := snd_ldc2 dX2_isKey_105 w1704
theorem s_X2_isKey_108 : Snd PG.nam M63 108 (m_goto 126) := snd_goto dX2_isKey_108 (by decide)
theorem s_X2_isKey_111 : Snd PG.nam M63 111 (m_iload 1 112) := snd_iload_n dX2_isKey_111 rfl
theorem s_X2_isKey_112 : Snd PG.nam M63 112 (m_const (.int (nI 9)) 114) := snd_bipush dX2_isKey_112 (by decide)
theorem s_X2_isKey_114 : Snd PG.nam M63 114 (m_icmp (fun x z => if x = z then 117 else 123)) := snd_icmp_ne dX2_isKey_114 (by decide)
theorem s_X2_isKey_117 : Snd PG.nam M63 117 (m_const (.long (7237492 : Int64)) 120) := snd_ldc2 dX2_isKey_117 w1705
theorem s_X2_isKey_120 : Snd PG.nam M63 120 (m_goto 126) := snd_goto dX2_isKey_120 (by decide)
theorem s_X2_isKey_123 : Snd PG.nam M63 123 (m_const (.long (422776761956 : Int64)) 126) := snd_ldc2 dX2_isKey_123 w1706
theorem s_X2_isKey_126 : Snd PG.nam M63 126 (m_lstore 2 127) := snd_lstore_n dX2_isKey_126 rfl (by decide)
theorem s_X2_isKey_127 : Snd PG.nam M63 127 (m_aload 0 128) := snd_aload_n dX2_isKey_127 rfl
theorem s_X2_isKey_128 : Snd PG.nam M63 128 (m_getf [(1, 16)] 131) := snd_getf dX2_isKey_128 fd_X2_164
theorem s_X2_isKey_131 : Snd PG.nam M63 131 (m_lload 2 132) := snd_lload_n dX2_isKey_131 rfl
theorem s_X2_isKey_132 : Snd PG.nam M63 132 (m_lcmp 133) := snd_lcmp dX2_isKey_132
theorem s_X2_isKey_133 : Snd PG.nam M63 133 (m_ifz (fun x => if x = 0 then 136 else 140)) := snd_if_ne dX2_isKey_133 (by decide)
theorem s_X2_isKey_136 : Snd PG.nam M63 136 (m_const (.int (nI 1)) 137) := snd_iconst dX2_isKey_136 (by decide)
theorem s_X2_isKey_137 : Snd PG.nam M63 137 (m_goto 141) := snd_goto dX2_isKey_137 (by decide)
theorem s_X2_isKey_140 : Snd PG.nam M63 140 (m_const (.int (nI 0)) 141) := snd_iconst dX2_isKey_140 (by decide)
theorem s_X2_isKey_141 : Snd PG.nam M63 141 (m_iret .boolean) := snd_iret dX2_isKey_141 rfl
theorem T63 : ∀ q ∈ S63, Snd PG.nam M63 q.1 q.2 := List.forall_mem_cons.mpr ⟨s_X2_isKey_0, List.forall_mem_cons.mpr ⟨s_X2_isKey_1, List.forall_mem_cons.mpr ⟨s_X2_isKey_4, List.forall_mem_cons.mpr ⟨s_X2_isKey_5, List.forall_mem_cons.mpr ⟨s_X2_isKey_8, List.forall_mem_cons.mpr ⟨s_X2_isKey_9, List.forall_mem_cons.mpr ⟨s_X2_isKey_10, List.forall_mem_cons.mpr ⟨s_X2_isKey_11, List.forall_mem_cons.mpr ⟨s_X2_isKey_14, List.forall_mem_cons.mpr ⟨s_X2_isKey_17, List.forall_mem_cons.mpr ⟨s_X2_isKey_20, List.forall_mem_cons.mpr ⟨s_X2_isKey_21, List.forall_mem_cons.mpr ⟨s_X2_isKey_22, List.forall_mem_cons.mpr ⟨s_X2_isKey_25, List.forall_mem_cons.mpr ⟨s_X2_isKey_28, List.forall_mem_cons.mpr ⟨s_X2_isKey_31, List.forall_mem_cons.mpr ⟨s_X2_isKey_32, List.forall_mem_cons.mpr ⟨s_X2_isKey_33, List.forall_mem_cons.mpr ⟨s_X2_isKey_36, List.forall_mem_cons.mpr ⟨s_X2_isKey_39, List.forall_mem_cons.mpr ⟨s_X2_isKey_42, List.forall_mem_cons.mpr ⟨s_X2_isKey_43, List.forall_mem_cons.mpr ⟨s_X2_isKey_44, List.forall_mem_cons.mpr ⟨s_X2_isKey_47, List.forall_mem_cons.mpr ⟨s_X2_isKey_50, List.forall_mem_cons.mpr ⟨s_X2_isKey_53, List.forall_mem_cons.mpr ⟨s_X2_isKey_54, List.forall_mem_cons.mpr ⟨s_X2_isKey_55, List.forall_mem_cons.mpr ⟨s_X2_isKey_58, List.forall_mem_cons.mpr ⟨s_X2_isKey_61, List.forall_mem_cons.mpr ⟨s_X2_isKey_64, List.forall_mem_cons.mpr ⟨s_X2_isKey_65, List.forall_mem_cons.mpr ⟨s_X2_isKey_66, List.forall_mem_cons.mpr ⟨s_X2_isKey_69, List.forall_mem_cons.mpr ⟨s_X2_isKey_72, List.forall_mem_cons.mpr ⟨s_X2_isKey_75, List.forall_mem_cons.mpr ⟨s_X2_isKey_76, List.forall_mem_cons.mpr ⟨s_X2_isKey_78, List.forall_mem_cons.mpr ⟨s_X2_isKey_81, List.forall_mem_cons.mpr ⟨s_X2_isKey_84, List.forall_mem_cons.mpr ⟨s_X2_isKey_87, List.forall_mem_cons.mpr ⟨s_X2_isKey_88, List.forall_mem_cons.mpr ⟨s_X2_isKey_90, List.forall_mem_cons.mpr ⟨s_X2_isKey_93, List.forall_mem_cons.mpr ⟨s_X2_isKey_96, List.forall_mem_cons.mpr ⟨s_X2_isKey_99, List.forall_mem_cons.mpr ⟨s_X2_isKey_100, List.forall_mem_cons.mpr ⟨s_X2_isKey_102, List.forall_mem_cons.mpr ⟨s_X2_isKey_105, List.forall_mem_cons.mpr ⟨s_X2_isKey_108, List.forall_mem_cons.mpr ⟨s_X2_isKey_111, List.forall_mem_cons.mpr ⟨s_X2_isKey_112, List.forall_mem_cons.mpr ⟨s_X2_isKey_114, List.forall_mem_cons.mpr ⟨s_X2_isKey_117, List.forall_mem_cons.mpr ⟨s_X2_isKey_120, List.forall_mem_cons.mpr ⟨s_X2_isKey_123, List.forall_mem_cons.mpr ⟨s_X2_isKey_126, List.forall_mem_cons.mpr ⟨s_X2_isKey_127, List.forall_mem_cons.mpr ⟨s_X2_isKey_128, List.forall_mem_cons.mpr ⟨s_X2_isKey_131, List.forall_mem_cons.mpr ⟨s_X2_isKey_132, List.forall_mem_cons.mpr ⟨s_X2_isKey_133, List.forall_mem_cons.mpr ⟨s_X2_isKey_136, List.forall_mem_cons.mpr ⟨s_X2_isKey_137, List.forall_mem_cons.mpr ⟨s_X2_isKey_140, List.forall_mem_cons.mpr ⟨s_X2_isKey_141, (fun q hq => absurd hq List.not_mem_nil)⟩⟩⟩⟩⟩⟩⟩⟩⟩⟩⟩⟩⟩⟩⟩⟩⟩⟩⟩⟩⟩⟩⟩⟩⟩⟩⟩⟩⟩⟩⟩⟩⟩⟩⟩⟩⟩⟩⟩⟩⟩⟩⟩⟩⟩⟩⟩⟩⟩⟩⟩⟩⟩⟩⟩⟩⟩⟩⟩⟩⟩⟩⟩⟩⟩⟩
