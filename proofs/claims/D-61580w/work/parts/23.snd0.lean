set_option maxRecDepth 100000
theorem s_L_law_0 : Snd PG.nam M0 0 (m_new 0 [.null, .int 0, .int 0, .null, .int 0, .null, .null, .int 0, .int 0, .null, .int 0, .null, .int 0, .int 0] 3) := snd_new dL_law_0 rfl w107 w108 w63 rfl (by decide +kernel)
theorem s_L_law_3 : Snd PG.nam M0 3 (m_dup 4) := snd_dup dL_law_3
theorem s_L_law_4 : Snd PG.nam M0 4 (m_callI 11 0 7) := snd_callI (nam := PG.nam) (yy := 11) dL_law_4 (Or.inl w109) mi_11 rfl w111 (by decide)
theorem s_L_law_7 : Snd PG.nam M0 7 (m_astore 1 8) := snd_astore_n dL_law_7 rfl (by decide)
theorem s_L_law_8 : Snd PG.nam M0 8 (m_new 1 [.null, .int 0, .null, .int 0, .null, .null, .null, .int 0, .int 0, .int 0, .int 0, .int 0, .null, .int 0, .int 0, .int 0, .long 0, .int 0, .int 0, .int 0, .int 0, .int 0, .int 0, .null, .int 0, .int 0, .int 0, .int 0, .null, .null, .null, .null, .int 0, .null, .null, .int 0, .null, .null, .null, .int 0, .null, .int 0, .null, .int 0, .int 0, .int 0, .int 0, .null, .null, .null, .int 0, .int 0, .null, .null, .null, .int 0, .null, .int 0, .int 0] 11) := snd_new dL_law_8 rfl w1403 w1404 w68 rfl (by decide +kernel)
theorem s_L_law_11 : Snd PG.nam M0 11 (m_dup 12) := snd_dup dL_law_11
theorem s_L_law_12 : Snd PG.nam M0 12 (m_callI 36 0 15) := snd_callI (nam := PG.nam) (yy := 36) dL_law_12 (Or.inl w1405) mi_36 rfl w1407 (by decide)
theorem s_L_law_15 : Snd PG.nam M0 15 (m_astore 2 16) := snd_astore_n dL_law_15 rfl (by decide)
theorem s_L_law_16 : Snd PG.nam M0 16 (m_const (.int (nI 1)) 17) := snd_iconst dL_law_16 (by decide)
theorem s_L_law_17 : Snd PG.nam M0 17 (m_newa .long 19) := snd_newa dL_law_17 w1587 rfl (by decide)
theorem s_L_law_19 : Snd PG.nam M0 19 (m_astore 3 20) := snd_astore_n dL_law_19 rfl (by decide)
theorem s_L_law_20 : Snd PG.nam M0 20 (m_const (.int (nI 0)) 21) := snd_iconst dL_law_20 (by decide)
theorem s_L_law_21 : Snd PG.nam M0 21 (m_istore 4 23) := snd_istore dL_law_21 (by decide)
theorem s_L_law_23 : Snd PG.nam M0 23 (m_iload 4 25) := snd_iload dL_law_23
theorem s_L_law_25 : Snd PG.nam M0 25 (m_aload 0 26) := snd_aload_n dL_law_25 rfl
theorem s_L_law_26 : Snd PG.nam M0 26 (m_alen 27) := snd_alen dL_law_26
theorem s_L_law_27 : Snd PG.nam M0 27 (m_const (.int (nI 7)) 29) := snd_bipush dL_law_27 (by decide)
theorem s_L_law_29 : Snd PG.nam M0 29 (m_ibin (fun a b => a - b) 30) := snd_isub dL_law_29
theorem s_L_law_30 : Snd PG.nam M0 30 (m_icmp (fun x z => if z < x then 947 else 33)) := snd_icmp_gt dL_law_30 (by decide)
theorem s_L_law_33 : Snd PG.nam M0 33 (m_aload 0 34) := snd_aload_n dL_law_33 rfl
theorem s_L_law_34 : Snd PG.nam M0 34 (m_iload 4 36) := snd_iload dL_law_34
theorem s_L_law_36 : Snd PG.nam M0 36 (m_iald [.int] 37) := snd_iald dL_law_36
theorem s_L_law_37 : Snd PG.nam M0 37 (m_const (.int (nI 15)) 39) := snd_bipush dL_law_37 (by decide)
theorem s_L_law_39 : Snd PG.nam M0 39 (m_ibin (fun a b => a &&& b) 40) := snd_iand dL_law_39
theorem s_L_law_40 : Snd PG.nam M0 40 (m_ifz (fun x => if x = (nI 0) then 104 else if x = (nI 1) then 282 else if x = (nI 2) then 460 else if x = (nI 3) then 504 else if x = (nI 4) then 548 else if x = (nI 5) then 592 else if x = (nI 6) then 605 else if x = (nI 7) then 661 else if x = (nI 8) then 761 else if x = (nI 9) then 805 else if x = (nI 10) then 818 else if x = (nI 11) then 885 else 941)) := snd_sw (fun Ω d mc ms P h k n lv st x kk => by
    dsimp only at kk
    by_cases h0 : x = (nI 0)
    · rw [if_pos h0] at kk; subst h0; exact V.tableIn (off := 64) dL_law_40 (by decide +kernel) (by decide +kernel) (by decide +kernel) (by decide) kk
    rw [if_neg h0] at kk
    by_cases h1 : x = (nI 1)
    · rw [if_pos h1] at kk; subst h1; exact V.tableIn (off := 242) dL_law_40 (by decide +kernel) (by decide +kernel) (by decide +kernel) (by decide) kk
    rw [if_neg h1] at kk
    by_cases h2 : x = (nI 2)
    · rw [if_pos h2] at kk; subst h2; exact V.tableIn (off := 420) dL_law_40 (by decide +kernel) (by decide +kernel) (by decide +kernel) (by decide) kk
    rw [if_neg h2] at kk
    by_cases h3 : x = (nI 3)
    · rw [if_pos h3] at kk; subst h3; exact V.tableIn (off := 464) dL_law_40 (by decide +kernel) (by decide +kernel) (by decide +kernel) (by decide) kk
    rw [if_neg h3] at kk
    by_cases h4 : x = (nI 4)
    · rw [if_pos h4] at kk; subst h4; exact V.tableIn (off := 508) dL_law_40 (by decide +kernel) (by decide +kernel) (by decide +kernel) (by decide) kk
    rw [if_neg h4] at kk
    by_cases h5 : x = (nI 5)
    · rw [if_pos h5] at kk; subst h5; exact V.tableIn (off := 552) dL_law_40 (by decide +kernel) (by decide +kernel) (by decide +kernel) (by decide) kk
    rw [if_neg h5] at kk
    by_cases h6 : x = (nI 6)
    · rw [if_pos h6] at kk; subst h6; exact V.tableIn (off := 565) dL_law_40 (by decide +kernel) (by decide +kernel) (by decide +kernel) (by decide) kk
    rw [if_neg h6] at kk
    by_cases h7 : x = (nI 7)
    · rw [if_pos h7] at kk; subst h7; exact V.tableIn (off := 621) dL_law_40 (by decide +kernel) (by decide +kernel) (by decide +kernel) (by decide) kk
    rw [if_neg h7] at kk
    by_cases h8 : x = (nI 8)
    · rw [if_pos h8] at kk; subst h8; exact V.tableIn (off := 721) dL_law_40 (by decide +kernel) (by decide +kernel) (by decide +kernel) (by decide) kk
    rw [if_neg h8] at kk
    by_cases h9 : x = (nI 9)
    · rw [if_pos h9] at kk; subst h9; exact V.tableIn (off := 765) dL_law_40 (by decide +kernel) (by decide +kernel) (by decide +kernel) (by decide) kk
    rw [if_neg h9] at kk
    by_cases h10 : x = (nI 10)
    · rw [if_pos h10] at kk; subst h10; exact V.tableIn (off := 778) dL_law_40 (by decide +kernel) (by decide +kernel) (by decide +kernel) (by decide) kk
    rw [if_neg h10] at kk
    by_cases h11 : x = (nI 11)
    · rw [if_pos h11] at kk; subst h11; exact V.tableIn (off := 845) dL_law_40 (by decide +kernel) (by decide +kernel) (by decide +kernel) (by decide) kk
    rw [if_neg h11] at kk
    refine V.tableOut dL_law_40 ?_ (by decide) kk
    have g0 := sw_ne h0 (v := 0) (by decide +kernel)
    have g1 := sw_ne h1 (v := 1) (by decide +kernel)
    have g2 := sw_ne h2 (v := 2) (by decide +kernel)
    have g3 := sw_ne h3 (v := 3) (by decide +kernel)
    have g4 := sw_ne h4 (v := 4) (by decide +kernel)
    have g5 := sw_ne h5 (v := 5) (by decide +kernel)
    have g6 := sw_ne h6 (v := 6) (by decide +kernel)
    have g7 := sw_ne h7 (v := 7) (by decide +kernel)
    have g8 := sw_ne h8 (v := 8) (by decide +kernel)
    have g9 := sw_ne h9 (v := 9) (by decide +kernel)
    have g10 := sw_ne h10 (v := 10) (by decide +kernel)
    have g11 := sw_ne h11 (v := 11) (by decide +kernel)
    omega)
theorem s_L_law_104 : Snd PG.nam M0 104 (m_aload 1 105) := snd_aload_n dL_law_104 rfl
theorem s_L_law_105 : Snd PG.nam M0 105 (m_aload 0 106) := snd_aload_n dL_law_105 rfl
theorem s_L_law_106 : Snd PG.nam M0 106 (m_iload 4 108) := snd_iload dL_law_106
theorem s_L_law_108 : Snd PG.nam M0 108 (m_const (.int (nI 1)) 109) := snd_iconst dL_law_108 (by decide)
theorem s_L_law_109 : Snd PG.nam M0 109 (m_ibin (fun a b => a + b) 110) := snd_iadd dL_law_109
theorem s_L_law_110 : Snd PG.nam M0 110 (m_iald [.int] 111) := snd_iald dL_law_110
theorem s_L_law_111 : Snd PG.nam M0 111 (m_i2l 112) := snd_i2l dL_law_111
theorem s_L_law_112 : Snd PG.nam M0 112 (m_const (.int (nI 32)) 114) := snd_bipush dL_law_112 (by decide)
theorem s_L_law_114 : Snd PG.nam M0 114 (m_lsh (fun a b => a <<< (b.toInt64 &&& 63)) 115) := snd_lshl dL_law_114
theorem s_L_law_115 : Snd PG.nam M0 115 (m_aload 0 116) := snd_aload_n dL_law_115 rfl
theorem s_L_law_116 : Snd PG.nam M0 116 (m_iload 4 118) := snd_iload dL_law_116
theorem s_L_law_118 : Snd PG.nam M0 118 (m_const (.int (nI 2)) 119) := snd_iconst dL_law_118 (by decide)
theorem s_L_law_119 : Snd PG.nam M0 119 (m_ibin (fun a b => a + b) 120) := snd_iadd dL_law_119
theorem s_L_law_120 : Snd PG.nam M0 120 (m_iald [.int] 121) := snd_iald dL_law_120
theorem s_L_law_121 : Snd PG.nam M0 121 (m_i2l 122) := snd_i2l dL_law_121
theorem s_L_law_122 : Snd PG.nam M0 122 (m_const (.long (4294967295 : Int64)) 125) := snd_ldc2 dL_law_122 w1826
theorem s_L_law_125 : Snd PG.nam M0 125 (m_lbin (fun a b => a &&& b) 126) := snd_land dL_law_125
theorem s_L_law_126 : Snd PG.nam M0 126 (m_lbin (fun a b => a ||| b) 127) := snd_lor dL_law_126
theorem s_L_law_127 : Snd PG.nam M0 127 (m_aload 0 128) := snd_aload_n dL_law_127 rfl
theorem s_L_law_128 : Snd PG.nam M0 128 (m_iload 4 130) := snd_iload dL_law_128
theorem s_L_law_130 : Snd PG.nam M0 130 (m_const (.int (nI 3)) 131) := snd_iconst dL_law_130 (by decide)
theorem s_L_law_131 : Snd PG.nam M0 131 (m_ibin (fun a b => a + b) 132) := snd_iadd dL_law_131
theorem s_L_law_132 : Snd PG.nam M0 132 (m_iald [.int] 133) := snd_iald dL_law_132
theorem s_L_law_133 : Snd PG.nam M0 133 (m_i2l 134) := snd_i2l dL_law_133
theorem s_L_law_134 : Snd PG.nam M0 134 (m_const (.int (nI 32)) 136) := snd_bipush dL_law_134 (by decide)
theorem s_L_law_136 : Snd PG.nam M0 136 (m_lsh (fun a b => a <<< (b.toInt64 &&& 63)) 137) := snd_lshl dL_law_136
theorem s_L_law_137 : Snd PG.nam M0 137 (m_aload 0 138) := snd_aload_n dL_law_137 rfl
theorem s_L_law_138 : Snd PG.nam M0 138 (m_iload 4 140) := snd_iload dL_law_138
theorem s_L_law_140 : Snd PG.nam M0 140 (m_const (.int (nI 4)) 141) := snd_iconst dL_law_140 (by decide)
theorem s_L_law_141 : Snd PG.nam M0 141 (m_ibin (fun a b => a + b) 142) := snd_iadd dL_law_141
theorem s_L_law_142 : Snd PG.nam M0 142 (m_iald [.int] 143) := snd_iald dL_law_142
theorem s_L_law_143 : Snd PG.nam M0 143 (m_i2l 144) := snd_i2l dL_law_143
theorem s_L_law_144 : Snd PG.nam M0 144 (m_const (.long (4294967295 : Int64)) 147) := snd_ldc2 dL_law_144 w1826
theorem s_L_law_147 : Snd PG.nam M0 147 (m_lbin (fun a b => a &&& b) 148) := snd_land dL_law_147
theorem s_L_law_148 : Snd PG.nam M0 148 (m_lbin (fun a b => a ||| b) 149) := snd_lor dL_law_148
theorem s_L_law_149 : Snd PG.nam M0 149 (m_aload 0 150) := snd_aload_n dL_law_149 rfl
theorem s_L_law_150 : Snd PG.nam M0 150 (m_iload 4 152) := snd_iload dL_law_150
theorem s_L_law_152 : Snd PG.nam M0 152 (m_const (.int (nI 5)) 153) := snd_iconst dL_law_152 (by decide)
theorem s_L_law_153 : Snd PG.nam M0 153 (m_ibin (fun a b => a + b) 154) := snd_iadd dL_law_153
theorem s_L_law_154 : Snd PG.nam M0 154 (m_iald [.int] 155) := snd_iald dL_law_154
theorem s_L_law_155 : Snd PG.nam M0 155 (m_i2l 156) := snd_i2l dL_law_155
theorem s_L_law_156 : Snd PG.nam M0 156 (m_const (.int (nI 32)) 158) := snd_bipush dL_law_156 (by decide)
theorem s_L_law_158 : Snd PG.nam M0 158 (m_lsh (fun a b => a <<< (b.toInt64 &&& 63)) 159) := snd_lshl dL_law_158
theorem s_L_law_159 : Snd PG.nam M0 159 (m_aload 0 160) := snd_aload_n dL_law_159 rfl
theorem s_L_law_160 : Snd PG.nam M0 160 (m_iload 4 162) := snd_iload dL_law_160
theorem s_L_law_162 : Snd PG.nam M0 162 (m_const (.int (nI 6)) 164) := snd_bipush dL_law_162 (by decide)
theorem s_L_law_164 : Snd PG.nam M0 164 (m_ibin (fun a b => a + b) 165) := snd_iadd dL_law_164
theorem s_L_law_165 : Snd PG.nam M0 165 (m_iald [.int] 166) := snd_iald dL_law_165
theorem s_L_law_166 : Snd PG.nam M0 166 (m_i2l 167) := snd_i2l dL_law_166
theorem s_L_law_167 : Snd PG.nam M0 167 (m_const (.long (4294967295 : Int64)) 170) := snd_ldc2 dL_law_167 w1826
theorem s_L_law_170 : Snd PG.nam M0 170 (m_lbin (fun a b => a &&& b) 171) := snd_land dL_law_170
theorem s_L_law_171 : Snd PG.nam M0 171 (m_lbin (fun a b => a ||| b) 172) := snd_lor dL_law_171
theorem s_L_law_172 : Snd PG.nam M0 172 (m_aload 3 173) := snd_aload_n dL_law_172 rfl
theorem s_L_law_173 : Snd PG.nam M0 173 (m_callS false 1 5 176) := snd_callS (nam := PG.nam) (yy := 1) dL_law_173 (Or.inl w206) w207 ⟨by decide, by decide +kernel⟩ (by decide)
theorem s_L_law_176 : Snd PG.nam M0 176 (m_istore 5 178) := snd_istore dL_law_176 (by decide)
theorem s_L_law_178 : Snd PG.nam M0 178 (m_aload 2 179) := snd_aload_n dL_law_178 rfl
theorem s_L_law_179 : Snd PG.nam M0 179 (m_aload 0 180) := snd_aload_n dL_law_179 rfl
theorem s_L_law_180 : Snd PG.nam M0 180 (m_iload 4 182) := snd_iload dL_law_180
theorem s_L_law_182 : Snd PG.nam M0 182 (m_const (.int (nI 1)) 183) := snd_iconst dL_law_182 (by decide)
theorem s_L_law_183 : Snd PG.nam M0 183 (m_ibin (fun a b => a + b) 184) := snd_iadd dL_law_183
theorem s_L_law_184 : Snd PG.nam M0 184 (m_iald [.int] 185) := snd_iald dL_law_184
theorem s_L_law_185 : Snd PG.nam M0 185 (m_i2l 186) := snd_i2l dL_law_185
theorem s_L_law_186 : Snd PG.nam M0 186 (m_const (.int (nI 32)) 188) := snd_bipush dL_law_186 (by decide)
theorem s_L_law_188 : Snd PG.nam M0 188 (m_lsh (fun a b => a <<< (b.toInt64 &&& 63)) 189) := snd_lshl dL_law_188
theorem s_L_law_189 : Snd PG.nam M0 189 (m_aload 0 190) := snd_aload_n dL_law_189 rfl
theorem s_L_law_190 : Snd PG.nam M0 190 (m_iload 4 192) := snd_iload dL_law_190
theorem s_L_law_192 : Snd PG.nam M0 192 (m_const (.int (nI 2)) 193) := snd_iconst dL_law_192 (by decide)
theorem s_L_law_193 : Snd PG.nam M0 193 (m_ibin (fun a b => a + b) 194) := snd_iadd dL_law_193
theorem s_L_law_194 : Snd PG.nam M0 194 (m_iald [.int] 195) := snd_iald dL_law_194
theorem s_L_law_195 : Snd PG.nam M0 195 (m_i2l 196) := snd_i2l dL_law_195
theorem s_L_law_196 : Snd PG.nam M0 196 (m_const (.long (4294967295 : Int64)) 199) := snd_ldc2 dL_law_196 w1826
theorem s_L_law_199 : Snd PG.nam M0 199 (m_lbin (fun a b => a &&& b) 200) := snd_land dL_law_199
theorem s_L_law_200 : Snd PG.nam M0 200 (m_lbin (fun a b => a ||| b) 201) := snd_lor dL_law_200
theorem s_L_law_201 : Snd PG.nam M0 201 (m_aload 0 202) := snd_aload_n dL_law_201 rfl
theorem s_L_law_202 : Snd PG.nam M0 202 (m_iload 4 204) := snd_iload dL_law_202
theorem s_L_law_204 : Snd PG.nam M0 204 (m_const (.int (nI 3)) 205) := snd_iconst dL_law_204 (by decide)
theorem s_L_law_205 : Snd PG.nam M0 205 (m_ibin (fun a b => a + b) 206) := snd_iadd dL_law_205
theorem s_L_law_206 : Snd PG.nam M0 206 (m_iald [.int] 207) := snd_iald dL_law_206
theorem s_L_law_207 : Snd PG.nam M0 207 (m_i2l 208) := snd_i2l dL_law_207
theorem s_L_law_208 : Snd PG.nam M0 208 (m_const (.int (nI 32)) 210) := snd_bipush dL_law_208 (by decide)
theorem s_L_law_210 : Snd PG.nam M0 210 (m_lsh (fun a b => a <<< (b.toInt64 &&& 63)) 211) := snd_lshl dL_law_210
theorem s_L_law_211 : Snd PG.nam M0 211 (m_aload 0 212) := snd_aload_n dL_law_211 rfl
theorem s_L_law_212 : Snd PG.nam M0 212 (m_iload 4 214) := snd_iload dL_law_212
theorem s_L_law_214 : Snd PG.nam M0 214 (m_const (.int (nI 4)) 215) := snd_iconst dL_law_214 (by decide)
theorem s_L_law_215 : Snd PG.nam M0 215 (m_ibin (fun a b => a + b) 216) := snd_iadd dL_law_215
theorem s_L_law_216 : Snd PG.nam M0 216 (m_iald [.int] 217) := snd_iald dL_law_216
theorem s_L_law_217 : Snd PG.nam M0 217 (m_i2l 218) := snd_i2l dL_law_217
theorem s_L_law_218 : Snd PG.nam M0 218 (m_const (.long (4294967295 : Int64)) 221) := snd_ldc2 dL_law_218 w1826
theorem s_L_law_221 : Snd PG.nam M0 221 (m_lbin (fun a b => a &&& b) 222) := snd_land dL_law_221
theorem s_L_law_222 : Snd PG.nam M0 222 (m_lbin (fun a b => a ||| b) 223) := snd_lor dL_law_222
theorem s_L_law_223 : Snd PG.nam M0 223 (m_aload 0 224) := snd_aload_n dL_law_223 rfl
theorem s_L_law_224 : Snd PG.nam M0 224 (m_iload 4 226) := snd_iload dL_law_224
theorem s_L_law_226 : Snd PG.nam M0 226 (m_const (.int (nI 5)) 227) := snd_iconst dL_law_226 (by decide)
theorem s_L_law_227 : Snd PG.nam M0 227 (m_ibin (fun a b => a + b) 228) := snd_iadd dL_law_227
theorem s_L_law_228 : Snd PG.nam M0 228 (m_iald [.int] 229) := snd_iald dL_law_228
theorem s_L_law_229 : Snd PG.nam M0 229 (m_i2l 230) := snd_i2l dL_law_229
theorem s_L_law_230 : Snd PG.nam M0 230 (m_const (.int (nI 32)) 232) := snd_bipush dL_law_230 (by decide)
theorem s_L_law_232 : Snd PG.nam M0 232 (m_lsh (fun a b => a <<< (b.toInt64 &&& 63)) 233) := snd_lshl dL_law_232
theorem s_L_law_233 : Snd PG.nam M0 233 (m_aload 0 234) := snd_aload_n dL_law_233 rfl
theorem s_L_law_234 : Snd PG.nam M0 234 (m_iload 4 236) := snd_iload dL_law_234
theorem s_L_law_236 : Snd PG.nam M0 236 (m_const (.int (nI 6)) 238) := snd_bipush dL_law_236 (by decide)
theorem s_L_law_238 : Snd PG.nam M0 238 (m_ibin (fun a b => a + b) 239) := snd_iadd dL_law_238
theorem s_L_law_239 : Snd PG.nam M0 239 (m_iald [.int] 240) := snd_iald dL_law_239
theorem s_L_law_240 : Snd PG.nam M0 240 (m_i2l 241) := snd_i2l dL_law_240
theorem s_L_law_241 : Snd PG.nam M0 241 (m_const (.long (4294967295 : Int64)) 244) := snd_ldc2 dL_law_241 w1826
theorem s_L_law_244 : Snd PG.nam M0 244 (m_lbin (fun a b => a &&& b) 245) := snd_land dL_law_244
theorem s_L_law_245 : Snd PG.nam M0 245 (m_lbin (fun a b => a ||| b) 246) := snd_lor dL_law_245
theorem s_L_law_246 : Snd PG.nam M0 246 (m_callV false [(1, 38)] 3 249) := snd_callV (nam := PG.nam) (List.forall_mem_cons.mpr ⟨dr_V (ym := PG.nam 38) dL_law_246 (Or.inl w1593) mi_38 rfl w1595, (fun q hq => absurd hq List.not_mem_nil)⟩) (by decide)
theorem s_L_law_249 : Snd PG.nam M0 249 (m_istore 6 251) := snd_istore dL_law_249 (by decide)
theorem s_L_law_251 : Snd PG.nam M0 251 (m_aload 2 252) := snd_aload_n dL_law_251 rfl
theorem s_L_law_252 : Snd PG.nam M0 252 (m_callV false [(1, 37)] 0 255) := snd_callV (nam := PG.nam) (List.forall_mem_cons.mpr ⟨dr_V (ym := PG.nam 37) dL_law_252 (Or.inl w1589) mi_37 rfl w1591, (fun q hq => absurd hq List.not_mem_nil)⟩) (by decide)
theorem s_L_law_255 : Snd PG.nam M0 255 (m_iload 5 257) := snd_iload dL_law_255
theorem s_L_law_257 : Snd PG.nam M0 257 (m_icmp (fun x z => if x = z then 262 else 260)) := snd_icmp_eq dL_law_257 (by decide)
theorem s_L_law_260 : Snd PG.nam M0 260 (m_const (.int (nI 0)) 261) := snd_iconst dL_law_260 (by decide)
theorem s_L_law_261 : Snd PG.nam M0 261 (m_iret .boolean) := snd_iret dL_law_261 rfl
theorem s_L_law_262 : Snd PG.nam M0 262 (m_iload 5 264) := snd_iload dL_law_262
theorem s_L_law_264 : Snd PG.nam M0 264 (m_ifz (fun x => if x = 0 then 267 else 279)) := snd_if_ne dL_law_264 (by decide)
theorem s_L_law_267 : Snd PG.nam M0 267 (m_aload 3 268) := snd_aload_n dL_law_267 rfl
theorem s_L_law_268 : Snd PG.nam M0 268 (m_const (.int (nI 0)) 269) := snd_iconst dL_law_268 (by decide)
theorem s_L_law_269 : Snd PG.nam M0 269 (m_lald 270) := snd_lald dL_law_269
theorem s_L_law_270 : Snd PG.nam M0 270 (m_iload 6 272) := snd_iload dL_law_270
theorem s_L_law_272 : Snd PG.nam M0 272 (m_i2l 273) := snd_i2l dL_law_272
theorem s_L_law_273 : Snd PG.nam M0 273 (m_lcmp 274) := snd_lcmp dL_law_273
theorem s_L_law_274 : Snd PG.nam M0 274 (m_ifz (fun x => if x = 0 then 279 else 277)) := snd_if_eq dL_law_274 (by decide)
theorem s_L_law_277 : Snd PG.nam M0 277 (m_const (.int (nI 0)) 278) := snd_iconst dL_law_277 (by decide)
theorem s_L_law_278 : Snd PG.nam M0 278 (m_iret .boolean) := snd_iret dL_law_278 rfl
theorem s_L_law_279 : Snd PG.nam M0 279 (m_goto 941) := snd_goto dL_law_279 (by decide)
theorem s_L_law_282 : Snd PG.nam M0 282 (m_aload 1 283) := snd_aload_n dL_law_282 rfl
theorem s_L_law_283 : Snd PG.nam M0 283 (m_aload 0 284) := snd_aload_n dL_law_283 rfl
theorem s_L_law_284 : Snd PG.nam M0 284 (m_iload 4 286) := snd_iload dL_law_284
theorem s_L_law_286 : Snd PG.nam M0 286 (m_const (.int (nI 1)) 287) := snd_iconst dL_law_286 (by decide)
theorem s_L_law_287 : Snd PG.nam M0 287 (m_ibin (fun a b => a + b) 288) := snd_iadd dL_law_287
theorem s_L_law_288 : Snd PG.nam M0 288 (m_iald [.int] 289) := snd_iald dL_law_288
theorem s_L_law_289 : Snd PG.nam M0 289 (m_i2l 290) := snd_i2l dL_law_289
theorem s_L_law_290 : Snd PG.nam M0 290 (m_const (.int (nI 32)) 292) := snd_bipush dL_law_290 (by decide)
theorem s_L_law_292 : Snd PG.nam M0 292 (m_lsh (fun a b => a <<< (b.toInt64 &&& 63)) 293) := snd_lshl dL_law_292
theorem s_L_law_293 : Snd PG.nam M0 293 (m_aload 0 294) := snd_aload_n dL_law_293 rfl
theorem s_L_law_294 : Snd PG.nam M0 294 (m_iload 4 296) := snd_iload dL_law_294
theorem s_L_law_296 : Snd PG.nam M0 296 (m_const (.int (nI 2)) 297) := snd_iconst dL_law_296 (by decide)
theorem s_L_law_297 : Snd PG.nam M0 297 (m_ibin (fun a b => a + b) 298) := snd_iadd dL_law_297
theorem s_L_law_298 : Snd PG.nam M0 298 (m_iald [.int] 299) := snd_iald dL_law_298
theorem s_L_law_299 : Snd PG.nam M0 299 (m_i2l 300) := snd_i2l dL_law_299
theorem s_L_law_300 : Snd PG.nam M0 300 (m_const (.long (4294967295 : Int64)) 303) := snd_ldc2 dL_law_300 w1826
theorem s_L_law_303 : Snd PG.nam M0 303 (m_lbin (fun a b => a &&& b) 304) := snd_land dL_law_303
theorem s_L_law_304 : Snd PG.nam M0 304 (m_lbin (fun a b => a ||| b) 305) := snd_lor dL_law_304
theorem s_L_law_305 : Snd PG.nam M0 305 (m_aload 0 306) := snd_aload_n dL_law_305 rfl
theorem s_L_law_306 : Snd PG.nam M0 306 (m_iload 4 308) := snd_iload dL_law_306
theorem s_L_law_308 : Snd PG.nam M0 308 (m_const (.int (nI 3)) 309) := snd_iconst dL_law_308 (by decide)
theorem s_L_law_309 : Snd PG.nam M0 309 (m_ibin (fun a b => a + b) 310) := snd_iadd dL_law_309
theorem s_L_law_310 : Snd PG.nam M0 310 (m_iald [.int] 311) := snd_iald dL_law_310
theorem s_L_law_311 : Snd PG.nam M0 311 (m_i2l 312) := snd_i2l dL_law_311
theorem s_L_law_312 : Snd PG.nam M0 312 (m_const (.int (nI 32)) 314) := snd_bipush dL_law_312 (by decide)
theorem s_L_law_314 : Snd PG.nam M0 314 (m_lsh (fun a b => a <<< (b.toInt64 &&& 63)) 315) := snd_lshl dL_law_314
theorem s_L_law_315 : Snd PG.nam M0 315 (m_aload 0 316) := snd_aload_n dL_law_315 rfl
theorem s_L_law_316 : Snd PG.nam M0 316 (m_iload 4 318) := snd_iload dL_law_316
theorem s_L_law_318 : Snd PG.nam M0 318 (m_const (.int (nI 4)) 319) := snd_iconst dL_law_318 (by decide)
theorem s_L_law_319 : Snd PG.nam M0 319 (m_ibin (fun a b => a + b) 320) := snd_iadd dL_law_319
theorem s_L_law_320 : Snd PG.nam M0 320 (m_iald [.int] 321) := snd_iald dL_law_320
theorem s_L_law_321 : Snd PG.nam M0 321 (m_i2l 322) := snd_i2l dL_law_321
theorem s_L_law_322 : Snd PG.nam M0 322 (m_const (.long (4294967295 : Int64)) 325) := snd_ldc2 dL_law_322 w1826
theorem s_L_law_325 : Snd PG.nam M0 325 (m_lbin (fun a b => a &&& b) 326) := snd_land dL_law_325
theorem s_L_law_326 : Snd PG.nam M0 326 (m_lbin (fun a b => a ||| b) 327) := snd_lor dL_law_326
theorem s_L_law_327 : Snd PG.nam M0 327 (m_aload 0 328) := snd_aload_n dL_law_327 rfl
theorem s_L_law_328 : Snd PG.nam M0 328 (m_iload 4 330) := snd_iload dL_law_328
theorem s_L_law_330 : Snd PG.nam M0 330 (m_const (.int (nI 5)) 331) := snd_iconst dL_law_330 (by decide)
theorem s_L_law_331 : Snd PG.nam M0 331 (m_ibin (fun a b => a + b) 332) := snd_iadd dL_law_331
theorem s_L_law_332 : Snd PG.nam M0 332 (m_iald [.int] 333) := snd_iald dL_law_332
theorem s_L_law_333 : Snd PG.nam M0 333 (m_i2l 334) := snd_i2l dL_law_333
theorem s_L_law_334 : Snd PG.nam M0 334 (m_const (.int (nI 32)) 336) := snd_bipush dL_law_334 (by decide)
theorem s_L_law_336 : Snd PG.nam M0 336 (m_lsh (fun a b => a <<< (b.toInt64 &&& 63)) 337) := snd_lshl dL_law_336
theorem s_L_law_337 : Snd PG.nam M0 337 (m_aload 0 338) := snd_aload_n dL_law_337 rfl
theorem s_L_law_338 : Snd PG.nam M0 338 (m_iload 4 340) := snd_iload dL_law_338
theorem s_L_law_340 : Snd PG.nam M0 340 (m_const (.int (nI 6)) 342) := snd_bipush dL_law_340 (by decide)
theorem s_L_law_342 : Snd PG.nam M0 342 (m_ibin (fun a b => a + b) 343) := snd_iadd dL_law_342
theorem s_L_law_343 : Snd PG.nam M0 343 (m_iald [.int] 344) := snd_iald dL_law_343
theorem s_L_law_344 : Snd PG.nam M0 344 (m_i2l 345) := snd_i2l dL_law_344
theorem s_L_law_345 : Snd PG.nam M0 345 (m_const (.long (4294967295 : Int64)) 348) := snd_ldc2 dL_law_345 w1826
theorem s_L_law_348 : Snd PG.nam M0 348 (m_lbin (fun a b => a &&& b) 349) := snd_land dL_law_348
theorem s_L_law_349 : Snd PG.nam M0 349 (m_lbin (fun a b => a ||| b) 350) := snd_lor dL_law_349
theorem s_L_law_350 : Snd PG.nam M0 350 (m_aload 3 351) := snd_aload_n dL_law_350 rfl
theorem s_L_law_351 : Snd PG.nam M0 351 (m_callS false 2 5 354) := snd_callS (nam := PG.nam) (yy := 2) dL_law_351 (Or.inl w659) w660 ⟨by decide, by decide +kernel⟩ (by decide)
theorem s_L_law_354 : Snd PG.nam M0 354 (m_istore 5 356) := snd_istore dL_law_354 (by decide)
theorem s_L_law_356 : Snd PG.nam M0 356 (m_aload 2 357) := snd_aload_n dL_law_356 rfl
theorem s_L_law_357 : Snd PG.nam M0 357 (m_aload 0 358) := snd_aload_n dL_law_357 rfl
theorem s_L_law_358 : Snd PG.nam M0 358 (m_iload 4 360) := snd_iload dL_law_358
theorem s_L_law_360 : Snd PG.nam M0 360 (m_const (.int (nI 1)) 361) := snd_iconst dL_law_360 (by decide)
theorem s_L_law_361 : Snd PG.nam M0 361 (m_ibin (fun a b => a + b) 362) := snd_iadd dL_law_361
theorem s_L_law_362 : Snd PG.nam M0 362 (m_iald [.int] 363) := snd_iald dL_law_362
theorem s_L_law_363 : Snd PG.nam M0 363 (m_i2l 364) := snd_i2l dL_law_363
theorem s_L_law_364 : Snd PG.nam M0 364 (m_const (.int (nI 32)) 366) := snd_bipush dL_law_364 (by decide)
theorem s_L_law_366 : Snd PG.nam M0 366 (m_lsh (fun a b => a <<< (b.toInt64 &&& 63)) 367) := snd_lshl dL_law_366
theorem s_L_law_367 : Snd PG.nam M0 367 (m_aload 0 368) := snd_aload_n dL_law_367 rfl
theorem s_L_law_368 : Snd PG.nam M0 368 (m_iload 4 370) := snd_iload dL_law_368
theorem s_L_law_370 : Snd PG.nam M0 370 (m_const (.int (nI 2)) 371) := snd_iconst dL_law_370 (by decide)
theorem s_L_law_371 : Snd PG.nam M0 371 (m_ibin (fun a b => a + b) 372) := snd_iadd dL_law_371
theorem s_L_law_372 : Snd PG.nam M0 372 (m_iald [.int] 373) := snd_iald dL_law_372
theorem s_L_law_373 : Snd PG.nam M0 373 (m_i2l 374) := snd_i2l dL_law_373
theorem s_L_law_374 : Snd PG.nam M0 374 (m_const (.long (4294967295 : Int64)) 377) := snd_ldc2 dL_law_374 w1826
theorem s_L_law_377 : Snd PG.nam M0 377 (m_lbin (fun a b => a &&& b) 378) := snd_land dL_law_377
theorem s_L_law_378 : Snd PG.nam M0 378 (m_lbin (fun a b => a ||| b) 379) := snd_lor dL_law_378
theorem s_L_law_379 : Snd PG.nam M0 379 (m_aload 0 380) := snd_aload_n dL_law_379 rfl
theorem s_L_law_380 : Snd PG.nam M0 380 (m_iload 4 382) := snd_iload dL_law_380
theorem s_L_law_382 : Snd PG.nam M0 382 (m_const (.int (nI 3)) 383) := snd_iconst dL_law_382 (by decide)
theorem s_L_law_383 : Snd PG.nam M0 383 (m_ibin (fun a b => a + b) 384) := snd_iadd dL_law_383
theorem s_L_law_384 : Snd PG.nam M0 384 (m_iald [.int] 385) := snd_iald dL_law_384
theorem s_L_law_385 : Snd PG.nam M0 385 (m_i2l 386) := snd_i2l dL_law_385
theorem s_L_law_386 : Snd PG.nam M0 386 (m_const (.int (nI 32)) 388) := snd_bipush dL_law_386 (by decide)
theorem s_L_law_388 : Snd PG.nam M0 388 (m_lsh (fun a b => a <<< (b.toInt64 &&& 63)) 389) := snd_lshl dL_law_388
theorem s_L_law_389 : Snd PG.nam M0 389 (m_aload 0 390) := snd_aload_n dL_law_389 rfl
theorem s_L_law_390 : Snd PG.nam M0 390 (m_iload 4 392) := snd_iload dL_law_390
theorem s_L_law_392 : Snd PG.nam M0 392 (m_const (.int (nI 4)) 393) := snd_iconst dL_law_392 (by decide)
theorem s_L_law_393 : Snd PG.nam M0 393 (m_ibin (fun a b => a + b) 394) := snd_iadd dL_law_393
theorem s_L_law_394 : Snd PG.nam M0 394 (m_iald [.int] 395) := snd_iald dL_law_394
theorem s_L_law_395 : Snd PG.nam M0 395 (m_i2l 396) := snd_i2l dL_law_395
theorem s_L_law_396 : Snd PG.nam M0 396 (m_const (.long (4294967295 : Int64)) 399) := snd_ldc2 dL_law_396 w1826
theorem s_L_law_399 : Snd PG.nam M0 399 (m_lbin (fun a b => a &&& b) 400) := snd_land dL_law_399
theorem s_L_law_400 : Snd PG.nam M0 400 (m_lbin (fun a b => a ||| b) 401) := snd_lor dL_law_400
theorem s_L_law_401 : Snd PG.nam M0 401 (m_aload 0 402) := snd_aload_n dL_law_401 rfl
theorem s_L_law_402 : Snd PG.nam M0 402 (m_iload 4 404) := snd_iload dL_law_402
theorem s_L_law_404 : Snd PG.nam M0 404 (m_const (.int (nI 5)) 405) := snd_iconst dL_law_404 (by decide)
theorem s_L_law_405 : Snd PG.nam M0 405 (m_ibin (fun a b => a + b) 406) := snd_iadd dL_law_405
theorem s_L_law_406 : Snd PG.nam M0 406 (m_iald [.int] 407) := snd_iald dL_law_406
theorem s_L_law_407 : Snd PG.nam M0 407 (m_i2l 408) := snd_i2l dL_law_407
theorem s_L_law_408 : Snd PG.nam M0 408 (m_const (.int (nI 32)) 410) := snd_bipush dL_law_408 (by decide)
theorem s_L_law_410 : Snd PG.nam M0 410 (m_lsh (fun a b => a <<< (b.toInt64 &&& 63)) 411) := snd_lshl dL_law_410
theorem s_L_law_411 : Snd PG.nam M0 411 (m_aload 0 412) := snd_aload_n dL_law_411 rfl
theorem s_L_law_412 : Snd PG.nam M0 412 (m_iload 4 414) := snd_iload dL_law_412
theorem s_L_law_414 : Snd PG.nam M0 414 (m_const (.int (nI 6)) 416) := snd_bipush dL_law_414 (by decide)
theorem s_L_law_416 : Snd PG.nam M0 416 (m_ibin (fun a b => a + b) 417) := snd_iadd dL_law_416
theorem s_L_law_417 : Snd PG.nam M0 417 (m_iald [.int] 418) := snd_iald dL_law_417
theorem s_L_law_418 : Snd PG.nam M0 418 (m_i2l 419) := snd_i2l dL_law_418
theorem s_L_law_419 : Snd PG.nam M0 419 (m_const (.long (4294967295 : Int64)) 422) := snd_ldc2 dL_law_419 w1826
theorem s_L_law_422 : Snd PG.nam M0 422 (m_lbin (fun a b => a &&& b) 423) := snd_land dL_law_422
theorem s_L_law_423 : Snd PG.nam M0 423 (m_lbin (fun a b => a ||| b) 424) := snd_lor dL_law_423
theorem s_L_law_424 : Snd PG.nam M0 424 (m_callV false [(1, 48)] 3 427) := snd_callV (nam := PG.nam) (List.forall_mem_cons.mpr ⟨dr_V (ym := PG.nam 48) dL_law_424 (Or.inl w1632) mi_48 rfl w1634, (fun q hq => absurd hq List.not_mem_nil)⟩) (by decide)
theorem s_L_law_427 : Snd PG.nam M0 427 (m_istore 6 429) := snd_istore dL_law_427 (by decide)
theorem s_L_law_429 : Snd PG.nam M0 429 (m_aload 2 430) := snd_aload_n dL_law_429 rfl
theorem s_L_law_430 : Snd PG.nam M0 430 (m_callV false [(1, 37)] 0 433) := snd_callV (nam := PG.nam) (List.forall_mem_cons.mpr ⟨dr_V (ym := PG.nam 37) dL_law_430 (Or.inl w1589) mi_37 rfl w1591, (fun q hq => absurd hq List.not_mem_nil)⟩) (by decide)
theorem s_L_law_433 : Snd PG.nam M0 433 (m_iload 5 435) := snd_iload dL_law_433
theorem s_L_law_435 : Snd PG.nam M0 435 (m_icmp (fun x z => if x = z then 440 else 438)) := snd_icmp_eq dL_law_435 (by decide)
theorem s_L_law_438 : Snd PG.nam M0 438 (m_const (.int (nI 0)) 439) := snd_iconst dL_law_438 (by decide)
theorem s_L_law_439 : Snd PG.nam M0 439 (m_iret .boolean) := snd_iret dL_law_439 rfl
theorem s_L_law_440 : Snd PG.nam M0 440 (m_iload 5 442) := snd_iload dL_law_440
theorem s_L_law_442 : Snd PG.nam M0 442 (m_ifz (fun x => if x = 0 then 445 else 457)) := snd_if_ne dL_law_442 (by decide)
theorem s_L_law_445 : Snd PG.nam M0 445 (m_aload 3 446) := snd_aload_n dL_law_445 rfl
theorem s_L_law_446 : Snd PG.nam M0 446 (m_const (.int (nI 0)) 447) := snd_iconst dL_law_446 (by decide)
theorem s_L_law_447 : Snd PG.nam M0 447 (m_lald 448) := snd_lald dL_law_447
theorem s_L_law_448 : Snd PG.nam M0 448 (m_iload 6 450) := snd_iload dL_law_448
theorem s_L_law_450 : Snd PG.nam M0 450 (m_i2l 451) := snd_i2l dL_law_450
theorem s_L_law_451 : Snd PG.nam M0 451 (m_lcmp 452) := snd_lcmp dL_law_451
theorem s_L_law_452 : Snd PG.nam M0 452 (m_ifz (fun x => if x = 0 then 457 else 455)) := snd_if_eq dL_law_452 (by decide)
theorem s_L_law_455 : Snd PG.nam M0 455 (m_const (.int (nI 0)) 456) := snd_iconst dL_law_455 (by decide)
theorem s_L_law_456 : Snd PG.nam M0 456 (m_iret .boolean) := snd_iret dL_law_456 rfl
theorem s_L_law_457 : Snd PG.nam M0 457 (m_goto 941) := snd_goto dL_law_457 (by decide)
theorem s_L_law_460 : Snd PG.nam M0 460 (m_aload 1 461) := snd_aload_n dL_law_460 rfl
theorem s_L_law_461 : Snd PG.nam M0 461 (m_aload 3 462) := snd_aload_n dL_law_461 rfl
theorem s_L_law_462 : Snd PG.nam M0 462 (m_callS false 3 2 465) := snd_callS (nam := PG.nam) (yy := 3) dL_law_462 (Or.inl w670) w671 ⟨by decide, by decide +kernel⟩ (by decide)
theorem s_L_law_465 : Snd PG.nam M0 465 (m_istore 5 467) := snd_istore dL_law_465 (by decide)
theorem s_L_law_467 : Snd PG.nam M0 467 (m_aload 2 468) := snd_aload_n dL_law_467 rfl
theorem s_L_law_468 : Snd PG.nam M0 468 (m_callV false [(1, 49)] 0 471) := snd_callV (nam := PG.nam) (List.forall_mem_cons.mpr ⟨dr_V (ym := PG.nam 49) dL_law_468 (Or.inl w1636) mi_49 rfl w1638, (fun q hq => absurd hq List.not_mem_nil)⟩) (by decide)
theorem s_L_law_471 : Snd PG.nam M0 471 (m_istore 6 473) := snd_istore dL_law_471 (by decide)
theorem s_L_law_473 : Snd PG.nam M0 473 (m_aload 2 474) := snd_aload_n dL_law_473 rfl
theorem s_L_law_474 : Snd PG.nam M0 474 (m_callV false [(1, 37)] 0 477) := snd_callV (nam := PG.nam) (List.forall_mem_cons.mpr ⟨dr_V (ym := PG.nam 37) dL_law_474 (Or.inl w1589) mi_37 rfl w1591, (fun q hq => absurd hq List.not_mem_nil)⟩) (by decide)
theorem s_L_law_477 : Snd PG.nam M0 477 (m_iload 5 479) := snd_iload dL_law_477
theorem s_L_law_479 : Snd PG.nam M0 479 (m_icmp (fun x z => if x = z then 484 else 482)) := snd_icmp_eq dL_law_479 (by decide)
theorem s_L_law_482 : Snd PG.nam M0 482 (m_const (.int (nI 0)) 483) := snd_iconst dL_law_482 (by decide)
theorem s_L_law_483 : Snd PG.nam M0 483 (m_iret .boolean) := snd_iret dL_law_483 rfl
theorem s_L_law_484 : Snd PG.nam M0 484 (m_iload 5 486) := snd_iload dL_law_484
theorem s_L_law_486 : Snd PG.nam M0 486 (m_ifz (fun x => if x = 0 then 489 else 501)) := snd_if_ne dL_law_486 (by decide)
theorem s_L_law_489 : Snd PG.nam M0 489 (m_aload 3 490) := snd_aload_n dL_law_489 rfl
theorem s_L_law_490 : Snd PG.nam M0 490 (m_const (.int (nI 0)) 491) := snd_iconst dL_law_490 (by decide)
theorem s_L_law_491 : Snd PG.nam M0 491 (m_lald 492) := snd_lald dL_law_491
theorem s_L_law_492 : Snd PG.nam M0 492 (m_iload 6 494) := snd_iload dL_law_492
theorem s_L_law_494 : Snd PG.nam M0 494 (m_i2l 495) := snd_i2l dL_law_494
theorem s_L_law_495 : Snd PG.nam M0 495 (m_lcmp 496) := snd_lcmp dL_law_495
theorem s_L_law_496 : Snd PG.nam M0 496 (m_ifz (fun x => if x = 0 then 501 else 499)) := snd_if_eq dL_law_496 (by decide)
theorem s_L_law_499 : Snd PG.nam M0 499 (m_const (.int (nI 0)) 500) := snd_iconst dL_law_499 (by decide)
theorem s_L_law_500 : Snd PG.nam M0 500 (m_iret .boolean) := snd_iret dL_law_500 rfl
theorem s_L_law_501 : Snd PG.nam M0 501 (m_goto 941) := snd_goto dL_law_501 (by decide)
theorem s_L_law_504 : Snd PG.nam M0 504 (m_aload 1 505) := snd_aload_n dL_law_504 rfl
theorem s_L_law_505 : Snd PG.nam M0 505 (m_aload 3 506) := snd_aload_n dL_law_505 rfl
theorem s_L_law_506 : Snd PG.nam M0 506 (m_callS false 4 2 509) := snd_callS (nam := PG.nam) (yy := 4) dL_law_506 (Or.inl w677) w678 ⟨by decide, by decide +kernel⟩ (by decide)
theorem s_L_law_509 : Snd PG.nam M0 509 (m_istore 5 511) := snd_istore dL_law_509 (by decide)
theorem s_L_law_511 : Snd PG.nam M0 511 (m_aload 2 512) := snd_aload_n dL_law_511 rfl
theorem s_L_law_512 : Snd PG.nam M0 512 (m_callV false [(1, 50)] 0 515) := snd_callV (nam := PG.nam) (List.forall_mem_cons.mpr ⟨dr_V (ym := PG.nam 50) dL_law_512 (Or.inl w1640) mi_50 rfl w1642, (fun q hq => absurd hq List.not_mem_nil)⟩) (by decide)
theorem s_L_law_515 : Snd PG.nam M0 515 (m_istore 6 517) := snd_istore dL_law_515 (by decide)
theorem s_L_law_517 : Snd PG.nam M0 517 (m_aload 2 518) := snd_aload_n dL_law_517 rfl
theorem s_L_law_518 : Snd PG.nam M0 518 (m_callV false [(1, 37)] 0 521) := snd_callV (nam := PG.nam) (List.forall_mem_cons.mpr ⟨dr_V (ym := PG.nam 37) dL_law_518 (Or.inl w1589) mi_37 rfl w1591, (fun q hq => absurd hq List.not_mem_nil)⟩) (by decide)
theorem s_L_law_521 : Snd PG.nam M0 521 (m_iload 5 523) := snd_iload dL_law_521
theorem s_L_law_523 : Snd PG.nam M0 523 (m_icmp (fun x z => if x = z then 528 else 526)) := snd_icmp_eq dL_law_523 (by decide)
theorem s_L_law_526 : Snd PG.nam M0 526 (m_const (.int (nI 0)) 527) := snd_iconst dL_law_526 (by decide)
theorem s_L_law_527 : Snd PG.nam M0 527 (m_iret .boolean) := snd_iret dL_law_527 rfl
theorem s_L_law_528 : Snd PG.nam M0 528 (m_iload 5 530) := snd_iload dL_law_528
theorem s_L_law_530 : Snd PG.nam M0 530 (m_ifz (fun x => if x = 0 then 533 else 545)) := snd_if_ne dL_law_530 (by decide)
theorem s_L_law_533 : Snd PG.nam M0 533 (m_aload 3 534) := snd_aload_n dL_law_533 rfl
theorem s_L_law_534 : Snd PG.nam M0 534 (m_const (.int (nI 0)) 535) := snd_iconst dL_law_534 (by decide)
theorem s_L_law_535 : Snd PG.nam M0 535 (m_lald 536) := snd_lald dL_law_535
theorem s_L_law_536 : Snd PG.nam M0 536 (m_iload 6 538) := snd_iload dL_law_536
theorem s_L_law_538 : Snd PG.nam M0 538 (m_i2l 539) := snd_i2l dL_law_538
theorem s_L_law_539 : Snd PG.nam M0 539 (m_lcmp 540) := snd_lcmp dL_law_539
theorem s_L_law_540 : Snd PG.nam M0 540 (m_ifz (fun x => if x = 0 then 545 else 543)) := snd_if_eq dL_law_540 (by decide)
theorem s_L_law_543 : Snd PG.nam M0 543 (m_const (.int (nI 0)) 544) := snd_iconst dL_law_543 (by decide)
theorem s_L_law_544 : Snd PG.nam M0 544 (m_iret .boolean) := snd_iret dL_law_544 rfl
theorem s_L_law_545 : Snd PG.nam M0 545 (m_goto 941) := snd_goto dL_law_545 (by decide)
theorem s_L_law_548 : Snd PG.nam M0 548 (m_aload 1 549) := snd_aload_n dL_law_548 rfl
theorem s_L_law_549 : Snd PG.nam M0 549 (m_aload 3 550) := snd_aload_n dL_law_549 rfl
theorem s_L_law_550 : Snd PG.nam M0 550 (m_callS false 5 2 553) := snd_callS (nam := PG.nam) (yy := 5) dL_law_550 (Or.inl w688) w689 ⟨by decide, by decide +kernel⟩ (by decide)
theorem s_L_law_553 : Snd PG.nam M0 553 (m_istore 5 555) := snd_istore dL_law_553 (by decide)
theorem s_L_law_555 : Snd PG.nam M0 555 (m_aload 2 556) := snd_aload_n dL_law_555 rfl
theorem s_L_law_556 : Snd PG.nam M0 556 (m_callV false [(1, 51)] 0 559) := snd_callV (nam := PG.nam) (List.forall_mem_cons.mpr ⟨dr_V (ym := PG.nam 51) dL_law_556 (Or.inl w1644) mi_51 rfl w1646, (fun q hq => absurd hq List.not_mem_nil)⟩) (by decide)
theorem s_L_law_559 : Snd PG.nam M0 559 (m_istore 6 561) := snd_istore dL_law_559 (by decide)
theorem s_L_law_561 : Snd PG.nam M0 561 (m_aload 2 562) := snd_aload_n dL_law_561 rfl
theorem s_L_law_562 : Snd PG.nam M0 562 (m_callV false [(1, 37)] 0 565) := snd_callV (nam := PG.nam) (List.forall_mem_cons.mpr ⟨dr_V (ym := PG.nam 37) dL_law_562 (Or.inl w1589) mi_37 rfl w1591, (fun q hq => absurd hq List.not_mem_nil)⟩) (by decide)
theorem s_L_law_565 : Snd PG.nam M0 565 (m_iload 5 567) := snd_iload dL_law_565
theorem s_L_law_567 : Snd PG.nam M0 567 (m_icmp (fun x z => if x = z then 572 else 570)) := snd_icmp_eq dL_law_567 (by decide)
theorem s_L_law_570 : Snd PG.nam M0 570 (m_const (.int (nI 0)) 571) := snd_iconst dL_law_570 (by decide)
theorem s_L_law_571 : Snd PG.nam M0 571 (m_iret .boolean) := snd_iret dL_law_571 rfl
theorem s_L_law_572 : Snd PG.nam M0 572 (m_iload 5 574) := snd_iload dL_law_572
theorem s_L_law_574 : Snd PG.nam M0 574 (m_ifz (fun x => if x = 0 then 577 else 589)) := snd_if_ne dL_law_574 (by decide)
theorem s_L_law_577 : Snd PG.nam M0 577 (m_aload 3 578) := snd_aload_n dL_law_577 rfl
theorem s_L_law_578 : Snd PG.nam M0 578 (m_const (.int (nI 0)) 579) := snd_iconst dL_law_578 (by decide)
theorem s_L_law_579 : Snd PG.nam M0 579 (m_lald 580) := snd_lald dL_law_579
theorem s_L_law_580 : Snd PG.nam M0 580 (m_iload 6 582) := snd_iload dL_law_580
theorem s_L_law_582 : Snd PG.nam M0 582 (m_i2l 583) := snd_i2l dL_law_582
theorem s_L_law_583 : Snd PG.nam M0 583 (m_lcmp 584) := snd_lcmp dL_law_583
theorem s_L_law_584 : Snd PG.nam M0 584 (m_ifz (fun x => if x = 0 then 589 else 587)) := snd_if_eq dL_law_584 (by decide)
theorem s_L_law_587 : Snd PG.nam M0 587 (m_const (.int (nI 0)) 588) := snd_iconst dL_law_587 (by decide)
theorem s_L_law_588 : Snd PG.nam M0 588 (m_iret .boolean) := snd_iret dL_law_588 rfl
theorem s_L_law_589 : Snd PG.nam M0 589 (m_goto 941) := snd_goto dL_law_589 (by decide)
theorem s_L_law_592 : Snd PG.nam M0 592 (m_aload 1 593) := snd_aload_n dL_law_592 rfl
theorem s_L_law_593 : Snd PG.nam M0 593 (m_callV false [(0, 12)] 0 596) := snd_callV (nam := PG.nam) (List.forall_mem_cons.mpr ⟨dr_V (ym := PG.nam 12) dL_law_593 (Or.inl w198) mi_12 rfl w200, (fun q hq => absurd hq List.not_mem_nil)⟩) (by decide)
theorem s_L_law_596 : Snd PG.nam M0 596 (m_aload 2 597) := snd_aload_n dL_law_596 rfl
theorem s_L_law_597 : Snd PG.nam M0 597 (m_callV false [(1, 53)] 0 600) := snd_callV (nam := PG.nam) (List.forall_mem_cons.mpr ⟨dr_V (ym := PG.nam 53) dL_law_597 (Or.inl w1652) mi_53 rfl w1654, (fun q hq => absurd hq List.not_mem_nil)⟩) (by decide)
theorem s_L_law_600 : Snd PG.nam M0 600 (m_icmp (fun x z => if x = z then 941 else 603)) := snd_icmp_eq dL_law_600 (by decide)
theorem s_L_law_603 : Snd PG.nam M0 603 (m_const (.int (nI 0)) 604) := snd_iconst dL_law_603 (by decide)
theorem s_L_law_604 : Snd PG.nam M0 604 (m_iret .boolean) := snd_iret dL_law_604 rfl
theorem s_L_law_605 : Snd PG.nam M0 605 (m_aload 1 606) := snd_aload_n dL_law_605 rfl
theorem s_L_law_606 : Snd PG.nam M0 606 (m_aload 0 607) := snd_aload_n dL_law_606 rfl
theorem s_L_law_607 : Snd PG.nam M0 607 (m_iload 4 609) := snd_iload dL_law_607
theorem s_L_law_609 : Snd PG.nam M0 609 (m_const (.int (nI 1)) 610) := snd_iconst dL_law_609 (by decide)
theorem s_L_law_610 : Snd PG.nam M0 610 (m_ibin (fun a b => a + b) 611) := snd_iadd dL_law_610
theorem s_L_law_611 : Snd PG.nam M0 611 (m_iald [.int] 612) := snd_iald dL_law_611
theorem s_L_law_612 : Snd PG.nam M0 612 (m_aload 3 613) := snd_aload_n dL_law_612 rfl
theorem s_L_law_613 : Snd PG.nam M0 613 (m_callS false 6 3 616) := snd_callS (nam := PG.nam) (yy := 6) dL_law_613 (Or.inl w703) w704 ⟨by decide, by decide +kernel⟩ (by decide)
theorem s_L_law_616 : Snd PG.nam M0 616 (m_istore 5 618) := snd_istore dL_law_616 (by decide)
theorem s_L_law_618 : Snd PG.nam M0 618 (m_aload 2 619) := snd_aload_n dL_law_618 rfl
theorem s_L_law_619 : Snd PG.nam M0 619 (m_aload 0 620) := snd_aload_n dL_law_619 rfl
theorem s_L_law_620 : Snd PG.nam M0 620 (m_iload 4 622) := snd_iload dL_law_620
theorem s_L_law_622 : Snd PG.nam M0 622 (m_const (.int (nI 1)) 623) := snd_iconst dL_law_622 (by decide)
theorem s_L_law_623 : Snd PG.nam M0 623 (m_ibin (fun a b => a + b) 624) := snd_iadd dL_law_623
theorem s_L_law_624 : Snd PG.nam M0 624 (m_iald [.int] 625) := snd_iald dL_law_624
theorem s_L_law_625 : Snd PG.nam M0 625 (m_callV false [(1, 55)] 1 628) := snd_callV (nam := PG.nam) (List.forall_mem_cons.mpr ⟨dr_V (ym := PG.nam 55) dL_law_625 (Or.inl w1660) mi_55 rfl w1662, (fun q hq => absurd hq List.not_mem_nil)⟩) (by decide)
theorem s_L_law_628 : Snd PG.nam M0 628 (m_istore 6 630) := snd_istore dL_law_628 (by decide)
theorem s_L_law_630 : Snd PG.nam M0 630 (m_aload 2 631) := snd_aload_n dL_law_630 rfl
theorem s_L_law_631 : Snd PG.nam M0 631 (m_callV false [(1, 37)] 0 634) := snd_callV (nam := PG.nam) (List.forall_mem_cons.mpr ⟨dr_V (ym := PG.nam 37) dL_law_631 (Or.inl w1589) mi_37 rfl w1591, (fun q hq => absurd hq List.not_mem_nil)⟩) (by decide)
theorem s_L_law_634 : Snd PG.nam M0 634 (m_iload 5 636) := snd_iload dL_law_634
theorem s_L_law_636 : Snd PG.nam M0 636 (m_icmp (fun x z => if x = z then 641 else 639)) := snd_icmp_eq dL_law_636 (by decide)
theorem s_L_law_639 : Snd PG.nam M0 639 (m_const (.int (nI 0)) 640) := snd_iconst dL_law_639 (by decide)
theorem s_L_law_640 : Snd PG.nam M0 640 (m_iret .boolean) := snd_iret dL_law_640 rfl
theorem s_L_law_641 : Snd PG.nam M0 641 (m_iload 5 643) := snd_iload dL_law_641
theorem s_L_law_643 : Snd PG.nam M0 643 (m_ifz (fun x => if x = 0 then 646 else 658)) := snd_if_ne dL_law_643 (by decide)
theorem s_L_law_646 : Snd PG.nam M0 646 (m_aload 3 647) := snd_aload_n dL_law_646 rfl
theorem s_L_law_647 : Snd PG.nam M0 647 (m_const (.int (nI 0)) 648) := snd_iconst dL_law_647 (by decide)
theorem s_L_law_648 : Snd PG.nam M0 648 (m_lald 649) := snd_lald dL_law_648
theorem s_L_law_649 : Snd PG.nam M0 649 (m_iload 6 651) := snd_iload dL_law_649
theorem s_L_law_651 : Snd PG.nam M0 651 (m_i2l 652) := snd_i2l dL_law_651
theorem s_L_law_652 : Snd PG.nam M0 652 (m_lcmp 653) := snd_lcmp dL_law_652
theorem s_L_law_653 : Snd PG.nam M0 653 (m_ifz (fun x => if x = 0 then 658 else 656)) := snd_if_eq dL_law_653 (by decide)
theorem s_L_law_656 : Snd PG.nam M0 656 (m_const (.int (nI 0)) 657) := snd_iconst dL_law_656 (by decide)
theorem s_L_law_657 : Snd PG.nam M0 657 (m_iret .boolean) := snd_iret dL_law_657 rfl
theorem s_L_law_658 : Snd PG.nam M0 658 (m_goto 941) := snd_goto dL_law_658 (by decide)
theorem s_L_law_661 : Snd PG.nam M0 661 (m_aload 1 662) := snd_aload_n dL_law_661 rfl
theorem s_L_law_662 : Snd PG.nam M0 662 (m_aload 0 663) := snd_aload_n dL_law_662 rfl
theorem s_L_law_663 : Snd PG.nam M0 663 (m_iload 4 665) := snd_iload dL_law_663
theorem s_L_law_665 : Snd PG.nam M0 665 (m_const (.int (nI 1)) 666) := snd_iconst dL_law_665 (by decide)
theorem s_L_law_666 : Snd PG.nam M0 666 (m_ibin (fun a b => a + b) 667) := snd_iadd dL_law_666
theorem s_L_law_667 : Snd PG.nam M0 667 (m_iald [.int] 668) := snd_iald dL_law_667
theorem s_L_law_668 : Snd PG.nam M0 668 (m_i2l 669) := snd_i2l dL_law_668
theorem s_L_law_669 : Snd PG.nam M0 669 (m_const (.int (nI 32)) 671) := snd_bipush dL_law_669 (by decide)
theorem s_L_law_671 : Snd PG.nam M0 671 (m_lsh (fun a b => a <<< (b.toInt64 &&& 63)) 672) := snd_lshl dL_law_671
theorem s_L_law_672 : Snd PG.nam M0 672 (m_aload 0 673) := snd_aload_n dL_law_672 rfl
theorem s_L_law_673 : Snd PG.nam M0 673 (m_iload 4 675) := snd_iload dL_law_673
theorem s_L_law_675 : Snd PG.nam M0 675 (m_const (.int (nI 2)) 676) := snd_iconst dL_law_675 (by decide)
theorem s_L_law_676 : Snd PG.nam M0 676 (m_ibin (fun a b => a + b) 677) := snd_iadd dL_law_676
theorem s_L_law_677 : Snd PG.nam M0 677 (m_iald [.int] 678) := snd_iald dL_law_677
theorem s_L_law_678 : Snd PG.nam M0 678 (m_i2l 679) := snd_i2l dL_law_678
theorem s_L_law_679 : Snd PG.nam M0 679 (m_const (.long (4294967295 : Int64)) 682) := snd_ldc2 dL_law_679 w1826
theorem s_L_law_682 : Snd PG.nam M0 682 (m_lbin (fun a b => a &&& b) 683) := snd_land dL_law_682
theorem s_L_law_683 : Snd PG.nam M0 683 (m_lbin (fun a b => a ||| b) 684) := snd_lor dL_law_683
theorem s_L_law_684 : Snd PG.nam M0 684 (m_aload 0 685) := snd_aload_n dL_law_684 rfl
theorem s_L_law_685 : Snd PG.nam M0 685 (m_iload 4 687) := snd_iload dL_law_685
theorem s_L_law_687 : Snd PG.nam M0 687 (m_const (.int (nI 3)) 688) := snd_iconst dL_law_687 (by decide)
theorem s_L_law_688 : Snd PG.nam M0 688 (m_ibin (fun a b => a + b) 689) := snd_iadd dL_law_688
theorem s_L_law_689 : Snd PG.nam M0 689 (m_iald [.int] 690) := snd_iald dL_law_689
theorem s_L_law_690 : Snd PG.nam M0 690 (m_aload 3 691) := snd_aload_n dL_law_690 rfl
theorem s_L_law_691 : Snd PG.nam M0 691 (m_callS false 7 4 694) := snd_callS (nam := PG.nam) (yy := 7) dL_law_691 (Or.inl w716) w717 ⟨by decide, by decide +kernel⟩ (by decide)
theorem s_L_law_694 : Snd PG.nam M0 694 (m_istore 5 696) := snd_istore dL_law_694 (by decide)
theorem s_L_law_696 : Snd PG.nam M0 696 (m_aload 2 697) := snd_aload_n dL_law_696 rfl
theorem s_L_law_697 : Snd PG.nam M0 697 (m_aload 0 698) := snd_aload_n dL_law_697 rfl
theorem s_L_law_698 : Snd PG.nam M0 698 (m_iload 4 700) := snd_iload dL_law_698
theorem s_L_law_700 : Snd PG.nam M0 700 (m_const (.int (nI 1)) 701) := snd_iconst dL_law_700 (by decide)
theorem s_L_law_701 : Snd PG.nam M0 701 (m_ibin (fun a b => a + b) 702) := snd_iadd dL_law_701
theorem s_L_law_702 : Snd PG.nam M0 702 (m_iald [.int] 703) := snd_iald dL_law_702
theorem s_L_law_703 : Snd PG.nam M0 703 (m_i2l 704) := snd_i2l dL_law_703
theorem s_L_law_704 : Snd PG.nam M0 704 (m_const (.int (nI 32)) 706) := snd_bipush dL_law_704 (by decide)
theorem s_L_law_706 : Snd PG.nam M0 706 (m_lsh (fun a b => a <<< (b.toInt64 &&& 63)) 707) := snd_lshl dL_law_706
theorem s_L_law_707 : Snd PG.nam M0 707 (m_aload 0 708) := snd_aload_n dL_law_707 rfl
theorem s_L_law_708 : Snd PG.nam M0 708 (m_iload 4 710) := snd_iload dL_law_708
theorem s_L_law_710 : Snd PG.nam M0 710 (m_const (.int (nI 2)) 711) := snd_iconst dL_law_710 (by decide)
theorem s_L_law_711 : Snd PG.nam M0 711 (m_ibin (fun a b => a + b) 712) := snd_iadd dL_law_711
theorem s_L_law_712 : Snd PG.nam M0 712 (m_iald [.int] 713) := snd_iald dL_law_712
theorem s_L_law_713 : Snd PG.nam M0 713 (m_i2l 714) := snd_i2l dL_law_713
theorem s_L_law_714 : Snd PG.nam M0 714 (m_const (.long (4294967295 : Int64)) 717) := snd_ldc2 dL_law_714 w1826
theorem s_L_law_717 : Snd PG.nam M0 717 (m_lbin (fun a b => a &&& b) 718) := snd_land dL_law_717
theorem s_L_law_718 : Snd PG.nam M0 718 (m_lbin (fun a b => a ||| b) 719) := snd_lor dL_law_718
theorem s_L_law_719 : Snd PG.nam M0 719 (m_aload 0 720) := snd_aload_n dL_law_719 rfl
theorem s_L_law_720 : Snd PG.nam M0 720 (m_iload 4 722) := snd_iload dL_law_720
theorem s_L_law_722 : Snd PG.nam M0 722 (m_const (.int (nI 3)) 723) := snd_iconst dL_law_722 (by decide)
theorem s_L_law_723 : Snd PG.nam M0 723 (m_ibin (fun a b => a + b) 724) := snd_iadd dL_law_723
theorem s_L_law_724 : Snd PG.nam M0 724 (m_iald [.int] 725) := snd_iald dL_law_724
theorem s_L_law_725 : Snd PG.nam M0 725 (m_callV false [(1, 56)] 2 728) := snd_callV (nam := PG.nam) (List.forall_mem_cons.mpr ⟨dr_V (ym := PG.nam 56) dL_law_725 (Or.inl w1664) mi_56 rfl w1666, (fun q hq => absurd hq List.not_mem_nil)⟩) (by decide)
theorem s_L_law_728 : Snd PG.nam M0 728 (m_istore 6 730) := snd_istore dL_law_728 (by decide)
theorem s_L_law_730 : Snd PG.nam M0 730 (m_aload 2 731) := snd_aload_n dL_law_730 rfl
theorem s_L_law_731 : Snd PG.nam M0 731 (m_callV false [(1, 37)] 0 734) := snd_callV (nam := PG.nam) (List.forall_mem_cons.mpr ⟨dr_V (ym := PG.nam 37) dL_law_731 (Or.inl w1589) mi_37 rfl w1591, (fun q hq => absurd hq List.not_mem_nil)⟩) (by decide)
theorem s_L_law_734 : Snd PG.nam M0 734 (m_iload 5 736) := snd_iload dL_law_734
theorem s_L_law_736 : Snd PG.nam M0 736 (m_icmp (fun x z => if x = z then 741 else 739)) := snd_icmp_eq dL_law_736 (by decide)
theorem s_L_law_739 : Snd PG.nam M0 739 (m_const (.int (nI 0)) 740) := snd_iconst dL_law_739 (by decide)
theorem s_L_law_740 : Snd PG.nam M0 740 (m_iret .boolean) := snd_iret dL_law_740 rfl
theorem s_L_law_741 : Snd PG.nam M0 741 (m_iload 5 743) := snd_iload dL_law_741
theorem s_L_law_743 : Snd PG.nam M0 743 (m_ifz (fun x => if x = 0 then 746 else 758)) := snd_if_ne dL_law_743 (by decide)
theorem s_L_law_746 : Snd PG.nam M0 746 (m_aload 3 747) := snd_aload_n dL_law_746 rfl
theorem s_L_law_747 : Snd PG.nam M0 747 (m_const (.int (nI 0)) 748) := snd_iconst dL_law_747 (by decide)
theorem s_L_law_748 : Snd PG.nam M0 748 (m_lald 749) := snd_lald dL_law_748
theorem s_L_law_749 : Snd PG.nam M0 749 (m_iload 6 751) := snd_iload dL_law_749
theorem s_L_law_751 : Snd PG.nam M0 751 (m_i2l 752) := snd_i2l dL_law_751
theorem s_L_law_752 : Snd PG.nam M0 752 (m_lcmp 753) := snd_lcmp dL_law_752
theorem s_L_law_753 : Snd PG.nam M0 753 (m_ifz (fun x => if x = 0 then 758 else 756)) := snd_if_eq dL_law_753 (by decide)
theorem s_L_law_756 : Snd PG.nam M0 756 (m_const (.int (nI 0)) 757) := snd_iconst dL_law_756 (by decide)
theorem s_L_law_757 : Snd PG.nam M0 757 (m_iret .boolean) := snd_iret dL_law_757 rfl
theorem s_L_law_758 : Snd PG.nam M0 758 (m_goto 941) := snd_goto dL_law_758 (by decide)
theorem s_L_law_761 : Snd PG.nam M0 761 (m_aload 1 762) := snd_aload_n dL_law_761 rfl
theorem s_L_law_762 : Snd PG.nam M0 762 (m_aload 3 763) := snd_aload_n dL_law_762 rfl
theorem s_L_law_763 : Snd PG.nam M0 763 (m_callS false 8 2 766) := snd_callS (nam := PG.nam) (yy := 8) dL_law_763 (Or.inl w723) w724 ⟨by decide, by decide +kernel⟩ (by decide)
theorem s_L_law_766 : Snd PG.nam M0 766 (m_istore 5 768) := snd_istore dL_law_766 (by decide)
theorem s_L_law_768 : Snd PG.nam M0 768 (m_aload 2 769) := snd_aload_n dL_law_768 rfl
theorem s_L_law_769 : Snd PG.nam M0 769 (m_callV false [(1, 57)] 0 772) := snd_callV (nam := PG.nam) (List.forall_mem_cons.mpr ⟨dr_V (ym := PG.nam 57) dL_law_769 (Or.inl w1668) mi_57 rfl w1670, (fun q hq => absurd hq List.not_mem_nil)⟩) (by decide)
theorem s_L_law_772 : Snd PG.nam M0 772 (m_istore 6 774) := snd_istore dL_law_772 (by decide)
theorem s_L_law_774 : Snd PG.nam M0 774 (m_aload 2 775) := snd_aload_n dL_law_774 rfl
theorem s_L_law_775 : Snd PG.nam M0 775 (m_callV false [(1, 37)] 0 778) := snd_callV (nam := PG.nam) (List.forall_mem_cons.mpr ⟨dr_V (ym := PG.nam 37) dL_law_775 (Or.inl w1589) mi_37 rfl w1591, (fun q hq => absurd hq List.not_mem_nil)⟩) (by decide)
theorem s_L_law_778 : Snd PG.nam M0 778 (m_iload 5 780) := snd_iload dL_law_778
theorem s_L_law_780 : Snd PG.nam M0 780 (m_icmp (fun x z => if x = z then 785 else 783)) := snd_icmp_eq dL_law_780 (by decide)
theorem s_L_law_783 : Snd PG.nam M0 783 (m_const (.int (nI 0)) 784) := snd_iconst dL_law_783 (by decide)
theorem s_L_law_784 : Snd PG.nam M0 784 (m_iret .boolean) := snd_iret dL_law_784 rfl
theorem s_L_law_785 : Snd PG.nam M0 785 (m_iload 5 787) := snd_iload dL_law_785
theorem s_L_law_787 : Snd PG.nam M0 787 (m_ifz (fun x => if x = 0 then 790 else 802)) := snd_if_ne dL_law_787 (by decide)
theorem s_L_law_790 : Snd PG.nam M0 790 (m_aload 3 791) := snd_aload_n dL_law_790 rfl
theorem s_L_law_791 : Snd PG.nam M0 791 (m_const (.int (nI 0)) 792) := snd_iconst dL_law_791 (by decide)
theorem s_L_law_792 : Snd PG.nam M0 792 (m_lald 793) := snd_lald dL_law_792
theorem s_L_law_793 : Snd PG.nam M0 793 (m_iload 6 795) := snd_iload dL_law_793
theorem s_L_law_795 : Snd PG.nam M0 795 (m_i2l 796) := snd_i2l dL_law_795
theorem s_L_law_796 : Snd PG.nam M0 796 (m_lcmp 797) := snd_lcmp dL_law_796
theorem s_L_law_797 : Snd PG.nam M0 797 (m_ifz (fun x => if x = 0 then 802 else 800)) := snd_if_eq dL_law_797 (by decide)
theorem s_L_law_800 : Snd PG.nam M0 800 (m_const (.int (nI 0)) 801) := snd_iconst dL_law_800 (by decide)
theorem s_L_law_801 : Snd PG.nam M0 801 (m_iret .boolean) := snd_iret dL_law_801 rfl
theorem s_L_law_802 : Snd PG.nam M0 802 (m_goto 941) := snd_goto dL_law_802 (by decide)
theorem s_L_law_805 : Snd PG.nam M0 805 (m_aload 1 806) := snd_aload_n dL_law_805 rfl
theorem s_L_law_806 : Snd PG.nam M0 806 (m_callV false [(0, 13)] 0 809) := snd_callV (nam := PG.nam) (List.forall_mem_cons.mpr ⟨dr_V (ym := PG.nam 13) dL_law_806 (Or.inl w202) mi_13 rfl w204, (fun q hq => absurd hq List.not_mem_nil)⟩) (by decide)
theorem s_L_law_809 : Snd PG.nam M0 809 (m_aload 2 810) := snd_aload_n dL_law_809 rfl
theorem s_L_law_810 : Snd PG.nam M0 810 (m_callV false [(1, 91)] 0 813) := snd_callV (nam := PG.nam) (List.forall_mem_cons.mpr ⟨dr_V (ym := PG.nam 91) dL_law_810 (Or.inl w1814) mi_91 rfl w1816, (fun q hq => absurd hq List.not_mem_nil)⟩) (by decide)
theorem s_L_law_813 : Snd PG.nam M0 813 (m_icmp (fun x z => if x = z then 941 else 816)) := snd_icmp_eq dL_law_813 (by decide)
theorem s_L_law_816 : Snd PG.nam M0 816 (m_const (.int (nI 0)) 817) := snd_iconst dL_law_816 (by decide)
theorem s_L_law_817 : Snd PG.nam M0 817 (m_iret .boolean) := snd_iret dL_law_817 rfl
theorem s_L_law_818 : Snd PG.nam M0 818 (m_aload 1 819) := snd_aload_n dL_law_818 rfl
theorem s_L_law_819 : Snd PG.nam M0 819 (m_aload 0 820) := snd_aload_n dL_law_819 rfl
theorem s_L_law_820 : Snd PG.nam M0 820 (m_iload 4 822) := snd_iload dL_law_820
theorem s_L_law_822 : Snd PG.nam M0 822 (m_const (.int (nI 1)) 823) := snd_iconst dL_law_822 (by decide)
theorem s_L_law_823 : Snd PG.nam M0 823 (m_ibin (fun a b => a + b) 824) := snd_iadd dL_law_823
theorem s_L_law_824 : Snd PG.nam M0 824 (m_iald [.int] 825) := snd_iald dL_law_824
theorem s_L_law_825 : Snd PG.nam M0 825 (m_aload 0 826) := snd_aload_n dL_law_825 rfl
theorem s_L_law_826 : Snd PG.nam M0 826 (m_iload 4 828) := snd_iload dL_law_826
theorem s_L_law_828 : Snd PG.nam M0 828 (m_const (.int (nI 2)) 829) := snd_iconst dL_law_828 (by decide)
theorem s_L_law_829 : Snd PG.nam M0 829 (m_ibin (fun a b => a + b) 830) := snd_iadd dL_law_829
theorem s_L_law_830 : Snd PG.nam M0 830 (m_iald [.int] 831) := snd_iald dL_law_830
theorem s_L_law_831 : Snd PG.nam M0 831 (m_aload 3 832) := snd_aload_n dL_law_831 rfl
theorem s_L_law_832 : Snd PG.nam M0 832 (m_callS false 9 4 835) := snd_callS (nam := PG.nam) (yy := 9) dL_law_832 (Or.inl w1347) w1348 ⟨by decide, by decide +kernel⟩ (by decide)
theorem s_L_law_835 : Snd PG.nam M0 835 (m_istore 5 837) := snd_istore dL_law_835 (by decide)
theorem s_L_law_837 : Snd PG.nam M0 837 (m_aload 2 838) := snd_aload_n dL_law_837 rfl
theorem s_L_law_838 : Snd PG.nam M0 838 (m_aload 0 839) := snd_aload_n dL_law_838 rfl
theorem s_L_law_839 : Snd PG.nam M0 839 (m_iload 4 841) := snd_iload dL_law_839
theorem s_L_law_841 : Snd PG.nam M0 841 (m_const (.int (nI 1)) 842) := snd_iconst dL_law_841 (by decide)
theorem s_L_law_842 : Snd PG.nam M0 842 (m_ibin (fun a b => a + b) 843) := snd_iadd dL_law_842
theorem s_L_law_843 : Snd PG.nam M0 843 (m_iald [.int] 844) := snd_iald dL_law_843
theorem s_L_law_844 : Snd PG.nam M0 844 (m_aload 0 845) := snd_aload_n dL_law_844 rfl
theorem s_L_law_845 : Snd PG.nam M0 845 (m_iload 4 847) := snd_iload dL_law_845
theorem s_L_law_847 : Snd PG.nam M0 847 (m_const (.int (nI 2)) 848) := snd_iconst dL_law_847 (by decide)
theorem s_L_law_848 : Snd PG.nam M0 848 (m_ibin (fun a b => a + b) 849) := snd_iadd dL_law_848
theorem s_L_law_849 : Snd PG.nam M0 849 (m_iald [.int] 850) := snd_iald dL_law_849
theorem s_L_law_850 : Snd PG.nam M0 850 (m_callV false [(1, 92)] 2 853) := snd_callV (nam := PG.nam) (List.forall_mem_cons.mpr ⟨dr_V (ym := PG.nam 92) dL_law_850 (Or.inl w1818) mi_92 rfl w1820, (fun q hq => absurd hq List.not_mem_nil)⟩) (by decide)
theorem s_L_law_853 : Snd PG.nam M0 853 (m_lstore 6 855) := snd_lstore dL_law_853 (by decide)
theorem s_L_law_855 : Snd PG.nam M0 855 (m_aload 2 856) := snd_aload_n dL_law_855 rfl
theorem s_L_law_856 : Snd PG.nam M0 856 (m_callV false [(1, 37)] 0 859) := snd_callV (nam := PG.nam) (List.forall_mem_cons.mpr ⟨dr_V (ym := PG.nam 37) dL_law_856 (Or.inl w1589) mi_37 rfl w1591, (fun q hq => absurd hq List.not_mem_nil)⟩) (by decide)
theorem s_L_law_859 : Snd PG.nam M0 859 (m_iload 5 861) := snd_iload dL_law_859
theorem s_L_law_861 : Snd PG.nam M0 861 (m_icmp (fun x z => if x = z then 866 else 864)) := snd_icmp_eq dL_law_861 (by decide)
theorem s_L_law_864 : Snd PG.nam M0 864 (m_const (.int (nI 0)) 865) := snd_iconst dL_law_864 (by decide)
theorem s_L_law_865 : Snd PG.nam M0 865 (m_iret .boolean) := snd_iret dL_law_865 rfl
theorem s_L_law_866 : Snd PG.nam M0 866 (m_iload 5 868) := snd_iload dL_law_866
theorem s_L_law_868 : Snd PG.nam M0 868 (m_ifz (fun x => if x = 0 then 871 else 882)) := snd_if_ne dL_law_868 (by decide)
theorem s_L_law_871 : Snd PG.nam M0 871 (m_aload 3 872) := snd_aload_n dL_law_871 rfl
theorem s_L_law_872 : Snd PG.nam M0 872 (m_const (.int (nI 0)) 873) := snd_iconst dL_law_872 (by decide)
theorem s_L_law_873 : Snd PG.nam M0 873 (m_lald 874) := snd_lald dL_law_873
theorem s_L_law_874 : Snd PG.nam M0 874 (m_lload 6 876) := snd_lload dL_law_874
theorem s_L_law_876 : Snd PG.nam M0 876 (m_lcmp 877) := snd_lcmp dL_law_876
theorem s_L_law_877 : Snd PG.nam M0 877 (m_ifz (fun x => if x = 0 then 882 else 880)) := snd_if_eq dL_law_877 (by decide)
theorem s_L_law_880 : Snd PG.nam M0 880 (m_const (.int (nI 0)) 881) := snd_iconst dL_law_880 (by decide)
theorem s_L_law_881 : Snd PG.nam M0 881 (m_iret .boolean) := snd_iret dL_law_881 rfl
theorem s_L_law_882 : Snd PG.nam M0 882 (m_goto 941) := snd_goto dL_law_882 (by decide)
theorem s_L_law_885 : Snd PG.nam M0 885 (m_aload 1 886) := snd_aload_n dL_law_885 rfl
theorem s_L_law_886 : Snd PG.nam M0 886 (m_aload 0 887) := snd_aload_n dL_law_886 rfl
theorem s_L_law_887 : Snd PG.nam M0 887 (m_iload 4 889) := snd_iload dL_law_887
theorem s_L_law_889 : Snd PG.nam M0 889 (m_const (.int (nI 1)) 890) := snd_iconst dL_law_889 (by decide)
theorem s_L_law_890 : Snd PG.nam M0 890 (m_ibin (fun a b => a + b) 891) := snd_iadd dL_law_890
theorem s_L_law_891 : Snd PG.nam M0 891 (m_iald [.int] 892) := snd_iald dL_law_891
theorem s_L_law_892 : Snd PG.nam M0 892 (m_aload 3 893) := snd_aload_n dL_law_892 rfl
theorem s_L_law_893 : Snd PG.nam M0 893 (m_callS false 10 3 896) := snd_callS (nam := PG.nam) (yy := 10) dL_law_893 (Or.inl w1396) w1397 ⟨by decide, by decide +kernel⟩ (by decide)
theorem s_L_law_896 : Snd PG.nam M0 896 (m_istore 5 898) := snd_istore dL_law_896 (by decide)
theorem s_L_law_898 : Snd PG.nam M0 898 (m_aload 2 899) := snd_aload_n dL_law_898 rfl
theorem s_L_law_899 : Snd PG.nam M0 899 (m_aload 0 900) := snd_aload_n dL_law_899 rfl
theorem s_L_law_900 : Snd PG.nam M0 900 (m_iload 4 902) := snd_iload dL_law_900
theorem s_L_law_902 : Snd PG.nam M0 902 (m_const (.int (nI 1)) 903) := snd_iconst dL_law_902 (by decide)
theorem s_L_law_903 : Snd PG.nam M0 903 (m_ibin (fun a b => a + b) 904) := snd_iadd dL_law_903
theorem s_L_law_904 : Snd PG.nam M0 904 (m_iald [.int] 905) := snd_iald dL_law_904
theorem s_L_law_905 : Snd PG.nam M0 905 (m_callV false [(1, 93)] 1 908) := snd_callV (nam := PG.nam) (List.forall_mem_cons.mpr ⟨dr_V (ym := PG.nam 93) dL_law_905 (Or.inl w1822) mi_93 rfl w1824, (fun q hq => absurd hq List.not_mem_nil)⟩) (by decide)
theorem s_L_law_908 : Snd PG.nam M0 908 (m_istore 6 910) := snd_istore dL_law_908 (by decide)
theorem s_L_law_910 : Snd PG.nam M0 910 (m_aload 2 911) := snd_aload_n dL_law_910 rfl
theorem s_L_law_911 : Snd PG.nam M0 911 (m_callV false [(1, 37)] 0 914) := snd_callV (nam := PG.nam) (List.forall_mem_cons.mpr ⟨dr_V (ym := PG.nam 37) dL_law_911 (Or.inl w1589) mi_37 rfl w1591, (fun q hq => absurd hq List.not_mem_nil)⟩) (by decide)
theorem s_L_law_914 : Snd PG.nam M0 914 (m_iload 5 916) := snd_iload dL_law_914
theorem s_L_law_916 : Snd PG.nam M0 916 (m_icmp (fun x z => if x = z then 921 else 919)) := snd_icmp_eq dL_law_916 (by decide)
theorem s_L_law_919 : Snd PG.nam M0 919 (m_const (.int (nI 0)) 920) := snd_iconst dL_law_919 (by decide)
theorem s_L_law_920 : Snd PG.nam M0 920 (m_iret .boolean) := snd_iret dL_law_920 rfl
theorem s_L_law_921 : Snd PG.nam M0 921 (m_iload 5 923) := snd_iload dL_law_921
theorem s_L_law_923 : Snd PG.nam M0 923 (m_ifz (fun x => if x = 0 then 926 else 938)) := snd_if_ne dL_law_923 (by decide)
theorem s_L_law_926 : Snd PG.nam M0 926 (m_aload 3 927) := snd_aload_n dL_law_926 rfl
theorem s_L_law_927 : Snd PG.nam M0 927 (m_const (.int (nI 0)) 928) := snd_iconst dL_law_927 (by decide)
theorem s_L_law_928 : Snd PG.nam M0 928 (m_lald 929) := snd_lald dL_law_928
theorem s_L_law_929 : Snd PG.nam M0 929 (m_iload 6 931) := snd_iload dL_law_929
theorem s_L_law_931 : Snd PG.nam M0 931 (m_i2l 932) := snd_i2l dL_law_931
theorem s_L_law_932 : Snd PG.nam M0 932 (m_lcmp 933) := snd_lcmp dL_law_932
theorem s_L_law_933 : Snd PG.nam M0 933 (m_ifz (fun x => if x = 0 then 938 else 936)) := snd_if_eq dL_law_933 (by decide)
theorem s_L_law_936 : Snd PG.nam M0 936 (m_const (.int (nI 0)) 937) := snd_iconst dL_law_936 (by decide)
theorem s_L_law_937 : Snd PG.nam M0 937 (m_iret .boolean) := snd_iret dL_law_937 rfl
theorem s_L_law_938 : Snd PG.nam M0 938 (m_goto 941) := snd_goto dL_law_938 (by decide)
theorem s_L_law_941 : Snd PG.nam M0 941 (m_iinc 4 (nI 7) 944) := snd_iinc dL_law_941 (by decide) (by decide)
theorem s_L_law_944 : Snd PG.nam M0 944 (m_goto 23) := snd_goto dL_law_944 (by decide)
theorem s_L_law_947 : Snd PG.nam M0 947 (m_const (.int (nI 1)) 948) := snd_iconst dL_law_947 (by decide)
theorem s_L_law_948 : Snd PG.nam M0 948 (m_iret .boolean) := snd_iret dL_law_948 rfl
theorem T0 : ∀ q ∈ S0, Snd PG.nam M0 q.1 q.2 := List.forall_mem_cons.mpr ⟨s_L_law_0, List.forall_mem_cons.mpr ⟨s_L_law_3, List.forall_mem_cons.mpr ⟨s_L_law_4, List.forall_mem_cons.mpr ⟨s_L_law_7, List.forall_mem_cons.mpr ⟨s_L_law_8, List.forall_mem_cons.mpr ⟨s_L_law_11, List.forall_mem_cons.mpr ⟨s_L_law_12, List.forall_mem_cons.mpr ⟨s_L_law_15, List.forall_mem_cons.mpr ⟨s_L_law_16, List.forall_mem_cons.mpr ⟨s_L_law_17, List.forall_mem_cons.mpr ⟨s_L_law_19, List.forall_mem_cons.mpr ⟨s_L_law_20, List.forall_mem_cons.mpr ⟨s_L_law_21, List.forall_mem_cons.mpr ⟨s_L_law_23, List.forall_mem_cons.mpr ⟨s_L_law_25, List.forall_mem_cons.mpr ⟨s_L_law_26, List.forall_mem_cons.mpr ⟨s_L_law_27, List.forall_mem_cons.mpr ⟨s_L_law_29, List.forall_mem_cons.mpr ⟨s_L_law_30, List.forall_mem_cons.mpr ⟨s_L_law_33, List.forall_mem_cons.mpr ⟨s_L_law_34, List.forall_mem_cons.mpr ⟨s_L_law_36, List.forall_mem_cons.mpr ⟨s_L_law_37, List.forall_mem_cons.mpr ⟨s_L_law_39, List.forall_mem_cons.mpr ⟨s_L_law_40, List.forall_mem_cons.mpr ⟨s_L_law_104, List.forall_mem_cons.mpr ⟨s_L_law_105, List.forall_mem_cons.mpr ⟨s_L_law_106, List.forall_mem_cons.mpr ⟨s_L_law_108, List.forall_mem_cons.mpr ⟨s_L_law_109, List.forall_mem_cons.mpr ⟨s_L_law_110, List.forall_mem_cons.mpr ⟨s_L_law_111, List.forall_mem_cons.mpr ⟨s_L_law_112, List.forall_mem_cons.mpr ⟨s_L_law_114, List.forall_mem_cons.mpr ⟨s_L_law_115, List.forall_mem_cons.mpr ⟨s_L_law_116, List.forall_mem_cons.mpr ⟨s_L_law_118, List.forall_mem_cons.mpr ⟨s_L_law_119, List.forall_mem_cons.mpr ⟨s_L_law_120, List.forall_mem_cons.mpr ⟨s_L_law_121, List.forall_mem_cons.mpr ⟨s_L_law_122, List.forall_mem_cons.mpr ⟨s_L_law_125, List.forall_mem_cons.mpr ⟨s_L_law_126, List.forall_mem_cons.mpr ⟨s_L_law_127, List.forall_mem_cons.mpr ⟨s_L_law_128, List.forall_mem_cons.mpr ⟨s_L_law_130, List.forall_mem_cons.mpr ⟨s_L_law_131, List.forall_mem_cons.mpr ⟨s_L_law_132, List.forall_mem_cons.mpr ⟨s_L_law_133, List.forall_mem_cons.mpr ⟨s_L_law_134, List.forall_mem_cons.mpr ⟨s_L_law_136, List.forall_mem_cons.mpr ⟨s_L_law_137, List.forall_mem_cons.mpr ⟨s_L_law_138, List.forall_mem_cons.mpr ⟨s_L_law_140, List.forall_mem_cons.mpr ⟨s_L_law_141, List.forall_mem_cons.mpr ⟨s_L_law_142, List.forall_mem_cons.mpr ⟨s_L_law_143, List.forall_mem_cons.mpr ⟨s_L_law_144, List.forall_mem_cons.mpr ⟨s_L_law_147, List.forall_mem_cons.mpr ⟨s_L_law_148, List.forall_mem_cons.mpr ⟨s_L_law_149, List.forall_mem_cons.mpr ⟨s_L_law_150, List.forall_mem_cons.mpr ⟨s_L_law_152, List.forall_mem_cons.mpr ⟨s_L_law_153, List.forall_mem_cons.mpr ⟨s_L_law_154, List.forall_mem_cons.mpr ⟨s_L_law_155, List.forall_mem_cons.mpr ⟨s_L_law_156, List.forall_mem_cons.mpr ⟨s_L_law_158, List.forall_mem_cons.mpr ⟨s_L_law_159, List.forall_mem_cons.mpr ⟨s_L_law_160, List.forall_mem_cons.mpr ⟨s_L_law_162, List.forall_mem_cons.mpr ⟨s_L_law_164, List.forall_mem_cons.mpr ⟨s_L_law_165, List.forall_mem_cons.mpr ⟨s_L_law_166, List.forall_mem_cons.mpr ⟨s_L_law_167, List.forall_mem_cons.mpr ⟨s_L_law_170, List.forall_mem_cons.mpr ⟨s_L_law_171, List.forall_mem_cons.mpr ⟨s_L_law_172, List.forall_mem_cons.mpr ⟨s_L_law_173, List.forall_mem_cons.mpr ⟨s_L_law_176, List.forall_mem_cons.mpr ⟨s_L_law_178, List.forall_mem_cons.mpr ⟨s_L_law_179, List.forall_mem_cons.mpr ⟨s_L_law_180, List.forall_mem_cons.mpr ⟨s_L_law_182, List.forall_mem_cons.mpr ⟨s_L_law_183, List.forall_mem_cons.mpr ⟨s_L_law_184, List.forall_mem_cons.mpr ⟨s_L_law_185, List.forall_mem_cons.mpr ⟨s_L_law_186, List.forall_mem_cons.mpr ⟨s_L_law_188, List.forall_mem_cons.mpr ⟨s_L_law_189, List.forall_mem_cons.mpr ⟨s_L_law_190, List.forall_mem_cons.mpr ⟨s_L_law_192, List.forall_mem_cons.mpr ⟨s_L_law_193, List.forall_mem_cons.mpr ⟨s_L_law_194, List.forall_mem_cons.mpr ⟨s_L_law_195, List.forall_mem_cons.mpr ⟨s_L_law_196, List.forall_mem_cons.mpr ⟨s_L_law_199, List.forall_mem_cons.mpr ⟨s_L_law_200, List.forall_mem_cons.mpr ⟨s_L_law_201, List.forall_mem_cons.mpr ⟨s_L_law_202, List.forall_mem_cons.mpr ⟨s_L_law_204, List.forall_mem_cons.mpr ⟨s_L_law_205, List.forall_mem_cons.mpr ⟨s_L_law_206, List.forall_mem_cons.mpr ⟨s_L_law_207, List.forall_mem_cons.mpr ⟨s_L_law_208, List.forall_mem_cons.mpr ⟨s_L_law_210, List.forall_mem_cons.mpr ⟨s_L_law_211, List.forall_mem_cons.mpr ⟨s_L_law_212, List.forall_mem_cons.mpr ⟨s_L_law_214, List.forall_mem_cons.mpr ⟨s_L_law_215, List.forall_mem_cons.mpr ⟨s_L_law_216, List.forall_mem_cons.mpr ⟨s_L_law_217, List.forall_mem_cons.mpr ⟨s_L_law_218, List.forall_mem_cons.mpr ⟨s_L_law_221, List.forall_mem_cons.mpr ⟨s_L_law_222, List.forall_mem_cons.mpr ⟨s_L_law_223, List.forall_mem_cons.mpr ⟨s_L_law_224, List.forall_mem_cons.mpr ⟨s_L_law_226, List.forall_mem_cons.mpr ⟨s_L_law_227, List.forall_mem_cons.mpr ⟨s_L_law_228, List.forall_mem_cons.mpr ⟨s_L_law_229, List.forall_mem_cons.mpr ⟨s_L_law_230, List.forall_mem_cons.mpr ⟨s_L_law_232, List.forall_mem_cons.mpr ⟨s_L_law_233, List.forall_mem_cons.mpr ⟨s_L_law_234, List.forall_mem_cons.mpr ⟨s_L_law_236, List.forall_mem_cons.mpr ⟨s_L_law_238, List.forall_mem_cons.mpr ⟨s_L_law_239, List.forall_mem_cons.mpr ⟨s_L_law_240, List.forall_mem_cons.mpr ⟨s_L_law_241, List.forall_mem_cons.mpr ⟨s_L_law_244, List.forall_mem_cons.mpr ⟨s_L_law_245, List.forall_mem_cons.mpr ⟨s_L_law_246, List.forall_mem_cons.mpr ⟨s_L_law_249, List.forall_mem_cons.mpr ⟨s_L_law_251, List.forall_mem_cons.mpr ⟨s_L_law_252, List.forall_mem_cons.mpr ⟨s_L_law_255, List.forall_mem_cons.mpr ⟨s_L_law_257, List.forall_mem_cons.mpr ⟨s_L_law_260, List.forall_mem_cons.mpr ⟨s_L_law_261, List.forall_mem_cons.mpr ⟨s_L_law_262, List.forall_mem_cons.mpr ⟨s_L_law_264, List.forall_mem_cons.mpr ⟨s_L_law_267, List.forall_mem_cons.mpr ⟨s_L_law_268, List.forall_mem_cons.mpr ⟨s_L_law_269, List.forall_mem_cons.mpr ⟨s_L_law_270, List.forall_mem_cons.mpr ⟨s_L_law_272, List.forall_mem_cons.mpr ⟨s_L_law_273, List.forall_mem_cons.mpr ⟨s_L_law_274, List.forall_mem_cons.mpr ⟨s_L_law_277, List.forall_mem_cons.mpr ⟨s_L_law_278, List.forall_mem_cons.mpr ⟨s_L_law_279, List.forall_mem_cons.mpr ⟨s_L_law_282, List.forall_mem_cons.mpr ⟨s_L_law_283, List.forall_mem_cons.mpr ⟨s_L_law_284, List.forall_mem_cons.mpr ⟨s_L_law_286, List.forall_mem_cons.mpr ⟨s_L_law_287, List.forall_mem_cons.mpr ⟨s_L_law_288, List.forall_mem_cons.mpr ⟨s_L_law_289, List.forall_mem_cons.mpr ⟨s_L_law_290, List.forall_mem_cons.mpr ⟨s_L_law_292, List.forall_mem_cons.mpr ⟨s_L_law_293, List.forall_mem_cons.mpr ⟨s_L_law_294, List.forall_mem_cons.mpr ⟨s_L_law_296, List.forall_mem_cons.mpr ⟨s_L_law_297, List.forall_mem_cons.mpr ⟨s_L_law_298, List.forall_mem_cons.mpr ⟨s_L_law_299, List.forall_mem_cons.mpr ⟨s_L_law_300, List.forall_mem_cons.mpr ⟨s_L_law_303, List.forall_mem_cons.mpr ⟨s_L_law_304, List.forall_mem_cons.mpr ⟨s_L_law_305, List.forall_mem_cons.mpr ⟨s_L_law_306, List.forall_mem_cons.mpr ⟨s_L_law_308, List.forall_mem_cons.mpr ⟨s_L_law_309, List.forall_mem_cons.mpr ⟨s_L_law_310, List.forall_mem_cons.mpr ⟨s_L_law_311, List.forall_mem_cons.mpr ⟨s_L_law_312, List.forall_mem_cons.mpr ⟨s_L_law_314, List.forall_mem_cons.mpr ⟨s_L_law_315, List.forall_mem_cons.mpr ⟨s_L_law_316, List.forall_mem_cons.mpr ⟨s_L_law_318, List.forall_mem_cons.mpr ⟨s_L_law_319, List.forall_mem_cons.mpr ⟨s_L_law_320, List.forall_mem_cons.mpr ⟨s_L_law_321, List.forall_mem_cons.mpr ⟨s_L_law_322, List.forall_mem_cons.mpr ⟨s_L_law_325, List.forall_mem_cons.mpr ⟨s_L_law_326, List.forall_mem_cons.mpr ⟨s_L_law_327, List.forall_mem_cons.mpr ⟨s_L_law_328, List.forall_mem_cons.mpr ⟨s_L_law_330, List.forall_mem_cons.mpr ⟨s_L_law_331, List.forall_mem_cons.mpr ⟨s_L_law_332, List.forall_mem_cons.mpr ⟨s_L_law_333, List.forall_mem_cons.mpr ⟨s_L_law_334, List.forall_mem_cons.mpr ⟨s_L_law_336, List.forall_mem_cons.mpr ⟨s_L_law_337, List.forall_mem_cons.mpr ⟨s_L_law_338, List.forall_mem_cons.mpr ⟨s_L_law_340, List.forall_mem_cons.mpr ⟨s_L_law_342, List.forall_mem_cons.mpr ⟨s_L_law_343, List.forall_mem_cons.mpr ⟨s_L_law_344, List.forall_mem_cons.mpr ⟨s_L_law_345, List.forall_mem_cons.mpr ⟨s_L_law_348, List.forall_mem_cons.mpr ⟨s_L_law_349, List.forall_mem_cons.mpr ⟨s_L_law_350, List.forall_mem_cons.mpr ⟨s_L_law_351, List.forall_mem_cons.mpr ⟨s_L_law_354, List.forall_mem_cons.mpr ⟨s_L_law_356, List.forall_mem_cons.mpr ⟨s_L_law_357, List.forall_mem_cons.mpr ⟨s_L_law_358, List.forall_mem_cons.mpr ⟨s_L_law_360, List.forall_mem_cons.mpr ⟨s_L_law_361, List.forall_mem_cons.mpr ⟨s_L_law_362, List.forall_mem_cons.mpr ⟨s_L_law_363, List.forall_mem_cons.mpr ⟨s_L_law_364, List.forall_mem_cons.mpr ⟨s_L_law_366, List.forall_mem_cons.mpr ⟨s_L_law_367, List.forall_mem_cons.mpr ⟨s_L_law_368, List.forall_mem_cons.mpr ⟨s_L_law_370, List.forall_mem_cons.mpr ⟨s_L_law_371, List.forall_mem_cons.mpr ⟨s_L_law_372, List.forall_mem_cons.mpr ⟨s_L_law_373, List.forall_mem_cons.mpr ⟨s_L_law_374, List.forall_mem_cons.mpr ⟨s_L_law_377, List.forall_mem_cons.mpr ⟨s_L_law_378, List.forall_mem_cons.mpr ⟨s_L_law_379, List.forall_mem_cons.mpr ⟨s_L_law_380, List.forall_mem_cons.mpr ⟨s_L_law_382, List.forall_mem_cons.mpr ⟨s_L_law_383, List.forall_mem_cons.mpr ⟨s_L_law_384, List.forall_mem_cons.mpr ⟨s_L_law_385, List.forall_mem_cons.mpr ⟨s_L_law_386, List.forall_mem_cons.mpr ⟨s_L_law_388, List.forall_mem_cons.mpr ⟨s_L_law_389, List.forall_mem_cons.mpr ⟨s_L_law_390, List.forall_mem_cons.mpr ⟨s_L_law_392, List.forall_mem_cons.mpr ⟨s_L_law_393, List.forall_mem_cons.mpr ⟨s_L_law_394, List.forall_mem_cons.mpr ⟨s_L_law_395, List.forall_mem_cons.mpr ⟨s_L_law_396, List.forall_mem_cons.mpr ⟨s_L_law_399, List.forall_mem_cons.mpr ⟨s_L_law_400, List.forall_mem_cons.mpr ⟨s_L_law_401, List.forall_mem_cons.mpr ⟨s_L_law_402, List.forall_mem_cons.mpr ⟨s_L_law_404, List.forall_mem_cons.mpr ⟨s_L_law_405, List.forall_mem_cons.mpr ⟨s_L_law_406, List.forall_mem_cons.mpr ⟨s_L_law_407, List.forall_mem_cons.mpr ⟨s_L_law_408, List.forall_mem_cons.mpr ⟨s_L_law_410, List.forall_mem_cons.mpr ⟨s_L_law_411, List.forall_mem_cons.mpr ⟨s_L_law_412, List.forall_mem_cons.mpr ⟨s_L_law_414, List.forall_mem_cons.mpr ⟨s_L_law_416, List.forall_mem_cons.mpr ⟨s_L_law_417, List.forall_mem_cons.mpr ⟨s_L_law_418, List.forall_mem_cons.mpr ⟨s_L_law_419, List.forall_mem_cons.mpr ⟨s_L_law_422, List.forall_mem_cons.mpr ⟨s_L_law_423, List.forall_mem_cons.mpr ⟨s_L_law_424, List.forall_mem_cons.mpr ⟨s_L_law_427, List.forall_mem_cons.mpr ⟨s_L_law_429, List.forall_mem_cons.mpr ⟨s_L_law_430, List.forall_mem_cons.mpr ⟨s_L_law_433, List.forall_mem_cons.mpr ⟨s_L_law_435, List.forall_mem_cons.mpr ⟨s_L_law_438, List.forall_mem_cons.mpr ⟨s_L_law_439, List.forall_mem_cons.mpr ⟨s_L_law_440, List.forall_mem_cons.mpr ⟨s_L_law_442, List.forall_mem_cons.mpr ⟨s_L_law_445, List.forall_mem_cons.mpr ⟨s_L_law_446, List.forall_mem_cons.mpr ⟨s_L_law_447, List.forall_mem_cons.mpr ⟨s_L_law_448, List.forall_mem_cons.mpr ⟨s_L_law_450, List.forall_mem_cons.mpr ⟨s_L_law_451, List.forall_mem_cons.mpr ⟨s_L_law_452, List.forall_mem_cons.mpr ⟨s_L_law_455, List.forall_mem_cons.mpr ⟨s_L_law_456, List.forall_mem_cons.mpr ⟨s_L_law_457, List.forall_mem_cons.mpr ⟨s_L_law_460, List.forall_mem_cons.mpr ⟨s_L_law_461, List.forall_mem_cons.mpr ⟨s_L_law_462, List.forall_mem_cons.mpr ⟨s_L_law_465, List.forall_mem_cons.mpr ⟨s_L_law_467, List.forall_mem_cons.mpr ⟨s_L_law_468, List.forall_mem_cons.mpr ⟨s_L_law_471, List.forall_mem_cons.mpr ⟨s_L_law_473, List.forall_mem_cons.mpr ⟨s_L_law_474, List.forall_mem_cons.mpr ⟨s_L_law_477, List.forall_mem_cons.mpr ⟨s_L_law_479, List.forall_mem_cons.mpr ⟨s_L_law_482, List.forall_mem_cons.mpr ⟨s_L_law_483, List.forall_mem_cons.mpr ⟨s_L_law_484, List.forall_mem_cons.mpr ⟨s_L_law_486, List.forall_mem_cons.mpr ⟨s_L_law_489, List.forall_mem_cons.mpr ⟨s_L_law_490, List.forall_mem_cons.mpr ⟨s_L_law_491, List.forall_mem_cons.mpr ⟨s_L_law_492, List.forall_mem_cons.mpr ⟨s_L_law_494, List.forall_mem_cons.mpr ⟨s_L_law_495, List.forall_mem_cons.mpr ⟨s_L_law_496, List.forall_mem_cons.mpr ⟨s_L_law_499, List.forall_mem_cons.mpr ⟨s_L_law_500, List.forall_mem_cons.mpr ⟨s_L_law_501, List.forall_mem_cons.mpr ⟨s_L_law_504, List.forall_mem_cons.mpr ⟨s_L_law_505, List.forall_mem_cons.mpr ⟨s_L_law_506, List.forall_mem_cons.mpr ⟨s_L_law_509, List.forall_mem_cons.mpr ⟨s_L_law_511, List.forall_mem_cons.mpr ⟨s_L_law_512, List.forall_mem_cons.mpr ⟨s_L_law_515, List.forall_mem_cons.mpr ⟨s_L_law_517, List.forall_mem_cons.mpr ⟨s_L_law_518, List.forall_mem_cons.mpr ⟨s_L_law_521, List.forall_mem_cons.mpr ⟨s_L_law_523, List.forall_mem_cons.mpr ⟨s_L_law_526, List.forall_mem_cons.mpr ⟨s_L_law_527, List.forall_mem_cons.mpr ⟨s_L_law_528, List.forall_mem_cons.mpr ⟨s_L_law_530, List.forall_mem_cons.mpr ⟨s_L_law_533, List.forall_mem_cons.mpr ⟨s_L_law_534, List.forall_mem_cons.mpr ⟨s_L_law_535, List.forall_mem_cons.mpr ⟨s_L_law_536, List.forall_mem_cons.mpr ⟨s_L_law_538, List.forall_mem_cons.mpr ⟨s_L_law_539, List.forall_mem_cons.mpr ⟨s_L_law_540, List.forall_mem_cons.mpr ⟨s_L_law_543, List.forall_mem_cons.mpr ⟨s_L_law_544, List.forall_mem_cons.mpr ⟨s_L_law_545, List.forall_mem_cons.mpr ⟨s_L_law_548, List.forall_mem_cons.mpr ⟨s_L_law_549, List.forall_mem_cons.mpr ⟨s_L_law_550, List.forall_mem_cons.mpr ⟨s_L_law_553, List.forall_mem_cons.mpr ⟨s_L_law_555, List.forall_mem_cons.mpr ⟨s_L_law_556, List.forall_mem_cons.mpr ⟨s_L_law_559, List.forall_mem_cons.mpr ⟨s_L_law_561, List.forall_mem_cons.mpr ⟨s_L_law_562, List.forall_mem_cons.mpr ⟨s_L_law_565, List.forall_mem_cons.mpr ⟨s_L_law_567, List.forall_mem_cons.mpr ⟨s_L_law_570, List.forall_mem_cons.mpr ⟨s_L_law_571, List.forall_mem_cons.mpr ⟨s_L_law_572, List.forall_mem_cons.mpr ⟨s_L_law_574, List.forall_mem_cons.mpr ⟨s_L_law_577, List.forall_mem_cons.mpr ⟨s_L_law_578, List.forall_mem_cons.mpr ⟨s_L_law_579, List.forall_mem_cons.mpr ⟨s_L_law_580, List.forall_mem_cons.mpr ⟨s_L_law_582, List.forall_mem_cons.mpr ⟨s_L_law_583, List.forall_mem_cons.mpr ⟨s_L_law_584, List.forall_mem_cons.mpr ⟨s_L_law_587, List.forall_mem_cons.mpr ⟨s_L_law_588, List.forall_mem_cons.mpr ⟨s_L_law_589, List.forall_mem_cons.mpr ⟨s_L_law_592, List.forall_mem_cons.mpr ⟨s_L_law_593, List.forall_mem_cons.mpr ⟨s_L_law_596, List.forall_mem_cons.mpr ⟨s_L_law_597, List.forall_mem_cons.mpr ⟨s_L_law_600, List.forall_mem_cons.mpr ⟨s_L_law_603, List.forall_mem_cons.mpr ⟨s_L_law_604, List.forall_mem_cons.mpr ⟨s_L_law_605, List.forall_mem_cons.mpr ⟨s_L_law_606, List.forall_mem_cons.mpr ⟨s_L_law_607, List.forall_mem_cons.mpr ⟨s_L_law_609, List.forall_mem_cons.mpr ⟨s_L_law_610, List.forall_mem_cons.mpr ⟨s_L_law_611, List.forall_mem_cons.mpr ⟨s_L_law_612, List.forall_mem_cons.mpr ⟨s_L_law_613, List.forall_mem_cons.mpr ⟨s_L_law_616, List.forall_mem_cons.mpr ⟨s_L_law_618, List.forall_mem_cons.mpr ⟨s_L_law_619, List.forall_mem_cons.mpr ⟨s_L_law_620, List.forall_mem_cons.mpr ⟨s_L_law_622, List.forall_mem_cons.mpr ⟨s_L_law_623, List.forall_mem_cons.mpr ⟨s_L_law_624, List.forall_mem_cons.mpr ⟨s_L_law_625, List.forall_mem_cons.mpr ⟨s_L_law_628, List.forall_mem_cons.mpr ⟨s_L_law_630, List.forall_mem_cons.mpr ⟨s_L_law_631, List.forall_mem_cons.mpr ⟨s_L_law_634, List.forall_mem_cons.mpr ⟨s_L_law_636, List.forall_mem_cons.mpr ⟨s_L_law_639, List.forall_mem_cons.mpr ⟨s_L_law_640, List.forall_mem_cons.mpr ⟨s_L_law_641, List.forall_mem_cons.mpr ⟨s_L_law_643, List.forall_mem_cons.mpr ⟨s_L_law_646, List.forall_mem_cons.mpr ⟨s_L_law_647, List.forall_mem_cons.mpr ⟨s_L_law_648, List.forall_mem_cons.mpr ⟨s_L_law_649, List.forall_mem_cons.mpr ⟨s_L_law_651, List.forall_mem_cons.mpr ⟨s_L_law_652, List.forall_mem_cons.mpr ⟨s_L_law_653, List.forall_mem_cons.mpr ⟨s_L_law_656, List.forall_mem_cons.mpr ⟨s_L_law_657, List.forall_mem_cons.mpr ⟨s_L_law_658, List.forall_mem_cons.mpr ⟨s_L_law_661, List.forall_mem_cons.mpr ⟨s_L_law_662, List.forall_mem_cons.mpr ⟨s_L_law_663, List.forall_mem_cons.mpr ⟨s_L_law_665, List.forall_mem_cons.mpr ⟨s_L_law_666, List.forall_mem_cons.mpr ⟨s_L_law_667, List.forall_mem_cons.mpr ⟨s_L_law_668, List.forall_mem_cons.mpr ⟨s_L_law_669, List.forall_mem_cons.mpr ⟨s_L_law_671, List.forall_mem_cons.mpr ⟨s_L_law_672, List.forall_mem_cons.mpr ⟨s_L_law_673, List.forall_mem_cons.mpr ⟨s_L_law_675, List.forall_mem_cons.mpr ⟨s_L_law_676, List.forall_mem_cons.mpr ⟨s_L_law_677, List.forall_mem_cons.mpr ⟨s_L_law_678, List.forall_mem_cons.mpr ⟨s_L_law_679, List.forall_mem_cons.mpr ⟨s_L_law_682, List.forall_mem_cons.mpr ⟨s_L_law_683, List.forall_mem_cons.mpr ⟨s_L_law_684, List.forall_mem_cons.mpr ⟨s_L_law_685, List.forall_mem_cons.mpr ⟨s_L_law_687, List.forall_mem_cons.mpr ⟨s_L_law_688, List.forall_mem_cons.mpr ⟨s_L_law_689, List.forall_mem_cons.mpr ⟨s_L_law_690, List.forall_mem_cons.mpr ⟨s_L_law_691, List.forall_mem_cons.mpr ⟨s_L_law_694, List.forall_mem_cons.mpr ⟨s_L_law_696, List.forall_mem_cons.mpr ⟨s_L_law_697, List.forall_mem_cons.mpr ⟨s_L_law_698, List.forall_mem_cons.mpr ⟨s_L_law_700, List.forall_mem_cons.mpr ⟨s_L_law_701, List.forall_mem_cons.mpr ⟨s_L_law_702, List.forall_mem_cons.mpr ⟨s_L_law_703, List.forall_mem_cons.mpr ⟨s_L_law_704, List.forall_mem_cons.mpr ⟨s_L_law_706, List.forall_mem_cons.mpr ⟨s_L_law_707, List.forall_mem_cons.mpr ⟨s_L_law_708, List.forall_mem_cons.mpr ⟨s_L_law_710, List.forall_mem_cons.mpr ⟨s_L_law_711, List.forall_mem_cons.mpr ⟨s_L_law_712, List.forall_mem_cons.mpr ⟨s_L_law_713, List.forall_mem_cons.mpr ⟨s_L_law_714, List.forall_mem_cons.mpr ⟨s_L_law_717, List.forall_mem_cons.mpr ⟨s_L_law_718, List.forall_mem_cons.mpr ⟨s_L_law_719, List.forall_mem_cons.mpr ⟨s_L_law_720, List.forall_mem_cons.mpr ⟨s_L_law_722, List.forall_mem_cons.mpr ⟨s_L_law_723, List.forall_mem_cons.mpr ⟨s_L_law_724, List.forall_mem_cons.mpr ⟨s_L_law_725, List.forall_mem_cons.mpr ⟨s_L_law_728, List.forall_mem_cons.mpr ⟨s_L_law_730, List.forall_mem_cons.mpr ⟨s_L_law_731, List.forall_mem_cons.mpr ⟨s_L_law_734, List.forall_mem_cons.mpr ⟨s_L_law_736, List.forall_mem_cons.mpr ⟨s_L_law_739, List.forall_mem_cons.mpr ⟨s_L_law_740, List.forall_mem_cons.mpr ⟨s_L_law_741, List.forall_mem_cons.mpr ⟨s_L_law_743, List.forall_mem_cons.mpr ⟨s_L_law_746, List.forall_mem_cons.mpr ⟨s_L_law_747, List.forall_mem_cons.mpr ⟨s_L_law_748, List.forall_mem_cons.mpr ⟨s_L_law_749, List.forall_mem_cons.mpr ⟨s_L_law_751, List.forall_mem_cons.mpr ⟨s_L_law_752, List.forall_mem_cons.mpr ⟨s_L_law_753, List.forall_mem_cons.mpr ⟨s_L_law_756, List.forall_mem_cons.mpr ⟨s_L_law_757, List.forall_mem_cons.mpr ⟨s_L_law_758, List.forall_mem_cons.mpr ⟨s_L_law_761, List.forall_mem_cons.mpr ⟨s_L_law_762, List.forall_mem_cons.mpr ⟨s_L_law_763, List.forall_mem_cons.mpr ⟨s_L_law_766, List.forall_mem_cons.mpr ⟨s_L_law_768, List.forall_mem_cons.mpr ⟨s_L_law_769, List.forall_mem_cons.mpr ⟨s_L_law_772, List.forall_mem_cons.mpr ⟨s_L_law_774, List.forall_mem_cons.mpr ⟨s_L_law_775, List.forall_mem_cons.mpr ⟨s_L_law_778, List.forall_mem_cons.mpr ⟨s_L_law_780, List.forall_mem_cons.mpr ⟨s_L_law_783, List.forall_mem_cons.mpr ⟨s_L_law_784, List.forall_mem_cons.mpr ⟨s_L_law_785, List.forall_mem_cons.mpr ⟨s_L_law_787, List.forall_mem_cons.mpr ⟨s_L_law_790, List.forall_mem_cons.mpr ⟨s_L_law_791, List.forall_mem_cons.mpr ⟨s_L_law_792, List.forall_mem_cons.mpr ⟨s_L_law_793, List.forall_mem_cons.mpr ⟨s_L_law_795, List.forall_mem_cons.mpr ⟨s_L_law_796, List.forall_mem_cons.mpr ⟨s_L_law_797, List.forall_mem_cons.mpr ⟨s_L_law_800, List.forall_mem_cons.mpr ⟨s_L_law_801, List.forall_mem_cons.mpr ⟨s_L_law_802, List.forall_mem_cons.mpr ⟨s_L_law_805, List.forall_mem_cons.mpr ⟨s_L_law_806, List.forall_mem_cons.mpr ⟨s_L_law_809, List.forall_mem_cons.mpr ⟨s_L_law_810, List.forall_mem_cons.mpr ⟨s_L_law_813, List.forall_mem_cons.mpr ⟨s_L_law_816, List.forall_mem_cons.mpr ⟨s_L_law_817, List.forall_mem_cons.mpr ⟨s_L_law_818, List.forall_mem_cons.mpr ⟨s_L_law_819, List.forall_mem_cons.mpr ⟨s_L_law_820, List.forall_mem_cons.mpr ⟨s_L_law_822, List.forall_mem_cons.mpr ⟨s_L_law_823, List.forall_mem_cons.mpr ⟨s_L_law_824, List.forall_mem_cons.mpr ⟨s_L_law_825, List.forall_mem_cons.mpr ⟨s_L_law_826, List.forall_mem_cons.mpr ⟨s_L_law_828, List.forall_mem_cons.mpr ⟨s_L_law_829, List.forall_mem_cons.mpr ⟨s_L_law_830, List.forall_mem_cons.mpr ⟨s_L_law_831, List.forall_mem_cons.mpr ⟨s_L_law_832, List.forall_mem_cons.mpr ⟨s_L_law_835, List.forall_mem_cons.mpr ⟨s_L_law_837, List.forall_mem_cons.mpr ⟨s_L_law_838, List.forall_mem_cons.mpr ⟨s_L_law_839, List.forall_mem_cons.mpr ⟨s_L_law_841, List.forall_mem_cons.mpr ⟨s_L_law_842, List.forall_mem_cons.mpr ⟨s_L_law_843, List.forall_mem_cons.mpr ⟨s_L_law_844, List.forall_mem_cons.mpr ⟨s_L_law_845, List.forall_mem_cons.mpr ⟨s_L_law_847, List.forall_mem_cons.mpr ⟨s_L_law_848, List.forall_mem_cons.mpr ⟨s_L_law_849, List.forall_mem_cons.mpr ⟨s_L_law_850, List.forall_mem_cons.mpr ⟨s_L_law_853, List.forall_mem_cons.mpr ⟨s_L_law_855, List.forall_mem_cons.mpr ⟨s_L_law_856, List.forall_mem_cons.mpr ⟨s_L_law_859, List.forall_mem_cons.mpr ⟨s_L_law_861, List.forall_mem_cons.mpr ⟨s_L_law_864, List.forall_mem_cons.mpr ⟨s_L_law_865, List.forall_mem_cons.mpr ⟨s_L_law_866, List.forall_mem_cons.mpr ⟨s_L_law_868, List.forall_mem_cons.mpr ⟨s_L_law_871, List.forall_mem_cons.mpr ⟨s_L_law_872, List.forall_mem_cons.mpr ⟨s_L_law_873, List.forall_mem_cons.mpr ⟨s_L_law_874, List.forall_mem_cons.mpr ⟨s_L_law_876, List.forall_mem_cons.mpr ⟨s_L_law_877, List.forall_mem_cons.mpr ⟨s_L_law_880, List.forall_mem_cons.mpr ⟨s_L_law_881, List.forall_mem_cons.mpr ⟨s_L_law_882, List.forall_mem_cons.mpr ⟨s_L_law_885, List.forall_mem_cons.mpr ⟨s_L_law_886, List.forall_mem_cons.mpr ⟨s_L_law_887, List.forall_mem_cons.mpr ⟨s_L_law_889, List.forall_mem_cons.mpr ⟨s_L_law_890, List.forall_mem_cons.mpr ⟨s_L_law_891, List.forall_mem_cons.mpr ⟨s_L_law_892, List.forall_mem_cons.mpr ⟨s_L_law_893, List.forall_mem_cons.mpr ⟨s_L_law_896, List.forall_mem_cons.mpr ⟨s_L_law_898, List.forall_mem_cons.mpr ⟨s_L_law_899, List.forall_mem_cons.mpr ⟨s_L_law_900, List.forall_mem_cons.mpr ⟨s_L_law_902, List.forall_mem_cons.mpr ⟨s_L_law_903, List.forall_mem_cons.mpr ⟨s_L_law_904, List.forall_mem_cons.mpr ⟨s_L_law_905, List.forall_mem_cons.mpr ⟨s_L_law_908, List.forall_mem_cons.mpr ⟨s_L_law_910, List.forall_mem_cons.mpr ⟨s_L_law_911, List.forall_mem_cons.mpr ⟨s_L_law_914, List.forall_mem_cons.mpr ⟨s_L_law_916, List.forall_mem_cons.mpr ⟨s_L_law_919, List.forall_mem_cons.mpr ⟨s_L_law_920, List.forall_mem_cons.mpr ⟨s_L_law_921, List.forall_mem_cons.mpr ⟨s_L_law_923, List.forall_mem_cons.mpr ⟨s_L_law_926, List.forall_mem_cons.mpr ⟨s_L_law_927, List.forall_mem_cons.mpr ⟨s_L_law_928, List.forall_mem_cons.mpr ⟨s_L_law_929, List.forall_mem_cons.mpr ⟨s_L_law_931, List.forall_mem_cons.mpr ⟨s_L_law_932, List.forall_mem_cons.mpr ⟨s_L_law_933, List.forall_mem_cons.mpr ⟨s_L_law_936, List.forall_mem_cons.mpr ⟨s_L_law_937, List.forall_mem_cons.mpr ⟨s_L_law_938, List.forall_mem_cons.mpr ⟨s_L_law_941, List.forall_mem_cons.mpr ⟨s_L_law_944, List.forall_mem_cons.mpr ⟨s_L_law_947, List.forall_mem_cons.mpr ⟨s_L_law_948, (fun q hq => absurd hq List.not_mem_nil)⟩⟩⟩⟩⟩⟩⟩⟩⟩⟩⟩⟩⟩⟩⟩⟩⟩⟩⟩⟩⟩⟩⟩⟩⟩⟩⟩⟩⟩⟩⟩⟩⟩⟩⟩⟩⟩⟩⟩⟩⟩⟩⟩⟩⟩⟩⟩⟩⟩⟩⟩⟩⟩⟩⟩⟩⟩⟩⟩⟩⟩⟩⟩⟩⟩⟩⟩⟩⟩⟩⟩⟩⟩⟩⟩⟩⟩⟩⟩⟩⟩⟩⟩⟩⟩⟩⟩⟩⟩⟩⟩⟩⟩⟩⟩⟩⟩⟩⟩⟩⟩⟩⟩⟩⟩⟩⟩⟩⟩⟩⟩⟩⟩⟩⟩⟩⟩⟩⟩⟩⟩⟩⟩⟩⟩⟩⟩⟩⟩⟩⟩⟩⟩⟩⟩⟩⟩⟩⟩⟩⟩⟩⟩⟩⟩⟩⟩⟩⟩⟩⟩⟩⟩⟩⟩⟩⟩⟩⟩⟩⟩⟩⟩⟩⟩⟩⟩⟩⟩⟩⟩⟩⟩⟩⟩⟩⟩⟩⟩⟩⟩⟩⟩⟩⟩⟩⟩⟩⟩⟩⟩⟩⟩⟩⟩⟩⟩⟩⟩⟩⟩⟩⟩⟩⟩⟩⟩⟩⟩⟩⟩⟩⟩⟩⟩⟩⟩⟩⟩⟩⟩⟩⟩⟩⟩⟩⟩⟩⟩⟩⟩⟩⟩⟩⟩⟩⟩⟩⟩⟩⟩⟩⟩⟩⟩⟩⟩⟩⟩⟩⟩⟩⟩⟩⟩⟩⟩⟩⟩⟩⟩⟩⟩⟩⟩⟩⟩⟩⟩⟩⟩⟩⟩⟩⟩⟩⟩⟩⟩⟩⟩⟩⟩⟩⟩⟩⟩⟩⟩⟩⟩⟩⟩⟩⟩⟩⟩⟩⟩⟩⟩⟩⟩⟩⟩⟩⟩⟩⟩⟩⟩⟩⟩⟩⟩⟩⟩⟩⟩⟩⟩⟩⟩⟩⟩⟩⟩⟩⟩⟩⟩⟩⟩⟩⟩⟩⟩⟩⟩⟩⟩⟩⟩⟩⟩⟩⟩⟩⟩⟩⟩⟩⟩⟩⟩⟩⟩⟩⟩⟩⟩⟩⟩⟩⟩⟩⟩⟩⟩⟩⟩⟩⟩⟩⟩⟩⟩⟩⟩⟩⟩⟩⟩⟩⟩⟩⟩⟩⟩⟩⟩⟩⟩⟩⟩⟩⟩⟩⟩⟩⟩⟩⟩⟩⟩⟩⟩⟩⟩⟩⟩⟩⟩⟩⟩⟩⟩⟩⟩⟩⟩⟩⟩⟩⟩⟩⟩⟩⟩⟩⟩⟩⟩⟩⟩⟩⟩⟩⟩⟩⟩⟩⟩⟩⟩⟩⟩⟩⟩⟩⟩⟩⟩⟩⟩⟩⟩⟩⟩⟩⟩⟩⟩⟩⟩⟩⟩⟩⟩⟩⟩⟩⟩⟩⟩⟩⟩⟩⟩⟩⟩⟩⟩⟩⟩⟩⟩⟩⟩⟩⟩⟩⟩⟩⟩⟩⟩⟩⟩⟩⟩⟩⟩⟩⟩⟩⟩⟩⟩⟩⟩⟩⟩⟩⟩⟩⟩⟩⟩⟩⟩⟩⟩⟩⟩⟩⟩⟩⟩⟩⟩⟩⟩⟩⟩⟩⟩⟩⟩⟩⟩⟩⟩⟩⟩⟩⟩⟩⟩⟩⟩⟩⟩⟩⟩⟩⟩⟩⟩⟩⟩⟩⟩⟩⟩⟩⟩⟩⟩⟩⟩⟩⟩⟩⟩⟩⟩⟩⟩⟩
theorem s_X0_add_0 : Snd PG.nam M1 0 (m_aload 7 2) := snd_aload dX0_add_0
theorem s_X0_add_2 : Snd PG.nam M1 2 (m_const (.int (nI 0)) 3) := snd_iconst dX0_add_2 (by decide)
theorem s_X0_add_3 : Snd PG.nam M1 3 (m_aload 0 4) := snd_aload_n dX0_add_3 rfl
theorem s_X0_add_4 : Snd PG.nam M1 4 (m_lload 1 5) := snd_lload_n dX0_add_4 rfl
theorem s_X0_add_5 : Snd PG.nam M1 5 (m_lload 3 6) := snd_lload_n dX0_add_5 rfl
theorem s_X0_add_6 : Snd PG.nam M1 6 (m_lload 5 8) := snd_lload dX0_add_6
theorem s_X0_add_8 : Snd PG.nam M1 8 (m_callX [(0, 14)] 3 11 [(24, 16), (25, 20)]) := snd_callX (nam := PG.nam) (List.forall_mem_cons.mpr ⟨dr_V (ym := PG.nam 14) dX0_add_8 (Or.inl w211) mi_14 rfl w213, (fun q hq => absurd hq List.not_mem_nil)⟩) (List.forall_mem_cons.mpr ⟨⟨_, rfl, ⟨⟨by decide, by decide⟩, by decide, _, w209, Or.inl ⟨w225, rfl⟩⟩⟩, (List.forall_mem_cons.mpr ⟨⟨_, rfl, ⟨⟨by decide, by decide⟩, by decide, _, w209, Or.inr ⟨nc_J14_J7, ⟨⟨by decide, by decide⟩, by decide, _, w210, Or.inl ⟨w601, rfl⟩⟩⟩⟩⟩, (fun q hq => absurd hq List.not_mem_nil)⟩)⟩)
theorem s_X0_add_11 : Snd PG.nam M1 11 (m_i2l 12) := snd_i2l dX0_add_11
theorem s_X0_add_12 : Snd PG.nam M1 12 (m_last 13) := snd_last dX0_add_12
theorem s_X0_add_13 : Snd PG.nam M1 13 (m_goto 24) := snd_goto dX0_add_13 (by decide)
theorem s_X0_add_16 : Snd PG.nam M1 16 (m_astore 8 18) := snd_astore dX0_add_16 (by decide)
theorem s_X0_add_18 : Snd PG.nam M1 18 (m_const (.int (nI 1)) 19) := snd_iconst dX0_add_18 (by decide)
theorem s_X0_add_19 : Snd PG.nam M1 19 (m_iret .int) := snd_iret dX0_add_19 rfl
theorem s_X0_add_20 : Snd PG.nam M1 20 (m_astore 8 22) := snd_astore dX0_add_20 (by decide)
theorem s_X0_add_22 : Snd PG.nam M1 22 (m_const (.int (nI 2)) 23) := snd_iconst dX0_add_22 (by decide)
theorem s_X0_add_23 : Snd PG.nam M1 23 (m_iret .int) := snd_iret dX0_add_23 rfl
theorem s_X0_add_24 : Snd PG.nam M1 24 (m_const (.int (nI 0)) 25) := snd_iconst dX0_add_24 (by decide)
theorem s_X0_add_25 : Snd PG.nam M1 25 (m_iret .int) := snd_iret dX0_add_25 rfl
theorem T1 : ∀ q ∈ S1, Snd PG.nam M1 q.1 q.2 := List.forall_mem_cons.mpr ⟨s_X0_add_0, List.forall_mem_cons.mpr ⟨s_X0_add_2, List.forall_mem_cons.mpr ⟨s_X0_add_3, List.forall_mem_cons.mpr ⟨s_X0_add_4, List.forall_mem_cons.mpr ⟨s_X0_add_5, List.forall_mem_cons.mpr ⟨s_X0_add_6, List.forall_mem_cons.mpr ⟨s_X0_add_8, List.forall_mem_cons.mpr ⟨s_X0_add_11, List.forall_mem_cons.mpr ⟨s_X0_add_12, List.forall_mem_cons.mpr ⟨s_X0_add_13, List.forall_mem_cons.mpr ⟨s_X0_add_16, List.forall_mem_cons.mpr ⟨s_X0_add_18, List.forall_mem_cons.mpr ⟨s_X0_add_19, List.forall_mem_cons.mpr ⟨s_X0_add_20, List.forall_mem_cons.mpr ⟨s_X0_add_22, List.forall_mem_cons.mpr ⟨s_X0_add_23, List.forall_mem_cons.mpr ⟨s_X0_add_24, List.forall_mem_cons.mpr ⟨s_X0_add_25, (fun q hq => absurd hq List.not_mem_nil)⟩⟩⟩⟩⟩⟩⟩⟩⟩⟩⟩⟩⟩⟩⟩⟩⟩⟩
theorem s_X0_remove_0 : Snd PG.nam M2 0 (m_aload 7 2) := snd_aload dX0_remove_0
theorem s_X0_remove_2 : Snd PG.nam M2 2 (m_const (.int (nI 0)) 3) := snd_iconst dX0_remove_2 (by decide)
theorem s_X0_remove_3 : Snd PG.nam M2 3 (m_aload 0 4) := snd_aload_n dX0_remove_3 rfl
theorem s_X0_remove_4 : Snd PG.nam M2 4 (m_lload 1 5) := snd_lload_n dX0_remove_4 rfl
theorem s_X0_remove_5 : Snd PG.nam M2 5 (m_lload 3 6) := snd_lload_n dX0_remove_5 rfl
theorem s_X0_remove_6 : Snd PG.nam M2 6 (m_lload 5 8) := snd_lload dX0_remove_6
theorem s_X0_remove_8 : Snd PG.nam M2 8 (m_callX [(0, 21)] 3 11 [(24, 16)]) := snd_callX (nam := PG.nam) (List.forall_mem_cons.mpr ⟨dr_V (ym := PG.nam 21) dX0_remove_8 (Or.inl w662) mi_21 rfl w664, (fun q hq => absurd hq List.not_mem_nil)⟩) (List.forall_mem_cons.mpr ⟨⟨_, rfl, ⟨⟨by decide, by decide⟩, by decide, _, w209, Or.inl ⟨w225, rfl⟩⟩⟩, (fun q hq => absurd hq List.not_mem_nil)⟩)
theorem s_X0_remove_11 : Snd PG.nam M2 11 (m_i2l 12) := snd_i2l dX0_remove_11
theorem s_X0_remove_12 : Snd PG.nam M2 12 (m_last 13) := snd_last dX0_remove_12
theorem s_X0_remove_13 : Snd PG.nam M2 13 (m_goto 20) := snd_goto dX0_remove_13 (by decide)
theorem s_X0_remove_16 : Snd PG.nam M2 16 (m_astore 8 18) := snd_astore dX0_remove_16 (by decide)
theorem s_X0_remove_18 : Snd PG.nam M2 18 (m_const (.int (nI 1)) 19) := snd_iconst dX0_remove_18 (by decide)
theorem s_X0_remove_19 : Snd PG.nam M2 19 (m_iret .int) := snd_iret dX0_remove_19 rfl
theorem s_X0_remove_20 : Snd PG.nam M2 20 (m_const (.int (nI 0)) 21) := snd_iconst dX0_remove_20 (by decide)
theorem s_X0_remove_21 : Snd PG.nam M2 21 (m_iret .int) := snd_iret dX0_remove_21 rfl
theorem T2 : ∀ q ∈ S2, Snd PG.nam M2 q.1 q.2 := List.forall_mem_cons.mpr ⟨s_X0_remove_0, List.forall_mem_cons.mpr ⟨s_X0_remove_2, List.forall_mem_cons.mpr ⟨s_X0_remove_3, List.forall_mem_cons.mpr ⟨s_X0_remove_4, List.forall_mem_cons.mpr ⟨s_X0_remove_5, List.forall_mem_cons.mpr ⟨s_X0_remove_6, List.forall_mem_cons.mpr ⟨s_X0_remove_8, List.forall_mem_cons.mpr ⟨s_X0_remove_11, List.forall_mem_cons.mpr ⟨s_X0_remove_12, List.forall_mem_cons.mpr ⟨s_X0_remove_13, List.forall_mem_cons.mpr ⟨s_X0_remove_16, List.forall_mem_cons.mpr ⟨s_X0_remove_18, List.forall_mem_cons.mpr ⟨s_X0_remove_19, List.forall_mem_cons.mpr ⟨s_X0_remove_20, List.forall_mem_cons.mpr ⟨s_X0_remove_21, (fun q hq => absurd hq List.not_mem_nil)⟩⟩⟩⟩⟩⟩⟩⟩⟩⟩⟩⟩⟩⟩⟩
theorem s_X0_begin_0 : Snd PG.nam M3 0 (m_aload 1 1) := snd_aload_n dX0_begin_0 rfl
theorem s_X0_begin_1 : Snd PG.nam M3 1 (m_const (.int (nI 0)) 2) := snd_iconst dX0_begin_1 (by decide)
theorem s_X0_begin_2 : Snd PG.nam M3 2 (m_aload 0 3) := snd_aload_n dX0_begin_2 rfl
theorem s_X0_begin_3 : Snd PG.nam M3 3 (m_callX [(0, 23)] 0 6 [(25, 11)]) := snd_callX (nam := PG.nam) (List.forall_mem_cons.mpr ⟨dr_V (ym := PG.nam 23) dX0_begin_3 (Or.inl w673) mi_23 rfl w675, (fun q hq => absurd hq List.not_mem_nil)⟩) (List.forall_mem_cons.mpr ⟨⟨_, rfl, ⟨⟨by decide, by decide⟩, by decide, _, w210, Or.inl ⟨w601, rfl⟩⟩⟩, (fun q hq => absurd hq List.not_mem_nil)⟩)
theorem s_X0_begin_6 : Snd PG.nam M3 6 (m_i2l 7) := snd_i2l dX0_begin_6
theorem s_X0_begin_7 : Snd PG.nam M3 7 (m_last 8) := snd_last dX0_begin_7
theorem s_X0_begin_8 : Snd PG.nam M3 8 (m_goto 14) := snd_goto dX0_begin_8 (by decide)
theorem s_X0_begin_11 : Snd PG.nam M3 11 (m_astore 2 12) := snd_astore_n dX0_begin_11 rfl (by decide)
theorem s_X0_begin_12 : Snd PG.nam M3 12 (m_const (.int (nI 1)) 13) := snd_iconst dX0_begin_12 (by decide)
theorem s_X0_begin_13 : Snd PG.nam M3 13 (m_iret .int) := snd_iret dX0_begin_13 rfl
theorem s_X0_begin_14 : Snd PG.nam M3 14 (m_const (.int (nI 0)) 15) := snd_iconst dX0_begin_14 (by decide)
theorem s_X0_begin_15 : Snd PG.nam M3 15 (m_iret .int) := snd_iret dX0_begin_15 rfl
theorem T3 : ∀ q ∈ S3, Snd PG.nam M3 q.1 q.2 := List.forall_mem_cons.mpr ⟨s_X0_begin_0, List.forall_mem_cons.mpr ⟨s_X0_begin_1, List.forall_mem_cons.mpr ⟨s_X0_begin_2, List.forall_mem_cons.mpr ⟨s_X0_begin_3, List.forall_mem_cons.mpr ⟨s_X0_begin_6, List.forall_mem_cons.mpr ⟨s_X0_begin_7, List.forall_mem_cons.mpr ⟨s_X0_begin_8, List.forall_mem_cons.mpr ⟨s_X0_begin_11, List.forall_mem_cons.mpr ⟨s_X0_begin_12, List.forall_mem_cons.mpr ⟨s_X0_begin_13, List.forall_mem_cons.mpr ⟨s_X0_begin_14, List.forall_mem_cons.mpr ⟨s_X0_begin_15, (fun q hq => absurd hq List.not_mem_nil)⟩⟩⟩⟩⟩⟩⟩⟩⟩⟩⟩⟩
theorem s_X0_commit_0 : Snd PG.nam M4 0 (m_aload 1 1) := snd_aload_n dX0_commit_0 rfl
theorem s_X0_commit_1 : Snd PG.nam M4 1 (m_const (.int (nI 0)) 2) := snd_iconst dX0_commit_1 (by decide)
theorem s_X0_commit_2 : Snd PG.nam M4 2 (m_aload 0 3) := snd_aload_n dX0_commit_2 rfl
theorem s_X0_commit_3 : Snd PG.nam M4 3 (m_callX [(0, 24)] 0 6 [(25, 11)]) := snd_callX (nam := PG.nam) (List.forall_mem_cons.mpr ⟨dr_V (ym := PG.nam 24) dX0_commit_3 (Or.inl w680) mi_24 rfl w682, (fun q hq => absurd hq List.not_mem_nil)⟩) (List.forall_mem_cons.mpr ⟨⟨_, rfl, ⟨⟨by decide, by decide⟩, by decide, _, w210, Or.inl ⟨w601, rfl⟩⟩⟩, (fun q hq => absurd hq List.not_mem_nil)⟩)
theorem s_X0_commit_6 : Snd PG.nam M4 6 (m_i2l 7) := snd_i2l dX0_commit_6
theorem s_X0_commit_7 : Snd PG.nam M4 7 (m_last 8) := snd_last dX0_commit_7
theorem s_X0_commit_8 : Snd PG.nam M4 8 (m_goto 14) := snd_goto dX0_commit_8 (by decide)
theorem s_X0_commit_11 : Snd PG.nam M4 11 (m_astore 2 12) := snd_astore_n dX0_commit_11 rfl (by decide)
theorem s_X0_commit_12 : Snd PG.nam M4 12 (m_const (.int (nI 1)) 13) := snd_iconst dX0_commit_12 (by decide)
theorem s_X0_commit_13 : Snd PG.nam M4 13 (m_iret .int) := snd_iret dX0_commit_13 rfl
theorem s_X0_commit_14 : Snd PG.nam M4 14 (m_const (.int (nI 0)) 15) := snd_iconst dX0_commit_14 (by decide)
theorem s_X0_commit_15 : Snd PG.nam M4 15 (m_iret .int) := snd_iret dX0_commit_15 rfl
theorem T4 : ∀ q ∈ S4, Snd PG.nam M4 q.1 q.2 := List.forall_mem_cons.mpr ⟨s_X0_commit_0, List.forall_mem_cons.mpr ⟨s_X0_commit_1, List.forall_mem_cons.mpr ⟨s_X0_commit_2, List.forall_mem_cons.mpr ⟨s_X0_commit_3, List.forall_mem_cons.mpr ⟨s_X0_commit_6, List.forall_mem_cons.mpr ⟨s_X0_commit_7, List.forall_mem_cons.mpr ⟨s_X0_commit_8, List.forall_mem_cons.mpr ⟨s_X0_commit_11, List.forall_mem_cons.mpr ⟨s_X0_commit_12, List.forall_mem_cons.mpr ⟨s_X0_commit_13, List.forall_mem_cons.mpr ⟨s_X0_commit_14, List.forall_mem_cons.mpr ⟨s_X0_commit_15, (fun q hq => absurd hq List.not_mem_nil)⟩⟩⟩⟩⟩⟩⟩⟩⟩⟩⟩⟩
theorem s_X0_rollback_0 : Snd PG.nam M5 0 (m_aload 1 1) := snd_aload_n dX0_rollback_0 rfl
theorem s_X0_rollback_1 : Snd PG.nam M5 1 (m_const (.int (nI 0)) 2) := snd_iconst dX0_rollback_1 (by decide)
theorem s_X0_rollback_2 : Snd PG.nam M5 2 (m_aload 0 3) := snd_aload_n dX0_rollback_2 rfl
theorem s_X0_rollback_3 : Snd PG.nam M5 3 (m_callX [(0, 26)] 0 6 [(25, 11)]) := snd_callX (nam := PG.nam) (List.forall_mem_cons.mpr ⟨dr_V (ym := PG.nam 26) dX0_rollback_3 (Or.inl w691) mi_26 rfl w693, (fun q hq => absurd hq List.not_mem_nil)⟩) (List.forall_mem_cons.mpr ⟨⟨_, rfl, ⟨⟨by decide, by decide⟩, by decide, _, w210, Or.inl ⟨w601, rfl⟩⟩⟩, (fun q hq => absurd hq List.not_mem_nil)⟩)
theorem s_X0_rollback_6 : Snd PG.nam M5 6 (m_i2l 7) := snd_i2l dX0_rollback_6
theorem s_X0_rollback_7 : Snd PG.nam M5 7 (m_last 8) := snd_last dX0_rollback_7
theorem s_X0_rollback_8 : Snd PG.nam M5 8 (m_goto 14) := snd_goto dX0_rollback_8 (by decide)
theorem s_X0_rollback_11 : Snd PG.nam M5 11 (m_astore 2 12) := snd_astore_n dX0_rollback_11 rfl (by decide)
theorem s_X0_rollback_12 : Snd PG.nam M5 12 (m_const (.int (nI 1)) 13) := snd_iconst dX0_rollback_12 (by decide)
theorem s_X0_rollback_13 : Snd PG.nam M5 13 (m_iret .int) := snd_iret dX0_rollback_13 rfl
theorem s_X0_rollback_14 : Snd PG.nam M5 14 (m_const (.int (nI 0)) 15) := snd_iconst dX0_rollback_14 (by decide)
theorem s_X0_rollback_15 : Snd PG.nam M5 15 (m_iret .int) := snd_iret dX0_rollback_15 rfl
theorem T5 : ∀ q ∈ S5, Snd PG.nam M5 q.1 q.2 := List.forall_mem_cons.mpr ⟨s_X0_rollback_0, List.forall_mem_cons.mpr ⟨s_X0_rollback_1, List.forall_mem_cons.mpr ⟨s_X0_rollback_2, List.forall_mem_cons.mpr ⟨s_X0_rollback_3, List.forall_mem_cons.mpr ⟨s_X0_rollback_6, List.forall_mem_cons.mpr ⟨s_X0_rollback_7, List.forall_mem_cons.mpr ⟨s_X0_rollback_8, List.forall_mem_cons.mpr ⟨s_X0_rollback_11, List.forall_mem_cons.mpr ⟨s_X0_rollback_12, List.forall_mem_cons.mpr ⟨s_X0_rollback_13, List.forall_mem_cons.mpr ⟨s_X0_rollback_14, List.forall_mem_cons.mpr ⟨s_X0_rollback_15, (fun q hq => absurd hq List.not_mem_nil)⟩⟩⟩⟩⟩⟩⟩⟩⟩⟩⟩⟩
theorem s_X0_crash_0 : Snd PG.nam M6 0 (m_aload 2 1) := snd_aload_n dX0_crash_0 rfl
theorem s_X0_crash_1 : Snd PG.nam M6 1 (m_const (.int (nI 0)) 2) := snd_iconst dX0_crash_1 (by decide)
theorem s_X0_crash_2 : Snd PG.nam M6 2 (m_aload 0 3) := snd_aload_n dX0_crash_2 rfl
theorem s_X0_crash_3 : Snd PG.nam M6 3 (m_iload 1 4) := snd_iload_n dX0_crash_3 rfl
theorem s_X0_crash_4 : Snd PG.nam M6 4 (m_callX [(0, 29)] 1 7 [(24, 12)]) := snd_callX (nam := PG.nam) (List.forall_mem_cons.mpr ⟨dr_V (ym := PG.nam 29) dX0_crash_4 (Or.inl w706) mi_29 rfl w708, (fun q hq => absurd hq List.not_mem_nil)⟩) (List.forall_mem_cons.mpr ⟨⟨_, rfl, ⟨⟨by decide, by decide⟩, by decide, _, w209, Or.inl ⟨w225, rfl⟩⟩⟩, (fun q hq => absurd hq List.not_mem_nil)⟩)
theorem s_X0_crash_7 : Snd PG.nam M6 7 (m_i2l 8) := snd_i2l dX0_crash_7
theorem s_X0_crash_8 : Snd PG.nam M6 8 (m_last 9) := snd_last dX0_crash_8
theorem s_X0_crash_9 : Snd PG.nam M6 9 (m_goto 15) := snd_goto dX0_crash_9 (by decide)
theorem s_X0_crash_12 : Snd PG.nam M6 12 (m_astore 3 13) := snd_astore_n dX0_crash_12 rfl (by decide)
theorem s_X0_crash_13 : Snd PG.nam M6 13 (m_const (.int (nI 1)) 14) := snd_iconst dX0_crash_13 (by decide)
theorem s_X0_crash_14 : Snd PG.nam M6 14 (m_iret .int) := snd_iret dX0_crash_14 rfl
theorem s_X0_crash_15 : Snd PG.nam M6 15 (m_const (.int (nI 0)) 16) := snd_iconst dX0_crash_15 (by decide)
theorem s_X0_crash_16 : Snd PG.nam M6 16 (m_iret .int) := snd_iret dX0_crash_16 rfl
theorem T6 : ∀ q ∈ S6, Snd PG.nam M6 q.1 q.2 := List.forall_mem_cons.mpr ⟨s_X0_crash_0, List.forall_mem_cons.mpr ⟨s_X0_crash_1, List.forall_mem_cons.mpr ⟨s_X0_crash_2, List.forall_mem_cons.mpr ⟨s_X0_crash_3, List.forall_mem_cons.mpr ⟨s_X0_crash_4, List.forall_mem_cons.mpr ⟨s_X0_crash_7, List.forall_mem_cons.mpr ⟨s_X0_crash_8, List.forall_mem_cons.mpr ⟨s_X0_crash_9, List.forall_mem_cons.mpr ⟨s_X0_crash_12, List.forall_mem_cons.mpr ⟨s_X0_crash_13, List.forall_mem_cons.mpr ⟨s_X0_crash_14, List.forall_mem_cons.mpr ⟨s_X0_crash_15, List.forall_mem_cons.mpr ⟨s_X0_crash_16, (fun q hq => absurd hq List.not_mem_nil)⟩⟩⟩⟩⟩⟩⟩⟩⟩⟩⟩⟩⟩
theorem s_X0_append_0 : Snd PG.nam M7 0 (m_aload 4 2) := snd_aload dX0_append_0
theorem s_X0_append_2 : Snd PG.nam M7 2 (m_const (.int (nI 0)) 3) := snd_iconst dX0_append_2 (by decide)
theorem s_X0_append_3 : Snd PG.nam M7 3 (m_aload 0 4) := snd_aload_n dX0_append_3 rfl
theorem s_X0_append_4 : Snd PG.nam M7 4 (m_lload 1 5) := snd_lload_n dX0_append_4 rfl
theorem s_X0_append_5 : Snd PG.nam M7 5 (m_iload 3 6) := snd_iload_n dX0_append_5 rfl
theorem s_X0_append_6 : Snd PG.nam M7 6 (m_callX [(0, 31)] 2 9 [(24, 14), (25, 18)]) := snd_callX (nam := PG.nam) (List.forall_mem_cons.mpr ⟨dr_V (ym := PG.nam 31) dX0_append_6 (Or.inl w719) mi_31 rfl w721, (fun q hq => absurd hq List.not_mem_nil)⟩) (List.forall_mem_cons.mpr ⟨⟨_, rfl, ⟨⟨by decide, by decide⟩, by decide, _, w209, Or.inl ⟨w225, rfl⟩⟩⟩, (List.forall_mem_cons.mpr ⟨⟨_, rfl, ⟨⟨by decide, by decide⟩, by decide, _, w209, Or.inr ⟨nc_J14_J7, ⟨⟨by decide, by decide⟩, by decide, _, w210, Or.inl ⟨w601, rfl⟩⟩⟩⟩⟩, (fun q hq => absurd hq List.not_mem_nil)⟩)⟩)
theorem s_X0_append_9 : Snd PG.nam M7 9 (m_i2l 10) := snd_i2l dX0_append_9
theorem s_X0_append_10 : Snd PG.nam M7 10 (m_last 11) := snd_last dX0_append_10
theorem s_X0_append_11 : Snd PG.nam M7 11 (m_goto 22) := snd_goto dX0_append_11 (by decide)
theorem s_X0_append_14 : Snd PG.nam M7 14 (m_astore 5 16) := snd_astore dX0_append_14 (by decide)
theorem s_X0_append_16 : Snd PG.nam M7 16 (m_const (.int (nI 1)) 17) := snd_iconst dX0_append_16 (by decide)
theorem s_X0_append_17 : Snd PG.nam M7 17 (m_iret .int) := snd_iret dX0_append_17 rfl
theorem s_X0_append_18 : Snd PG.nam M7 18 (m_astore 5 20) := snd_astore dX0_append_18 (by decide)
theorem s_X0_append_20 : Snd PG.nam M7 20 (m_const (.int (nI 2)) 21) := snd_iconst dX0_append_20 (by decide)
theorem s_X0_append_21 : Snd PG.nam M7 21 (m_iret .int) := snd_iret dX0_append_21 rfl
theorem s_X0_append_22 : Snd PG.nam M7 22 (m_const (.int (nI 0)) 23) := snd_iconst dX0_append_22 (by decide)
theorem s_X0_append_23 : Snd PG.nam M7 23 (m_iret .int) := snd_iret dX0_append_23 rfl
theorem T7 : ∀ q ∈ S7, Snd PG.nam M7 q.1 q.2 := List.forall_mem_cons.mpr ⟨s_X0_append_0, List.forall_mem_cons.mpr ⟨s_X0_append_2, List.forall_mem_cons.mpr ⟨s_X0_append_3, List.forall_mem_cons.mpr ⟨s_X0_append_4, List.forall_mem_cons.mpr ⟨s_X0_append_5, List.forall_mem_cons.mpr ⟨s_X0_append_6, List.forall_mem_cons.mpr ⟨s_X0_append_9, List.forall_mem_cons.mpr ⟨s_X0_append_10, List.forall_mem_cons.mpr ⟨s_X0_append_11, List.forall_mem_cons.mpr ⟨s_X0_append_14, List.forall_mem_cons.mpr ⟨s_X0_append_16, List.forall_mem_cons.mpr ⟨s_X0_append_17, List.forall_mem_cons.mpr ⟨s_X0_append_18, List.forall_mem_cons.mpr ⟨s_X0_append_20, List.forall_mem_cons.mpr ⟨s_X0_append_21, List.forall_mem_cons.mpr ⟨s_X0_append_22, List.forall_mem_cons.mpr ⟨s_X0_append_23, (fun q hq => absurd hq List.not_mem_nil)⟩⟩⟩⟩⟩⟩⟩⟩⟩⟩⟩⟩⟩⟩⟩⟩⟩
theorem s_X0_ask_0 : Snd PG.nam M8 0 (m_aload 1 1) := snd_aload_n dX0_ask_0 rfl
theorem s_X0_ask_1 : Snd PG.nam M8 1 (m_const (.int (nI 0)) 2) := snd_iconst dX0_ask_1 (by decide)
theorem s_X0_ask_2 : Snd PG.nam M8 2 (m_aload 0 3) := snd_aload_n dX0_ask_2 rfl
theorem s_X0_ask_3 : Snd PG.nam M8 3 (m_callX [(0, 32)] 0 6 [(24, 11), (25, 14)]) := snd_callX (nam := PG.nam) (List.forall_mem_cons.mpr ⟨dr_V (ym := PG.nam 32) dX0_ask_3 (Or.inl w726) mi_32 rfl w728, (fun q hq => absurd hq List.not_mem_nil)⟩) (List.forall_mem_cons.mpr ⟨⟨_, rfl, ⟨⟨by decide, by decide⟩, by decide, _, w209, Or.inl ⟨w225, rfl⟩⟩⟩, (List.forall_mem_cons.mpr ⟨⟨_, rfl, ⟨⟨by decide, by decide⟩, by decide, _, w209, Or.inr ⟨nc_J14_J7, ⟨⟨by decide, by decide⟩, by decide, _, w210, Or.inl ⟨w601, rfl⟩⟩⟩⟩⟩, (fun q hq => absurd hq List.not_mem_nil)⟩)⟩)
theorem s_X0_ask_6 : Snd PG.nam M8 6 (m_i2l 7) := snd_i2l dX0_ask_6
theorem s_X0_ask_7 : Snd PG.nam M8 7 (m_last 8) := snd_last dX0_ask_7
theorem s_X0_ask_8 : Snd PG.nam M8 8 (m_goto 17) := snd_goto dX0_ask_8 (by decide)
theorem s_X0_ask_11 : Snd PG.nam M8 11 (m_astore 2 12) := snd_astore_n dX0_ask_11 rfl (by decide)
theorem s_X0_ask_12 : Snd PG.nam M8 12 (m_const (.int (nI 1)) 13) := snd_iconst dX0_ask_12 (by decide)
theorem s_X0_ask_13 : Snd PG.nam M8 13 (m_iret .int) := snd_iret dX0_ask_13 rfl
theorem s_X0_ask_14 : Snd PG.nam M8 14 (m_astore 2 15) := snd_astore_n dX0_ask_14 rfl (by decide)
theorem s_X0_ask_15 : Snd PG.nam M8 15 (m_const (.int (nI 2)) 16) := snd_iconst dX0_ask_15 (by decide)
theorem s_X0_ask_16 : Snd PG.nam M8 16 (m_iret .int) := snd_iret dX0_ask_16 rfl
theorem s_X0_ask_17 : Snd PG.nam M8 17 (m_const (.int (nI 0)) 18) := snd_iconst dX0_ask_17 (by decide)
theorem s_X0_ask_18 : Snd PG.nam M8 18 (m_iret .int) := snd_iret dX0_ask_18 rfl
theorem T8 : ∀ q ∈ S8, Snd PG.nam M8 q.1 q.2 := List.forall_mem_cons.mpr ⟨s_X0_ask_0, List.forall_mem_cons.mpr ⟨s_X0_ask_1, List.forall_mem_cons.mpr ⟨s_X0_ask_2, List.forall_mem_cons.mpr ⟨s_X0_ask_3, List.forall_mem_cons.mpr ⟨s_X0_ask_6, List.forall_mem_cons.mpr ⟨s_X0_ask_7, List.forall_mem_cons.mpr ⟨s_X0_ask_8, List.forall_mem_cons.mpr ⟨s_X0_ask_11, List.forall_mem_cons.mpr ⟨s_X0_ask_12, List.forall_mem_cons.mpr ⟨s_X0_ask_13, List.forall_mem_cons.mpr ⟨s_X0_ask_14, List.forall_mem_cons.mpr ⟨s_X0_ask_15, List.forall_mem_cons.mpr ⟨s_X0_ask_16, List.forall_mem_cons.mpr ⟨s_X0_ask_17, List.forall_mem_cons.mpr ⟨s_X0_ask_18, (fun q hq => absurd hq List.not_mem_nil)⟩⟩⟩⟩⟩⟩⟩⟩⟩⟩⟩⟩⟩⟩⟩
theorem s_X0_cell_0 : Snd PG.nam M9 0 (m_aload 3 1) := snd_aload_n dX0_cell_0 rfl
theorem s_X0_cell_1 : Snd PG.nam M9 1 (m_const (.int (nI 0)) 2) := snd_iconst dX0_cell_1 (by decide)
theorem s_X0_cell_2 : Snd PG.nam M9 2 (m_aload 0 3) := snd_aload_n dX0_cell_2 rfl
theorem s_X0_cell_3 : Snd PG.nam M9 3 (m_iload 1 4) := snd_iload_n dX0_cell_3 rfl
theorem s_X0_cell_4 : Snd PG.nam M9 4 (m_iload 2 5) := snd_iload_n dX0_cell_4 rfl
theorem s_X0_cell_5 : Snd PG.nam M9 5 (m_callX [(0, 34)] 2 8 [(26, 12), (27, 16)]) := snd_callX (nam := PG.nam) (List.forall_mem_cons.mpr ⟨dr_V (ym := PG.nam 34) dX0_cell_5 (Or.inl w1352) mi_34 rfl w1354, (fun q hq => absurd hq List.not_mem_nil)⟩) (List.forall_mem_cons.mpr ⟨⟨_, rfl, ⟨⟨by decide, by decide⟩, by decide, _, w1350, Or.inl ⟨w1358, rfl⟩⟩⟩, (List.forall_mem_cons.mpr ⟨⟨_, rfl, ⟨⟨by decide, by decide⟩, by decide, _, w1350, Or.inr ⟨nc_J16_J15, ⟨⟨by decide, by decide⟩, by decide, _, w1351, Or.inl ⟨w1373, rfl⟩⟩⟩⟩⟩, (fun q hq => absurd hq List.not_mem_nil)⟩)⟩)
theorem s_X0_cell_8 : Snd PG.nam M9 8 (m_last 9) := snd_last dX0_cell_8
theorem s_X0_cell_9 : Snd PG.nam M9 9 (m_goto 20) := snd_goto dX0_cell_9 (by decide)
theorem s_X0_cell_12 : Snd PG.nam M9 12 (m_astore 4 14) := snd_astore dX0_cell_12 (by decide)
theorem s_X0_cell_14 : Snd PG.nam M9 14 (m_const (.int (nI 1)) 15) := snd_iconst dX0_cell_14 (by decide)
theorem s_X0_cell_15 : Snd PG.nam M9 15 (m_iret .int) := snd_iret dX0_cell_15 rfl
theorem s_X0_cell_16 : Snd PG.nam M9 16 (m_astore 4 18) := snd_astore dX0_cell_16 (by decide)
theorem s_X0_cell_18 : Snd PG.nam M9 18 (m_const (.int (nI 2)) 19) := snd_iconst dX0_cell_18 (by decide)
theorem s_X0_cell_19 : Snd PG.nam M9 19 (m_iret .int) := snd_iret dX0_cell_19 rfl
theorem s_X0_cell_20 : Snd PG.nam M9 20 (m_const (.int (nI 0)) 21) := snd_iconst dX0_cell_20 (by decide)
theorem s_X0_cell_21 : Snd PG.nam M9 21 (m_iret .int) := snd_iret dX0_cell_21 rfl
theorem T9 : ∀ q ∈ S9, Snd PG.nam M9 q.1 q.2 := List.forall_mem_cons.mpr ⟨s_X0_cell_0, List.forall_mem_cons.mpr ⟨s_X0_cell_1, List.forall_mem_cons.mpr ⟨s_X0_cell_2, List.forall_mem_cons.mpr ⟨s_X0_cell_3, List.forall_mem_cons.mpr ⟨s_X0_cell_4, List.forall_mem_cons.mpr ⟨s_X0_cell_5, List.forall_mem_cons.mpr ⟨s_X0_cell_8, List.forall_mem_cons.mpr ⟨s_X0_cell_9, List.forall_mem_cons.mpr ⟨s_X0_cell_12, List.forall_mem_cons.mpr ⟨s_X0_cell_14, List.forall_mem_cons.mpr ⟨s_X0_cell_15, List.forall_mem_cons.mpr ⟨s_X0_cell_16, List.forall_mem_cons.mpr ⟨s_X0_cell_18, List.forall_mem_cons.mpr ⟨s_X0_cell_19, List.forall_mem_cons.mpr ⟨s_X0_cell_20, List.forall_mem_cons.mpr ⟨s_X0_cell_21, (fun q hq => absurd hq List.not_mem_nil)⟩⟩⟩⟩⟩⟩⟩⟩⟩⟩⟩⟩⟩⟩⟩⟩
theorem s_X0_count_0 : Snd PG.nam M10 0 (m_aload 2 1) := snd_aload_n dX0_count_0 rfl
theorem s_X0_count_1 : Snd PG.nam M10 1 (m_const (.int (nI 0)) 2) := snd_iconst dX0_count_1 (by decide)
theorem s_X0_count_2 : Snd PG.nam M10 2 (m_aload 0 3) := snd_aload_n dX0_count_2 rfl
theorem s_X0_count_3 : Snd PG.nam M10 3 (m_iload 1 4) := snd_iload_n dX0_count_3 rfl
theorem s_X0_count_4 : Snd PG.nam M10 4 (m_callX [(0, 35)] 1 7 [(24, 12)]) := snd_callX (nam := PG.nam) (List.forall_mem_cons.mpr ⟨dr_V (ym := PG.nam 35) dX0_count_4 (Or.inl w1399) mi_35 rfl w1401, (fun q hq => absurd hq List.not_mem_nil)⟩) (List.forall_mem_cons.mpr ⟨⟨_, rfl, ⟨⟨by decide, by decide⟩, by decide, _, w209, Or.inl ⟨w225, rfl⟩⟩⟩, (fun q hq => absurd hq List.not_mem_nil)⟩)
theorem s_X0_count_7 : Snd PG.nam M10 7 (m_i2l 8) := snd_i2l dX0_count_7
theorem s_X0_count_8 : Snd PG.nam M10 8 (m_last 9) := snd_last dX0_count_8
theorem s_X0_count_9 : Snd PG.nam M10 9 (m_goto 15) := snd_goto dX0_count_9 (by decide)
theorem s_X0_count_12 : Snd PG.nam M10 12 (m_astore 3 13) := snd_astore_n dX0_count_12 rfl (by decide)
theorem s_X0_count_13 : Snd PG.nam M10 13 (m_const (.int (nI 1)) 14) := snd_iconst dX0_count_13 (by decide)
theorem s_X0_count_14 : Snd PG.nam M10 14 (m_iret .int) := snd_iret dX0_count_14 rfl
theorem s_X0_count_15 : Snd PG.nam M10 15 (m_const (.int (nI 0)) 16) := snd_iconst dX0_count_15 (by decide)
theorem s_X0_count_16 : Snd PG.nam M10 16 (m_iret .int) := snd_iret dX0_count_16 rfl
theorem T10 : ∀ q ∈ S10, Snd PG.nam M10 q.1 q.2 := List.forall_mem_cons.mpr ⟨s_X0_count_0, List.forall_mem_cons.mpr ⟨s_X0_count_1, List.forall_mem_cons.mpr ⟨s_X0_count_2, List.forall_mem_cons.mpr ⟨s_X0_count_3, List.forall_mem_cons.mpr ⟨s_X0_count_4, List.forall_mem_cons.mpr ⟨s_X0_count_7, List.forall_mem_cons.mpr ⟨s_X0_count_8, List.forall_mem_cons.mpr ⟨s_X0_count_9, List.forall_mem_cons.mpr ⟨s_X0_count_12, List.forall_mem_cons.mpr ⟨s_X0_count_13, List.forall_mem_cons.mpr ⟨s_X0_count_14, List.forall_mem_cons.mpr ⟨s_X0_count_15, List.forall_mem_cons.mpr ⟨s_X0_count_16, (fun q hq => absurd hq List.not_mem_nil)⟩⟩⟩⟩⟩⟩⟩⟩⟩⟩⟩⟩⟩
theorem s_X1_init_0 : Snd PG.nam M11 0 (m_aload 0 1) := snd_aload_n dX1_init_0 rfl
theorem s_X1_init_1 : Snd PG.nam M11 1 (m_oi 4) := snd_oi dX1_init_1 w112 w113 w114
theorem s_X1_init_4 : Snd PG.nam M11 4 (m_aload 0 5) := snd_aload_n dX1_init_4 rfl
theorem s_X1_init_5 : Snd PG.nam M11 5 (m_const (.int (nI 48)) 7) := snd_bipush dX1_init_5 (by decide)
theorem s_X1_init_7 : Snd PG.nam M11 7 (m_anew "TripleStore$Triple" 10) := snd_anew dX1_init_7 w115 w116
theorem s_X1_init_10 : Snd PG.nam M11 10 (m_putf [(0, 0)] (.array (.object "TripleStore$Triple")) 13) := snd_putF dX1_init_10 fd_X1_11 rfl
theorem s_X1_init_13 : Snd PG.nam M11 13 (m_aload 0 14) := snd_aload_n dX1_init_13 rfl
theorem s_X1_init_14 : Snd PG.nam M11 14 (m_new 22 [.null, .int 0, .int 0, .int 0] 17) := snd_new dX1_init_14 rfl w117 w118 w65 rfl (by decide +kernel)
theorem s_X1_init_17 : Snd PG.nam M11 17 (m_dup 18) := snd_dup dX1_init_17
theorem s_X1_init_18 : Snd PG.nam M11 18 (m_const (.int (nI 160)) 21) := snd_sipush dX1_init_18 (by decide)
theorem s_X1_init_21 : Snd PG.nam M11 21 (m_callI 171 1 24) := snd_callI (nam := PG.nam) (yy := 171) dX1_init_21 (Or.inl w119) mi_171 rfl w121 (by decide)
theorem s_X1_init_24 : Snd PG.nam M11 24 (m_putf [(0, 9)] (.object "java/lang/StringBuilder") 27) := snd_putF dX1_init_24 fd_X1_20 rfl
theorem s_X1_init_27 : Snd PG.nam M11 27 (m_aload 0 28) := snd_aload_n dX1_init_27 rfl
theorem s_X1_init_28 : Snd PG.nam M11 28 (m_const (.int (-1)) 29) := snd_iconst dX1_init_28 (by decide)
theorem s_X1_init_29 : Snd PG.nam M11 29 (m_putf [(0, 10)] .int 32) := snd_putf dX1_init_29 fd_X1_24
theorem s_X1_init_32 : Snd PG.nam M11 32 (m_aload 0 33) := snd_aload_n dX1_init_32 rfl
theorem s_X1_init_33 : Snd PG.nam M11 33 (m_const (.int (nI 0)) 34) := snd_iconst dX1_init_33 (by decide)
theorem s_X1_init_34 : Snd PG.nam M11 34 (m_anew "TripleStore$Row" 37) := snd_anew dX1_init_34 w150 w151
theorem s_X1_init_37 : Snd PG.nam M11 37 (m_putf [(0, 11)] (.array (.object "TripleStore$Row")) 40) := snd_putf dX1_init_37 fd_X1_30
theorem s_X1_init_40 : Snd PG.nam M11 40 (m_vret) := snd_vret dX1_init_40 rfl
theorem T11 : ∀ q ∈ S11, Snd PG.nam M11 q.1 q.2 := List.forall_mem_cons.mpr ⟨s_X1_init_0, List.forall_mem_cons.mpr ⟨s_X1_init_1, List.forall_mem_cons.mpr ⟨s_X1_init_4, List.forall_mem_cons.mpr ⟨s_X1_init_5, List.forall_mem_cons.mpr ⟨s_X1_init_7, List.forall_mem_cons.mpr ⟨s_X1_init_10, List.forall_mem_cons.mpr ⟨s_X1_init_13, List.forall_mem_cons.mpr ⟨s_X1_init_14, List.forall_mem_cons.mpr ⟨s_X1_init_17, List.forall_mem_cons.mpr ⟨s_X1_init_18, List.forall_mem_cons.mpr ⟨s_X1_init_21, List.forall_mem_cons.mpr ⟨s_X1_init_24, List.forall_mem_cons.mpr ⟨s_X1_init_27, List.forall_mem_cons.mpr ⟨s_X1_init_28, List.forall_mem_cons.mpr ⟨s_X1_init_29, List.forall_mem_cons.mpr ⟨s_X1_init_32, List.forall_mem_cons.mpr ⟨s_X1_init_33, List.forall_mem_cons.mpr ⟨s_X1_init_34, List.forall_mem_cons.mpr ⟨s_X1_init_37, List.forall_mem_cons.mpr ⟨s_X1_init_40, (fun q hq => absurd hq List.not_mem_nil)⟩⟩⟩⟩⟩⟩⟩⟩⟩⟩⟩⟩⟩⟩⟩⟩⟩⟩⟩⟩
theorem s_X1_sync_0 : Snd PG.nam M12 0 (m_aload 0 1) := snd_aload_n dX1_sync_0 rfl
theorem s_X1_sync_1 : Snd PG.nam M12 1 (m_getf [(0, 8)] 4) := snd_getf dX1_sync_1 fd_X1_116
theorem s_X1_sync_4 : Snd PG.nam M12 4 (m_istore 1 5) := snd_istore_n dX1_sync_4 rfl (by decide)
theorem s_X1_sync_5 : Snd PG.nam M12 5 (m_aload 0 6) := snd_aload_n dX1_sync_5 rfl
theorem s_X1_sync_6 : Snd PG.nam M12 6 (m_const (.int (nI 0)) 7) := snd_iconst dX1_sync_6 (by decide)
theorem s_X1_sync_7 : Snd PG.nam M12 7 (m_putf [(0, 8)] .int 10) := snd_putf dX1_sync_7 fd_X1_116
theorem s_X1_sync_10 : Snd PG.nam M12 10 (m_aload 0 11) := snd_aload_n dX1_sync_10 rfl
theorem s_X1_sync_11 : Snd PG.nam M12 11 (m_const .null 12) := snd_null dX1_sync_11
theorem s_X1_sync_12 : Snd PG.nam M12 12 (m_putf [(0, 5)] (.object "TripleStore$Commit") 15) := snd_putf dX1_sync_12 fd_X1_103
theorem s_X1_sync_15 : Snd PG.nam M12 15 (m_aload 0 16) := snd_aload_n dX1_sync_15 rfl
theorem s_X1_sync_16 : Snd PG.nam M12 16 (m_const .null 17) := snd_null dX1_sync_16
theorem s_X1_sync_17 : Snd PG.nam M12 17 (m_putf [(0, 6)] (.object "TripleStore$Commit") 20) := snd_putf dX1_sync_17 fd_X1_107
theorem s_X1_sync_20 : Snd PG.nam M12 20 (m_iload 1 21) := snd_iload_n dX1_sync_20 rfl
theorem s_X1_sync_21 : Snd PG.nam M12 21 (m_iret .int) := snd_iret dX1_sync_21 rfl
theorem T12 : ∀ q ∈ S12, Snd PG.nam M12 q.1 q.2 := List.forall_mem_cons.mpr ⟨s_X1_sync_0, List.forall_mem_cons.mpr ⟨s_X1_sync_1, List.forall_mem_cons.mpr ⟨s_X1_sync_4, List.forall_mem_cons.mpr ⟨s_X1_sync_5, List.forall_mem_cons.mpr ⟨s_X1_sync_6, List.forall_mem_cons.mpr ⟨s_X1_sync_7, List.forall_mem_cons.mpr ⟨s_X1_sync_10, List.forall_mem_cons.mpr ⟨s_X1_sync_11, List.forall_mem_cons.mpr ⟨s_X1_sync_12, List.forall_mem_cons.mpr ⟨s_X1_sync_15, List.forall_mem_cons.mpr ⟨s_X1_sync_16, List.forall_mem_cons.mpr ⟨s_X1_sync_17, List.forall_mem_cons.mpr ⟨s_X1_sync_20, List.forall_mem_cons.mpr ⟨s_X1_sync_21, (fun q hq => absurd hq List.not_mem_nil)⟩⟩⟩⟩⟩⟩⟩⟩⟩⟩⟩⟩⟩⟩
theorem s_X1_fault_0 : Snd PG.nam M13 0 (m_aload 0 1) := snd_aload_n dX1_fault_0 rfl
theorem s_X1_fault_1 : Snd PG.nam M13 1 (m_getf [(0, 10)] 4) := snd_getf dX1_fault_1 fd_X1_24
theorem s_X1_fault_4 : Snd PG.nam M13 4 (m_iret .int) := snd_iret dX1_fault_4 rfl
theorem T13 : ∀ q ∈ S13, Snd PG.nam M13 q.1 q.2 := List.forall_mem_cons.mpr ⟨s_X1_fault_0, List.forall_mem_cons.mpr ⟨s_X1_fault_1, List.forall_mem_cons.mpr ⟨s_X1_fault_4, (fun q hq => absurd hq List.not_mem_nil)⟩⟩⟩
theorem s_X1_add_0 : Snd PG.nam M14 0 (m_lload 1 1) := snd_lload_n dX1_add_0 rfl
theorem s_X1_add_1 : Snd PG.nam M14 1 (m_lload 3 2) := snd_lload_n dX1_add_1 rfl
theorem s_X1_add_2 : Snd PG.nam M14 2 (m_lload 5 4) := snd_lload dX1_add_2
theorem s_X1_add_4 : Snd PG.nam M14 4 (m_callS false 15 3 7) := snd_callS (nam := PG.nam) (yy := 15) dX1_add_4 (Or.inl w215) w216 ⟨by decide, by decide +kernel⟩ (by decide)
theorem s_X1_add_7 : Snd PG.nam M14 7 (m_astore 7 9) := snd_astore dX1_add_7 (by decide)
theorem s_X1_add_9 : Snd PG.nam M14 9 (m_aload 0 10) := snd_aload_n dX1_add_9 rfl
theorem s_X1_add_10 : Snd PG.nam M14 10 (m_aload 7 12) := snd_aload dX1_add_10
theorem s_X1_add_12 : Snd PG.nam M14 12 (m_callV false [(0, 17)] 1 15) := snd_callV (nam := PG.nam) (List.forall_mem_cons.mpr ⟨dr_V (ym := PG.nam 17) dX1_add_12 (Or.inl w572) mi_17 rfl (lw_all_tbl qs1), (fun q hq => absurd hq List.not_mem_nil)⟩) (by decide)
theorem s_X1_add_15 : Snd PG.nam M14 15 (m_ifz (fun x => if x < 0 then 20 else 18)) := snd_if_lt dX1_add_15 (by decide)
theorem s_X1_add_18 : Snd PG.nam M14 18 (m_const (.int (nI 0)) 19) := snd_iconst dX1_add_18 (by decide)
theorem s_X1_add_19 : Snd PG.nam M14 19 (m_iret .int) := snd_iret dX1_add_19 rfl
theorem s_X1_add_20 : Snd PG.nam M14 20 (m_aload 0 21) := snd_aload_n dX1_add_20 rfl
theorem s_X1_add_21 : Snd PG.nam M14 21 (m_getf [(0, 1)] 24) := snd_getf dX1_add_21 fd_X1_72
theorem s_X1_add_24 : Snd PG.nam M14 24 (m_const (.int (nI 48)) 26) := snd_bipush dX1_add_24 (by decide)
theorem s_X1_add_26 : Snd PG.nam M14 26 (m_icmp (fun x z => if x = z then 29 else 37)) := snd_icmp_ne dX1_add_26 (by decide)
theorem s_X1_add_29 : Snd PG.nam M14 29 (m_thr 25) := snd_thr exc_J14 rfl dX1_add_29 dX1_add_32 dX1_add_33 dX1_add_36 w599 w608 w85 (by decide)
theorem s_X1_add_37 : Snd PG.nam M14 37 (m_aload 0 38) := snd_aload_n dX1_add_37 rfl
theorem s_X1_add_38 : Snd PG.nam M14 38 (m_aload 7 40) := snd_aload dX1_add_38
theorem s_X1_add_40 : Snd PG.nam M14 40 (m_callV true [(0, 18)] 1 43) := snd_callV (nam := PG.nam) (List.forall_mem_cons.mpr ⟨dr_V (ym := PG.nam 18) dX1_add_40 (Or.inl w614) mi_18 rfl (lw_all_tbl qs2), (fun q hq => absurd hq List.not_mem_nil)⟩) (by decide)
theorem s_X1_add_43 : Snd PG.nam M14 43 (m_aload 0 44) := snd_aload_n dX1_add_43 rfl
theorem s_X1_add_44 : Snd PG.nam M14 44 (m_const (.int (nI 1)) 45) := snd_iconst dX1_add_44 (by decide)
theorem s_X1_add_45 : Snd PG.nam M14 45 (m_aload 7 47) := snd_aload dX1_add_45
theorem s_X1_add_47 : Snd PG.nam M14 47 (m_callV true [(0, 19)] 2 50) := snd_callV (nam := PG.nam) (List.forall_mem_cons.mpr ⟨dr_V (ym := PG.nam 19) dX1_add_47 (Or.inl w618) mi_19 rfl (lw_all_tbl qs3), (fun q hq => absurd hq List.not_mem_nil)⟩) (by decide)
theorem s_X1_add_50 : Snd PG.nam M14 50 (m_const (.int (nI 1)) 51) := snd_iconst dX1_add_50 (by decide)
theorem s_X1_add_51 : Snd PG.nam M14 51 (m_iret .int) := snd_iret dX1_add_51 rfl
theorem T14 : ∀ q ∈ S14, Snd PG.nam M14 q.1 q.2 := List.forall_mem_cons.mpr ⟨s_X1_add_0, List.forall_mem_cons.mpr ⟨s_X1_add_1, List.forall_mem_cons.mpr ⟨s_X1_add_2, List.forall_mem_cons.mpr ⟨s_X1_add_4, List.forall_mem_cons.mpr ⟨s_X1_add_7, List.forall_mem_cons.mpr ⟨s_X1_add_9, List.forall_mem_cons.mpr ⟨s_X1_add_10, List.forall_mem_cons.mpr ⟨s_X1_add_12, List.forall_mem_cons.mpr ⟨s_X1_add_15, List.forall_mem_cons.mpr ⟨s_X1_add_18, List.forall_mem_cons.mpr ⟨s_X1_add_19, List.forall_mem_cons.mpr ⟨s_X1_add_20, List.forall_mem_cons.mpr ⟨s_X1_add_21, List.forall_mem_cons.mpr ⟨s_X1_add_24, List.forall_mem_cons.mpr ⟨s_X1_add_26, List.forall_mem_cons.mpr ⟨s_X1_add_29, List.forall_mem_cons.mpr ⟨s_X1_add_37, List.forall_mem_cons.mpr ⟨s_X1_add_38, List.forall_mem_cons.mpr ⟨s_X1_add_40, List.forall_mem_cons.mpr ⟨s_X1_add_43, List.forall_mem_cons.mpr ⟨s_X1_add_44, List.forall_mem_cons.mpr ⟨s_X1_add_45, List.forall_mem_cons.mpr ⟨s_X1_add_47, List.forall_mem_cons.mpr ⟨s_X1_add_50, List.forall_mem_cons.mpr ⟨s_X1_add_51, (fun q hq => absurd hq List.not_mem_nil)⟩⟩⟩⟩⟩⟩⟩⟩⟩⟩⟩⟩⟩⟩⟩⟩⟩⟩⟩⟩⟩⟩⟩⟩⟩
theorem s_X1_tripleOf_0 : Snd PG.nam M15 0 (m_new 2 [.null] 3) := snd_new dX1_tripleOf_0 rfl w115 w218 w69 rfl (by decide +kernel)
theorem s_X1_tripleOf_3 : Snd PG.nam M15 3 (m_dup 4) := snd_dup dX1_tripleOf_3
theorem s_X1_tripleOf_4 : Snd PG.nam M15 4 (m_lload 0 5) := snd_lload_n dX1_tripleOf_4 rfl
theorem s_X1_tripleOf_5 : Snd PG.nam M15 5 (m_callS false 16 1 8) := snd_callS (nam := PG.nam) (yy := 16) dX1_tripleOf_5 (Or.inl w219) w220 ⟨by decide, by decide +kernel⟩ (by decide)
theorem s_X1_tripleOf_8 : Snd PG.nam M15 8 (m_lload 2 9) := snd_lload_n dX1_tripleOf_8 rfl
theorem s_X1_tripleOf_9 : Snd PG.nam M15 9 (m_callS false 16 1 12) := snd_callS (nam := PG.nam) (yy := 16) dX1_tripleOf_9 (Or.inl w219) w220 ⟨by decide, by decide +kernel⟩ (by decide)
theorem s_X1_tripleOf_12 : Snd PG.nam M15 12 (m_lload 4 14) := snd_lload dX1_tripleOf_12
theorem s_X1_tripleOf_14 : Snd PG.nam M15 14 (m_callS false 16 1 17) := snd_callS (nam := PG.nam) (yy := 16) dX1_tripleOf_14 (Or.inl w219) w220 ⟨by decide, by decide +kernel⟩ (by decide)
theorem s_X1_tripleOf_17 : Snd PG.nam M15 17 (m_callI 94 3 20) := snd_callI (nam := PG.nam) (yy := 94) dX1_tripleOf_17 (Or.inl w560) mi_94 rfl w562 (by decide)
theorem s_X1_tripleOf_20 : Snd PG.nam M15 20 (m_astore 6 22) := snd_astore dX1_tripleOf_20 (by decide)
theorem s_X1_tripleOf_22 : Snd PG.nam M15 22 (m_aload 6 24) := snd_aload dX1_tripleOf_22
theorem s_X1_tripleOf_24 : Snd PG.nam M15 24 (m_getf [(2, 0)] 27) := snd_getf dX1_tripleOf_24 fd_X1_68
theorem s_X1_tripleOf_27 : Snd PG.nam M15 27 (m_const (.int (nI 0)) 28) := snd_iconst dX1_tripleOf_27 (by decide)
theorem s_X1_tripleOf_28 : Snd PG.nam M15 28 (m_aald 29) := snd_aald dX1_tripleOf_28
theorem s_X1_tripleOf_29 : Snd PG.nam M15 29 (m_inst [3] [4] 32) := snd_inst dX1_tripleOf_29 w288 (List.forall_mem_cons.mpr ⟨⟨_, rfl, Or.inr rfl⟩, (fun ci hci => absurd hci List.not_mem_nil)⟩) (List.forall_mem_cons.mpr ⟨⟨_, rfl, nc_X6_X5⟩, (fun ci hci => absurd hci List.not_mem_nil)⟩)
theorem s_X1_tripleOf_32 : Snd PG.nam M15 32 (m_ifz (fun x => if x = 0 then 35 else 48)) := snd_if_ne dX1_tripleOf_32 (by decide)
theorem s_X1_tripleOf_35 : Snd PG.nam M15 35 (m_aload 6 37) := snd_aload dX1_tripleOf_35
theorem s_X1_tripleOf_37 : Snd PG.nam M15 37 (m_getf [(2, 0)] 40) := snd_getf dX1_tripleOf_37 fd_X1_68
theorem s_X1_tripleOf_40 : Snd PG.nam M15 40 (m_const (.int (nI 1)) 41) := snd_iconst dX1_tripleOf_40 (by decide)
theorem s_X1_tripleOf_41 : Snd PG.nam M15 41 (m_aald 42) := snd_aald dX1_tripleOf_41
theorem s_X1_tripleOf_42 : Snd PG.nam M15 42 (m_inst [3] [4] 45) := snd_inst dX1_tripleOf_42 w288 (List.forall_mem_cons.mpr ⟨⟨_, rfl, Or.inr rfl⟩, (fun ci hci => absurd hci List.not_mem_nil)⟩) (List.forall_mem_cons.mpr ⟨⟨_, rfl, nc_X6_X5⟩, (fun ci hci => absurd hci List.not_mem_nil)⟩)
theorem s_X1_tripleOf_45 : Snd PG.nam M15 45 (m_ifz (fun x => if x = 0 then 56 else 48)) := snd_if_eq dX1_tripleOf_45 (by decide)
theorem s_X1_tripleOf_48 : Snd PG.nam M15 48 (m_thr 24) := snd_thr exc_J7 rfl dX1_tripleOf_48 dX1_tripleOf_51 dX1_tripleOf_52 dX1_tripleOf_55 w223 w265 w73 (by decide)
theorem s_X1_tripleOf_56 : Snd PG.nam M15 56 (m_aload 6 58) := snd_aload dX1_tripleOf_56
theorem s_X1_tripleOf_58 : Snd PG.nam M15 58 (m_aret) := snd_aret dX1_tripleOf_58 rfl (Or.inl ⟨_, rfl⟩)
theorem T15 : ∀ q ∈ S15, Snd PG.nam M15 q.1 q.2 := List.forall_mem_cons.mpr ⟨s_X1_tripleOf_0, List.forall_mem_cons.mpr ⟨s_X1_tripleOf_3, List.forall_mem_cons.mpr ⟨s_X1_tripleOf_4, List.forall_mem_cons.mpr ⟨s_X1_tripleOf_5, List.forall_mem_cons.mpr ⟨s_X1_tripleOf_8, List.forall_mem_cons.mpr ⟨s_X1_tripleOf_9, List.forall_mem_cons.mpr ⟨s_X1_tripleOf_12, List.forall_mem_cons.mpr ⟨s_X1_tripleOf_14, List.forall_mem_cons.mpr ⟨s_X1_tripleOf_17, List.forall_mem_cons.mpr ⟨s_X1_tripleOf_20, List.forall_mem_cons.mpr ⟨s_X1_tripleOf_22, List.forall_mem_cons.mpr ⟨s_X1_tripleOf_24, List.forall_mem_cons.mpr ⟨s_X1_tripleOf_27, List.forall_mem_cons.mpr ⟨s_X1_tripleOf_28, List.forall_mem_cons.mpr ⟨s_X1_tripleOf_29, List.forall_mem_cons.mpr ⟨s_X1_tripleOf_32, List.forall_mem_cons.mpr ⟨s_X1_tripleOf_35, List.forall_mem_cons.mpr ⟨s_X1_tripleOf_37, List.forall_mem_cons.mpr ⟨s_X1_tripleOf_40, List.forall_mem_cons.mpr ⟨s_X1_tripleOf_41, List.forall_mem_cons.mpr ⟨s_X1_tripleOf_42, List.forall_mem_cons.mpr ⟨s_X1_tripleOf_45, List.forall_mem_cons.mpr ⟨s_X1_tripleOf_48, List.forall_mem_cons.mpr ⟨s_X1_tripleOf_56, List.forall_mem_cons.mpr ⟨s_X1_tripleOf_58, (fun q hq => absurd hq List.not_mem_nil)⟩⟩⟩⟩⟩⟩⟩⟩⟩⟩⟩⟩⟩⟩⟩⟩⟩⟩⟩⟩⟩⟩⟩⟩⟩
theorem s_X1_termOf_0 : Snd PG.nam M16 0 (m_lload 0 1) := snd_lload_n dX1_termOf_0 rfl
theorem s_X1_termOf_1 : Snd PG.nam M16 1 (m_const (.long (0 : Int64)) 2) := snd_lconst dX1_termOf_1 (by decide)
theorem s_X1_termOf_2 : Snd PG.nam M16 2 (m_lcmp 3) := snd_lcmp dX1_termOf_2
theorem s_X1_termOf_3 : Snd PG.nam M16 3 (m_ifz (fun x => if x < 0 then 6 else 36)) := snd_if_ge dX1_termOf_3 (by decide)
theorem s_X1_termOf_6 : Snd PG.nam M16 6 (m_lload 0 7) := snd_lload_n dX1_termOf_6 rfl
theorem s_X1_termOf_7 : Snd PG.nam M16 7 (m_const (.long (-10000 : Int64)) 10) := snd_ldc2 dX1_termOf_7 w222
theorem s_X1_termOf_10 : Snd PG.nam M16 10 (m_lcmp 11) := snd_lcmp dX1_termOf_10
theorem s_X1_termOf_11 : Snd PG.nam M16 11 (m_ifz (fun x => if x < 0 then 14 else 22)) := snd_if_ge dX1_termOf_11 (by decide)
theorem s_X1_termOf_14 : Snd PG.nam M16 14 (m_thr 24) := snd_thr exc_J7 rfl dX1_termOf_14 dX1_termOf_17 dX1_termOf_18 dX1_termOf_21 w223 w265 w73 (by decide)
theorem s_X1_termOf_22 : Snd PG.nam M16 22 (m_new 3 [.int 0] 25) := snd_new dX1_termOf_22 rfl w288 w289 w75 rfl (by decide +kernel)
theorem s_X1_termOf_25 : Snd PG.nam M16 25 (m_dup 26) := snd_dup dX1_termOf_25
theorem s_X1_termOf_26 : Snd PG.nam M16 26 (m_const (.long (-1 : Int64)) 29) := snd_ldc2 dX1_termOf_26 w290
theorem s_X1_termOf_29 : Snd PG.nam M16 29 (m_lload 0 30) := snd_lload_n dX1_termOf_29 rfl
theorem s_X1_termOf_30 : Snd PG.nam M16 30 (m_lbin (fun a b => a - b) 31) := snd_lsub dX1_termOf_30
theorem s_X1_termOf_31 : Snd PG.nam M16 31 (m_l2i 32) := snd_l2i dX1_termOf_31
theorem s_X1_termOf_32 : Snd PG.nam M16 32 (m_callI 97 1 35) := snd_callI (nam := PG.nam) (yy := 97) dX1_termOf_32 (Or.inl w291) mi_97 rfl w293 (by decide)
theorem s_X1_termOf_35 : Snd PG.nam M16 35 (m_aret) := snd_aret dX1_termOf_35 rfl (Or.inl ⟨_, rfl⟩)
theorem s_X1_termOf_36 : Snd PG.nam M16 36 (m_new 22 [.null, .int 0, .int 0, .int 0] 39) := snd_new dX1_termOf_36 rfl w117 w118 w65 rfl (by decide +kernel)
theorem s_X1_termOf_39 : Snd PG.nam M16 39 (m_dup 40) := snd_dup dX1_termOf_39
theorem s_X1_termOf_40 : Snd PG.nam M16 40 (m_const (.int (nI 8)) 42) := snd_bipush dX1_termOf_40 (by decide)
theorem s_X1_termOf_42 : Snd PG.nam M16 42 (m_callI 171 1 45) := snd_callI (nam := PG.nam) (yy := 171) dX1_termOf_42 (Or.inl w119) mi_171 rfl w121 (by decide)
theorem s_X1_termOf_45 : Snd PG.nam M16 45 (m_astore 2 46) := snd_astore_n dX1_termOf_45 rfl (by decide)
theorem s_X1_termOf_46 : Snd PG.nam M16 46 (m_const (.int (nI 56)) 48) := snd_bipush dX1_termOf_46 (by decide)
theorem s_X1_termOf_48 : Snd PG.nam M16 48 (m_istore 3 49) := snd_istore_n dX1_termOf_48 rfl (by decide)
theorem s_X1_termOf_49 : Snd PG.nam M16 49 (m_iload 3 50) := snd_iload_n dX1_termOf_49 rfl
theorem s_X1_termOf_50 : Snd PG.nam M16 50 (m_ifz (fun x => if x < 0 then 114 else 53)) := snd_if_lt dX1_termOf_50 (by decide)
theorem s_X1_termOf_53 : Snd PG.nam M16 53 (m_lload 0 54) := snd_lload_n dX1_termOf_53 rfl
theorem s_X1_termOf_54 : Snd PG.nam M16 54 (m_iload 3 55) := snd_iload_n dX1_termOf_54 rfl
theorem s_X1_termOf_55 : Snd PG.nam M16 55 (m_lsh (fun a b => a >>> (b.toInt64 &&& 63)) 56) := snd_lshr dX1_termOf_55
theorem s_X1_termOf_56 : Snd PG.nam M16 56 (m_l2i 57) := snd_l2i dX1_termOf_56
theorem s_X1_termOf_57 : Snd PG.nam M16 57 (m_const (.int (nI 255)) 60) := snd_sipush dX1_termOf_57 (by decide)
theorem s_X1_termOf_60 : Snd PG.nam M16 60 (m_ibin (fun a b => a &&& b) 61) := snd_iand dX1_termOf_60
theorem s_X1_termOf_61 : Snd PG.nam M16 61 (m_istore 4 63) := snd_istore dX1_termOf_61 (by decide)
theorem s_X1_termOf_63 : Snd PG.nam M16 63 (m_iload 4 65) := snd_iload dX1_termOf_63
theorem s_X1_termOf_65 : Snd PG.nam M16 65 (m_ifz (fun x => if x = 0 then 68 else 78)) := snd_if_ne dX1_termOf_65 (by decide)
theorem s_X1_termOf_68 : Snd PG.nam M16 68 (m_aload 2 69) := snd_aload_n dX1_termOf_68 rfl
theorem s_X1_termOf_69 : Snd PG.nam M16 69 (m_callV false [(22, 172)] 0 72) := snd_callV (nam := PG.nam) (List.forall_mem_cons.mpr ⟨dr_V (ym := PG.nam 172) dX1_termOf_69 (Or.inl w302) mi_172 rfl w304, (fun q hq => absurd hq List.not_mem_nil)⟩) (by decide)
theorem s_X1_termOf_72 : Snd PG.nam M16 72 (m_ifz (fun x => if x = 0 then 75 else 78)) := snd_if_ne dX1_termOf_72 (by decide)
theorem s_X1_termOf_75 : Snd PG.nam M16 75 (m_goto 108) := snd_goto dX1_termOf_75 (by decide)
theorem s_X1_termOf_78 : Snd PG.nam M16 78 (m_iload 4 80) := snd_iload dX1_termOf_78
theorem s_X1_termOf_80 : Snd PG.nam M16 80 (m_const (.int (nI 97)) 82) := snd_bipush dX1_termOf_80 (by decide)
theorem s_X1_termOf_82 : Snd PG.nam M16 82 (m_icmp (fun x z => if x < z then 92 else 85)) := snd_icmp_lt dX1_termOf_82 (by decide)
theorem s_X1_termOf_85 : Snd PG.nam M16 85 (m_iload 4 87) := snd_iload dX1_termOf_85
theorem s_X1_termOf_87 : Snd PG.nam M16 87 (m_const (.int (nI 122)) 89) := snd_bipush dX1_termOf_87 (by decide)
theorem s_X1_termOf_89 : Snd PG.nam M16 89 (m_icmp (fun x z => if z < x then 92 else 100)) := snd_icmp_le dX1_termOf_89 (by decide)
theorem s_X1_termOf_92 : Snd PG.nam M16 92 (m_thr 24) := snd_thr exc_J7 rfl dX1_termOf_92 dX1_termOf_95 dX1_termOf_96 dX1_termOf_99 w223 w265 w73 (by decide)
theorem s_X1_termOf_100 : Snd PG.nam M16 100 (m_aload 2 101) := snd_aload_n dX1_termOf_100 rfl
theorem s_X1_termOf_101 : Snd PG.nam M16 101 (m_iload 4 103) := snd_iload dX1_termOf_101
theorem s_X1_termOf_103 : Snd PG.nam M16 103 (m_iun (fun a => (a.toUInt32 % 65536).toInt32) 104) := snd_i2c dX1_termOf_103
theorem s_X1_termOf_104 : Snd PG.nam M16 104 (m_callV false [(22, 173)] 1 107) := snd_callV (nam := PG.nam) (List.forall_mem_cons.mpr ⟨dr_V (ym := PG.nam 173) dX1_termOf_104 (Or.inl w309) mi_173 rfl w311, (fun q hq => absurd hq List.not_mem_nil)⟩) (by decide)
theorem s_X1_termOf_107 : Snd PG.nam M16 107 (m_pop 108) := snd_pop dX1_termOf_107
theorem s_X1_termOf_108 : Snd PG.nam M16 108 (m_iinc 3 (-8) 111) := snd_iinc dX1_termOf_108 (by decide) (by decide)
theorem s_X1_termOf_111 : Snd PG.nam M16 111 (m_goto 49) := snd_goto dX1_termOf_111 (by decide)
theorem s_X1_termOf_114 : Snd PG.nam M16 114 (m_aload 2 115) := snd_aload_n dX1_termOf_114 rfl
theorem s_X1_termOf_115 : Snd PG.nam M16 115 (m_callV false [(22, 172)] 0 118) := snd_callV (nam := PG.nam) (List.forall_mem_cons.mpr ⟨dr_V (ym := PG.nam 172) dX1_termOf_115 (Or.inl w302) mi_172 rfl w304, (fun q hq => absurd hq List.not_mem_nil)⟩) (by decide)
theorem s_X1_termOf_118 : Snd PG.nam M16 118 (m_ifz (fun x => if x = 0 then 121 else 129)) := snd_if_ne dX1_termOf_118 (by decide)
theorem s_X1_termOf_121 : Snd PG.nam M16 121 (m_thr 24) := snd_thr exc_J7 rfl dX1_termOf_121 dX1_termOf_124 dX1_termOf_125 dX1_termOf_128 w223 w265 w73 (by decide)
theorem s_X1_termOf_129 : Snd PG.nam M16 129 (m_new 4 [.null] 132) := snd_new dX1_termOf_129 rfl w404 w405 w82 rfl (by decide +kernel)
theorem s_X1_termOf_132 : Snd PG.nam M16 132 (m_dup 133) := snd_dup dX1_termOf_132
theorem s_X1_termOf_133 : Snd PG.nam M16 133 (m_aload 2 134) := snd_aload_n dX1_termOf_133 rfl
theorem s_X1_termOf_134 : Snd PG.nam M16 134 (m_callV false [(22, 174)] 0 137) := snd_callV (nam := PG.nam) (List.forall_mem_cons.mpr ⟨dr_V (ym := PG.nam 174) dX1_termOf_134 (Or.inl w406) mi_174 rfl w408, (fun q hq => absurd hq List.not_mem_nil)⟩) (by decide)
theorem s_X1_termOf_137 : Snd PG.nam M16 137 (m_callI 101 1 140) := snd_callI (nam := PG.nam) (yy := 101) dX1_termOf_137 (Or.inl w552) mi_101 rfl w554 (by decide)
theorem s_X1_termOf_140 : Snd PG.nam M16 140 (m_aret) := snd_aret dX1_termOf_140 rfl (Or.inl ⟨_, rfl⟩)
theorem T16 : ∀ q ∈ S16, Snd PG.nam M16 q.1 q.2 := List.forall_mem_cons.mpr ⟨s_X1_termOf_0, List.forall_mem_cons.mpr ⟨s_X1_termOf_1, List.forall_mem_cons.mpr ⟨s_X1_termOf_2, List.forall_mem_cons.mpr ⟨s_X1_termOf_3, List.forall_mem_cons.mpr ⟨s_X1_termOf_6, List.forall_mem_cons.mpr ⟨s_X1_termOf_7, List.forall_mem_cons.mpr ⟨s_X1_termOf_10, List.forall_mem_cons.mpr ⟨s_X1_termOf_11, List.forall_mem_cons.mpr ⟨s_X1_termOf_14, List.forall_mem_cons.mpr ⟨s_X1_termOf_22, List.forall_mem_cons.mpr ⟨s_X1_termOf_25, List.forall_mem_cons.mpr ⟨s_X1_termOf_26, List.forall_mem_cons.mpr ⟨s_X1_termOf_29, List.forall_mem_cons.mpr ⟨s_X1_termOf_30, List.forall_mem_cons.mpr ⟨s_X1_termOf_31, List.forall_mem_cons.mpr ⟨s_X1_termOf_32, List.forall_mem_cons.mpr ⟨s_X1_termOf_35, List.forall_mem_cons.mpr ⟨s_X1_termOf_36, List.forall_mem_cons.mpr ⟨s_X1_termOf_39, List.forall_mem_cons.mpr ⟨s_X1_termOf_40, List.forall_mem_cons.mpr ⟨s_X1_termOf_42, List.forall_mem_cons.mpr ⟨s_X1_termOf_45, List.forall_mem_cons.mpr ⟨s_X1_termOf_46, List.forall_mem_cons.mpr ⟨s_X1_termOf_48, List.forall_mem_cons.mpr ⟨s_X1_termOf_49, List.forall_mem_cons.mpr ⟨s_X1_termOf_50, List.forall_mem_cons.mpr ⟨s_X1_termOf_53, List.forall_mem_cons.mpr ⟨s_X1_termOf_54, List.forall_mem_cons.mpr ⟨s_X1_termOf_55, List.forall_mem_cons.mpr ⟨s_X1_termOf_56, List.forall_mem_cons.mpr ⟨s_X1_termOf_57, List.forall_mem_cons.mpr ⟨s_X1_termOf_60, List.forall_mem_cons.mpr ⟨s_X1_termOf_61, List.forall_mem_cons.mpr ⟨s_X1_termOf_63, List.forall_mem_cons.mpr ⟨s_X1_termOf_65, List.forall_mem_cons.mpr ⟨s_X1_termOf_68, List.forall_mem_cons.mpr ⟨s_X1_termOf_69, List.forall_mem_cons.mpr ⟨s_X1_termOf_72, List.forall_mem_cons.mpr ⟨s_X1_termOf_75, List.forall_mem_cons.mpr ⟨s_X1_termOf_78, List.forall_mem_cons.mpr ⟨s_X1_termOf_80, List.forall_mem_cons.mpr ⟨s_X1_termOf_82, List.forall_mem_cons.mpr ⟨s_X1_termOf_85, List.forall_mem_cons.mpr ⟨s_X1_termOf_87, List.forall_mem_cons.mpr ⟨s_X1_termOf_89, List.forall_mem_cons.mpr ⟨s_X1_termOf_92, List.forall_mem_cons.mpr ⟨s_X1_termOf_100, List.forall_mem_cons.mpr ⟨s_X1_termOf_101, List.forall_mem_cons.mpr ⟨s_X1_termOf_103, List.forall_mem_cons.mpr ⟨s_X1_termOf_104, List.forall_mem_cons.mpr ⟨s_X1_termOf_107, List.forall_mem_cons.mpr ⟨s_X1_termOf_108, List.forall_mem_cons.mpr ⟨s_X1_termOf_111, List.forall_mem_cons.mpr ⟨s_X1_termOf_114, List.forall_mem_cons.mpr ⟨s_X1_termOf_115, List.forall_mem_cons.mpr ⟨s_X1_termOf_118, List.forall_mem_cons.mpr ⟨s_X1_termOf_121, List.forall_mem_cons.mpr ⟨s_X1_termOf_129, List.forall_mem_cons.mpr ⟨s_X1_termOf_132, List.forall_mem_cons.mpr ⟨s_X1_termOf_133, List.forall_mem_cons.mpr ⟨s_X1_termOf_134, List.forall_mem_cons.mpr ⟨s_X1_termOf_137, List.forall_mem_cons.mpr ⟨s_X1_termOf_140, (fun q hq => absurd hq List.not_mem_nil)⟩⟩⟩⟩⟩⟩⟩⟩⟩⟩⟩⟩⟩⟩⟩⟩⟩⟩⟩⟩⟩⟩⟩⟩⟩⟩⟩⟩⟩⟩⟩⟩⟩⟩⟩⟩⟩⟩⟩⟩⟩⟩⟩⟩⟩⟩⟩⟩⟩⟩⟩⟩⟩⟩⟩⟩⟩⟩⟩⟩⟩⟩⟩
theorem s_X1_find_0 : Snd PG.nam M17 0 (m_const (.int (nI 0)) 1) := snd_iconst dX1_find_0 (by decide)
theorem s_X1_find_1 : Snd PG.nam M17 1 (m_istore 2 2) := snd_istore_n dX1_find_1 rfl (by decide)
theorem s_X1_find_2 : Snd PG.nam M17 2 (m_iload 2 3) := snd_iload_n dX1_find_2 rfl
theorem s_X1_find_3 : Snd PG.nam M17 3 (m_aload 0 4) := snd_aload_n dX1_find_3 rfl
theorem s_X1_find_4 : Snd PG.nam M17 4 (m_getf [(0, 1)] 7) := snd_getf dX1_find_4 fd_X1_72
theorem s_X1_find_7 : Snd PG.nam M17 7 (m_icmp (fun x z => if x < z then 10 else 31)) := snd_icmp_ge dX1_find_7 (by decide)
theorem s_X1_find_10 : Snd PG.nam M17 10 (m_aload 0 11) := snd_aload_n dX1_find_10 rfl
theorem s_X1_find_11 : Snd PG.nam M17 11 (m_getf [(0, 0)] 14) := snd_getf dX1_find_11 fd_X1_11
theorem s_X1_find_14 : Snd PG.nam M17 14 (m_iload 2 15) := snd_iload_n dX1_find_14 rfl
theorem s_X1_find_15 : Snd PG.nam M17 15 (m_aald 16) := snd_aald dX1_find_15
theorem s_X1_find_16 : Snd PG.nam M17 16 (m_aload 1 17) := snd_aload_n dX1_find_16 rfl
theorem s_X1_find_17 : Snd PG.nam M17 17 (m_callV false [(2, 95)] 1 20) := snd_callV (nam := PG.nam) (List.forall_mem_cons.mpr ⟨dr_V (ym := PG.nam 95) dX1_find_17 (Or.inl w576) mi_95 rfl w578, (fun q hq => absurd hq List.not_mem_nil)⟩) (by decide)
theorem s_X1_find_20 : Snd PG.nam M17 20 (m_ifz (fun x => if x = 0 then 25 else 23)) := snd_if_eq dX1_find_20 (by decide)
theorem s_X1_find_23 : Snd PG.nam M17 23 (m_iload 2 24) := snd_iload_n dX1_find_23 rfl
theorem s_X1_find_24 : Snd PG.nam M17 24 (m_iret .int) := snd_iret dX1_find_24 rfl
theorem s_X1_find_25 : Snd PG.nam M17 25 (m_iinc 2 (nI 1) 28) := snd_iinc dX1_find_25 (by decide) (by decide)
theorem s_X1_find_28 : Snd PG.nam M17 28 (m_goto 2) := snd_goto dX1_find_28 (by decide)
theorem s_X1_find_31 : Snd PG.nam M17 31 (m_const (.int (-1)) 32) := snd_iconst dX1_find_31 (by decide)
theorem s_X1_find_32 : Snd PG.nam M17 32 (m_iret .int) := snd_iret dX1_find_32 rfl
theorem T17 : ∀ q ∈ S17, Snd PG.nam M17 q.1 q.2 := List.forall_mem_cons.mpr ⟨s_X1_find_0, List.forall_mem_cons.mpr ⟨s_X1_find_1, List.forall_mem_cons.mpr ⟨s_X1_find_2, List.forall_mem_cons.mpr ⟨s_X1_find_3, List.forall_mem_cons.mpr ⟨s_X1_find_4, List.forall_mem_cons.mpr ⟨s_X1_find_7, List.forall_mem_cons.mpr ⟨s_X1_find_10, List.forall_mem_cons.mpr ⟨s_X1_find_11, List.forall_mem_cons.mpr ⟨s_X1_find_14, List.forall_mem_cons.mpr ⟨s_X1_find_15, List.forall_mem_cons.mpr ⟨s_X1_find_16, List.forall_mem_cons.mpr ⟨s_X1_find_17, List.forall_mem_cons.mpr ⟨s_X1_find_20, List.forall_mem_cons.mpr ⟨s_X1_find_23, List.forall_mem_cons.mpr ⟨s_X1_find_24, List.forall_mem_cons.mpr ⟨s_X1_find_25, List.forall_mem_cons.mpr ⟨s_X1_find_28, List.forall_mem_cons.mpr ⟨s_X1_find_31, List.forall_mem_cons.mpr ⟨s_X1_find_32, (fun q hq => absurd hq List.not_mem_nil)⟩⟩⟩⟩⟩⟩⟩⟩⟩⟩⟩⟩⟩⟩⟩⟩⟩⟩⟩
theorem s_X1_place_0 : Snd PG.nam M18 0 (m_aload 0 1) := snd_aload_n dX1_place_0 rfl
theorem s_X1_place_1 : Snd PG.nam M18 1 (m_getf [(0, 0)] 4) := snd_getf dX1_place_1 fd_X1_11
theorem s_X1_place_4 : Snd PG.nam M18 4 (m_aload 0 5) := snd_aload_n dX1_place_4 rfl
theorem s_X1_place_5 : Snd PG.nam M18 5 (m_getf [(0, 1)] 8) := snd_getf dX1_place_5 fd_X1_72
theorem s_X1_place_8 : Snd PG.nam M18 8 (m_aload 1 9) := snd_aload_n dX1_place_8 rfl
theorem s_X1_place_9 : Snd PG.nam M18 9 (m_aast "TripleStore$Triple" [2] 10) := snd_aast dX1_place_9 (List.forall_mem_cons.mpr ⟨⟨_, rfl, Or.inr rfl⟩, (fun ci hci => absurd hci List.not_mem_nil)⟩)
theorem s_X1_place_10 : Snd PG.nam M18 10 (m_aload 0 11) := snd_aload_n dX1_place_10 rfl
theorem s_X1_place_11 : Snd PG.nam M18 11 (m_dup 12) := snd_dup dX1_place_11
theorem s_X1_place_12 : Snd PG.nam M18 12 (m_getf [(0, 1)] 15) := snd_getf dX1_place_12 fd_X1_72
theorem s_X1_place_15 : Snd PG.nam M18 15 (m_const (.int (nI 1)) 16) := snd_iconst dX1_place_15 (by decide)
theorem s_X1_place_16 : Snd PG.nam M18 16 (m_ibin (fun a b => a + b) 17) := snd_iadd dX1_place_16
theorem s_X1_place_17 : Snd PG.nam M18 17 (m_putf [(0, 1)] .int 20) := snd_putf dX1_place_17 fd_X1_72
theorem s_X1_place_20 : Snd PG.nam M18 20 (m_vret) := snd_vret dX1_place_20 rfl
theorem T18 : ∀ q ∈ S18, Snd PG.nam M18 q.1 q.2 := List.forall_mem_cons.mpr ⟨s_X1_place_0, List.forall_mem_cons.mpr ⟨s_X1_place_1, List.forall_mem_cons.mpr ⟨s_X1_place_4, List.forall_mem_cons.mpr ⟨s_X1_place_5, List.forall_mem_cons.mpr ⟨s_X1_place_8, List.forall_mem_cons.mpr ⟨s_X1_place_9, List.forall_mem_cons.mpr ⟨s_X1_place_10, List.forall_mem_cons.mpr ⟨s_X1_place_11, List.forall_mem_cons.mpr ⟨s_X1_place_12, List.forall_mem_cons.mpr ⟨s_X1_place_15, List.forall_mem_cons.mpr ⟨s_X1_place_16, List.forall_mem_cons.mpr ⟨s_X1_place_17, List.forall_mem_cons.mpr ⟨s_X1_place_20, (fun q hq => absurd hq List.not_mem_nil)⟩⟩⟩⟩⟩⟩⟩⟩⟩⟩⟩⟩⟩
theorem s_X1_note_0 : Snd PG.nam M19 0 (m_aload 0 1) := snd_aload_n dX1_note_0 rfl
theorem s_X1_note_1 : Snd PG.nam M19 1 (m_new 5 [.int 0, .null, .null] 4) := snd_new dX1_note_1 rfl w622 w623 w86 rfl (by decide +kernel)
theorem s_X1_note_4 : Snd PG.nam M19 4 (m_dup 5) := snd_dup dX1_note_4
theorem s_X1_note_5 : Snd PG.nam M19 5 (m_iload 1 6) := snd_iload_n dX1_note_5 rfl
theorem s_X1_note_6 : Snd PG.nam M19 6 (m_aload 2 7) := snd_aload_n dX1_note_6 rfl
theorem s_X1_note_7 : Snd PG.nam M19 7 (m_aload 0 8) := snd_aload_n dX1_note_7 rfl
theorem s_X1_note_8 : Snd PG.nam M19 8 (m_getf [(0, 3)] 11) := snd_getf dX1_note_8 fd_X1_81
theorem s_X1_note_11 : Snd PG.nam M19 11 (m_callI 105 3 14) := snd_callI (nam := PG.nam) (yy := 105) dX1_note_11 (Or.inl w624) mi_105 rfl w626 (by decide)
theorem s_X1_note_14 : Snd PG.nam M19 14 (m_putf [(0, 3)] (.object "TripleStore$Change") 17) := snd_putf dX1_note_14 fd_X1_81
theorem s_X1_note_17 : Snd PG.nam M19 17 (m_aload 0 18) := snd_aload_n dX1_note_17 rfl
theorem s_X1_note_18 : Snd PG.nam M19 18 (m_dup 19) := snd_dup dX1_note_18
theorem s_X1_note_19 : Snd PG.nam M19 19 (m_getf [(0, 4)] 22) := snd_getf dX1_note_19 fd_X1_88
theorem s_X1_note_22 : Snd PG.nam M19 22 (m_const (.int (nI 1)) 23) := snd_iconst dX1_note_22 (by decide)
theorem s_X1_note_23 : Snd PG.nam M19 23 (m_ibin (fun a b => a + b) 24) := snd_iadd dX1_note_23
theorem s_X1_note_24 : Snd PG.nam M19 24 (m_putf [(0, 4)] .int 27) := snd_putf dX1_note_24 fd_X1_88
theorem s_X1_note_27 : Snd PG.nam M19 27 (m_aload 0 28) := snd_aload_n dX1_note_27 rfl
theorem s_X1_note_28 : Snd PG.nam M19 28 (m_getf [(0, 2)] 31) := snd_getf dX1_note_28 fd_X1_91
theorem s_X1_note_31 : Snd PG.nam M19 31 (m_ifz (fun x => if x = 0 then 34 else 38)) := snd_if_ne dX1_note_31 (by decide)
theorem s_X1_note_34 : Snd PG.nam M19 34 (m_aload 0 35) := snd_aload_n dX1_note_34 rfl
theorem s_X1_note_35 : Snd PG.nam M19 35 (m_callV true [(0, 20)] 0 38) := snd_callV (nam := PG.nam) (List.forall_mem_cons.mpr ⟨dr_V (ym := PG.nam 20) dX1_note_35 (Or.inl w641) mi_20 rfl (lw_all_tbl qs4), (fun q hq => absurd hq List.not_mem_nil)⟩) (by decide)
theorem s_X1_note_38 : Snd PG.nam M19 38 (m_vret) := snd_vret dX1_note_38 rfl
theorem T19 : ∀ q ∈ S19, Snd PG.nam M19 q.1 q.2 := List.forall_mem_cons.mpr ⟨s_X1_note_0, List.forall_mem_cons.mpr ⟨s_X1_note_1, List.forall_mem_cons.mpr ⟨s_X1_note_4, List.forall_mem_cons.mpr ⟨s_X1_note_5, List.forall_mem_cons.mpr ⟨s_X1_note_6, List.forall_mem_cons.mpr ⟨s_X1_note_7, List.forall_mem_cons.mpr ⟨s_X1_note_8, List.forall_mem_cons.mpr ⟨s_X1_note_11, List.forall_mem_cons.mpr ⟨s_X1_note_14, List.forall_mem_cons.mpr ⟨s_X1_note_17, List.forall_mem_cons.mpr ⟨s_X1_note_18, List.forall_mem_cons.mpr ⟨s_X1_note_19, List.forall_mem_cons.mpr ⟨s_X1_note_22, List.forall_mem_cons.mpr ⟨s_X1_note_23, List.forall_mem_cons.mpr ⟨s_X1_note_24, List.forall_mem_cons.mpr ⟨s_X1_note_27, List.forall_mem_cons.mpr ⟨s_X1_note_28, List.forall_mem_cons.mpr ⟨s_X1_note_31, List.forall_mem_cons.mpr ⟨s_X1_note_34, List.forall_mem_cons.mpr ⟨s_X1_note_35, List.forall_mem_cons.mpr ⟨s_X1_note_38, (fun q hq => absurd hq List.not_mem_nil)⟩⟩⟩⟩⟩⟩⟩⟩⟩⟩⟩⟩⟩⟩⟩⟩⟩⟩⟩⟩⟩
theorem s_X1_close_0 : Snd PG.nam M20 0 (m_new 6 [.null, .null] 3) := snd_new dX1_close_0 rfl w645 w646 w87 rfl (by decide +kernel)
theorem s_X1_close_3 : Snd PG.nam M20 3 (m_dup 4) := snd_dup dX1_close_3
theorem s_X1_close_4 : Snd PG.nam M20 4 (m_aload 0 5) := snd_aload_n dX1_close_4 rfl
theorem s_X1_close_5 : Snd PG.nam M20 5 (m_getf [(0, 3)] 8) := snd_getf dX1_close_5 fd_X1_81
theorem s_X1_close_8 : Snd PG.nam M20 8 (m_callI 106 1 11) := snd_callI (nam := PG.nam) (yy := 106) dX1_close_8 (Or.inl w647) mi_106 rfl w649 (by decide)
theorem s_X1_close_11 : Snd PG.nam M20 11 (m_astore 1 12) := snd_astore_n dX1_close_11 rfl (by decide)
theorem s_X1_close_12 : Snd PG.nam M20 12 (m_aload 0 13) := snd_aload_n dX1_close_12 rfl
theorem s_X1_close_13 : Snd PG.nam M20 13 (m_getf [(0, 5)] 16) := snd_getf dX1_close_13 fd_X1_103
theorem s_X1_close_16 : Snd PG.nam M20 16 (m_ifn 19 27) := snd_ifnonnull dX1_close_16 (by decide)
theorem s_X1_close_19 : Snd PG.nam M20 19 (m_aload 0 20) := snd_aload_n dX1_close_19 rfl
theorem s_X1_close_20 : Snd PG.nam M20 20 (m_aload 1 21) := snd_aload_n dX1_close_20 rfl
theorem s_X1_close_21 : Snd PG.nam M20 21 (m_putf [(0, 5)] (.object "TripleStore$Commit") 24) := snd_putf dX1_close_21 fd_X1_103
theorem s_X1_close_24 : Snd PG.nam M20 24 (m_goto 35) := snd_goto dX1_close_24 (by decide)
theorem s_X1_close_27 : Snd PG.nam M20 27 (m_aload 0 28) := snd_aload_n dX1_close_27 rfl
theorem s_X1_close_28 : Snd PG.nam M20 28 (m_getf [(0, 6)] 31) := snd_getf dX1_close_28 fd_X1_107
theorem s_X1_close_31 : Snd PG.nam M20 31 (m_aload 1 32) := snd_aload_n dX1_close_31 rfl
theorem s_X1_close_32 : Snd PG.nam M20 32 (m_putf [(6, 1)] (.object "TripleStore$Commit") 35) := snd_putf dX1_close_32 fd_X1_110
theorem s_X1_close_35 : Snd PG.nam M20 35 (m_aload 0 36) := snd_aload_n dX1_close_35 rfl
theorem s_X1_close_36 : Snd PG.nam M20 36 (m_aload 1 37) := snd_aload_n dX1_close_36 rfl
theorem s_X1_close_37 : Snd PG.nam M20 37 (m_putf [(0, 6)] (.object "TripleStore$Commit") 40) := snd_putf dX1_close_37 fd_X1_107
theorem s_X1_close_40 : Snd PG.nam M20 40 (m_aload 0 41) := snd_aload_n dX1_close_40 rfl
theorem s_X1_close_41 : Snd PG.nam M20 41 (m_dup 42) := snd_dup dX1_close_41
theorem s_X1_close_42 : Snd PG.nam M20 42 (m_getf [(0, 7)] 45) := snd_getf dX1_close_42 fd_X1_113
theorem s_X1_close_45 : Snd PG.nam M20 45 (m_const (.int (nI 1)) 46) := snd_iconst dX1_close_45 (by decide)
theorem s_X1_close_46 : Snd PG.nam M20 46 (m_ibin (fun a b => a + b) 47) := snd_iadd dX1_close_46
theorem s_X1_close_47 : Snd PG.nam M20 47 (m_putf [(0, 7)] .int 50) := snd_putf dX1_close_47 fd_X1_113
theorem s_X1_close_50 : Snd PG.nam M20 50 (m_aload 0 51) := snd_aload_n dX1_close_50 rfl
theorem s_X1_close_51 : Snd PG.nam M20 51 (m_dup 52) := snd_dup dX1_close_51
theorem s_X1_close_52 : Snd PG.nam M20 52 (m_getf [(0, 8)] 55) := snd_getf dX1_close_52 fd_X1_116
theorem s_X1_close_55 : Snd PG.nam M20 55 (m_const (.int (nI 1)) 56) := snd_iconst dX1_close_55 (by decide)
theorem s_X1_close_56 : Snd PG.nam M20 56 (m_ibin (fun a b => a + b) 57) := snd_iadd dX1_close_56
theorem s_X1_close_57 : Snd PG.nam M20 57 (m_putf [(0, 8)] .int 60) := snd_putf dX1_close_57 fd_X1_116
theorem s_X1_close_60 : Snd PG.nam M20 60 (m_aload 0 61) := snd_aload_n dX1_close_60 rfl
theorem s_X1_close_61 : Snd PG.nam M20 61 (m_const .null 62) := snd_null dX1_close_61
theorem s_X1_close_62 : Snd PG.nam M20 62 (m_putf [(0, 3)] (.object "TripleStore$Change") 65) := snd_putf dX1_close_62 fd_X1_81
theorem s_X1_close_65 : Snd PG.nam M20 65 (m_aload 0 66) := snd_aload_n dX1_close_65 rfl
theorem s_X1_close_66 : Snd PG.nam M20 66 (m_const (.int (nI 0)) 67) := snd_iconst dX1_close_66 (by decide)
theorem s_X1_close_67 : Snd PG.nam M20 67 (m_putf [(0, 4)] .int 70) := snd_putf dX1_close_67 fd_X1_88
theorem s_X1_close_70 : Snd PG.nam M20 70 (m_aload 0 71) := snd_aload_n dX1_close_70 rfl
theorem s_X1_close_71 : Snd PG.nam M20 71 (m_const (.int (nI 0)) 72) := snd_iconst dX1_close_71 (by decide)
theorem s_X1_close_72 : Snd PG.nam M20 72 (m_putf [(0, 2)] .boolean 75) := snd_putf dX1_close_72 fd_X1_91
theorem s_X1_close_75 : Snd PG.nam M20 75 (m_vret) := snd_vret dX1_close_75 rfl
theorem T20 : ∀ q ∈ S20, Snd PG.nam M20 q.1 q.2 := List.forall_mem_cons.mpr ⟨s_X1_close_0, List.forall_mem_cons.mpr ⟨s_X1_close_3, List.forall_mem_cons.mpr ⟨s_X1_close_4, List.forall_mem_cons.mpr ⟨s_X1_close_5, List.forall_mem_cons.mpr ⟨s_X1_close_8, List.forall_mem_cons.mpr ⟨s_X1_close_11, List.forall_mem_cons.mpr ⟨s_X1_close_12, List.forall_mem_cons.mpr ⟨s_X1_close_13, List.forall_mem_cons.mpr ⟨s_X1_close_16, List.forall_mem_cons.mpr ⟨s_X1_close_19, List.forall_mem_cons.mpr ⟨s_X1_close_20, List.forall_mem_cons.mpr ⟨s_X1_close_21, List.forall_mem_cons.mpr ⟨s_X1_close_24, List.forall_mem_cons.mpr ⟨s_X1_close_27, List.forall_mem_cons.mpr ⟨s_X1_close_28, List.forall_mem_cons.mpr ⟨s_X1_close_31, List.forall_mem_cons.mpr ⟨s_X1_close_32, List.forall_mem_cons.mpr ⟨s_X1_close_35, List.forall_mem_cons.mpr ⟨s_X1_close_36, List.forall_mem_cons.mpr ⟨s_X1_close_37, List.forall_mem_cons.mpr ⟨s_X1_close_40, List.forall_mem_cons.mpr ⟨s_X1_close_41, List.forall_mem_cons.mpr ⟨s_X1_close_42, List.forall_mem_cons.mpr ⟨s_X1_close_45, List.forall_mem_cons.mpr ⟨s_X1_close_46, List.forall_mem_cons.mpr ⟨s_X1_close_47, List.forall_mem_cons.mpr ⟨s_X1_close_50, List.forall_mem_cons.mpr ⟨s_X1_close_51, List.forall_mem_cons.mpr ⟨s_X1_close_52, List.forall_mem_cons.mpr ⟨s_X1_close_55, List.forall_mem_cons.mpr ⟨s_X1_close_56, List.forall_mem_cons.mpr ⟨s_X1_close_57, List.forall_mem_cons.mpr ⟨s_X1_close_60, List.forall_mem_cons.mpr ⟨s_X1_close_61, List.forall_mem_cons.mpr ⟨s_X1_close_62, List.forall_mem_cons.mpr ⟨s_X1_close_65, List.forall_mem_cons.mpr ⟨s_X1_close_66, List.forall_mem_cons.mpr ⟨s_X1_close_67, List.forall_mem_cons.mpr ⟨s_X1_close_70, List.forall_mem_cons.mpr ⟨s_X1_close_71, List.forall_mem_cons.mpr ⟨s_X1_close_72, List.forall_mem_cons.mpr ⟨s_X1_close_75, (fun q hq => absurd hq List.not_mem_nil)⟩⟩⟩⟩⟩⟩⟩⟩⟩⟩⟩⟩⟩⟩⟩⟩⟩⟩⟩⟩⟩⟩⟩⟩⟩⟩⟩⟩⟩⟩⟩⟩⟩⟩⟩⟩⟩⟩⟩⟩⟩⟩
theorem s_X1_remove_0 : Snd PG.nam M21 0 (m_lload 1 1) := snd_lload_n dX1_remove_0 rfl
theorem s_X1_remove_1 : Snd PG.nam M21 1 (m_lload 3 2) := snd_lload_n dX1_remove_1 rfl
theorem s_X1_remove_2 : Snd PG.nam M21 2 (m_lload 5 4) := snd_lload dX1_remove_2
theorem s_X1_remove_4 : Snd PG.nam M21 4 (m_callS false 15 3 7) := snd_callS (nam := PG.nam) (yy := 15) dX1_remove_4 (Or.inl w215) w216 ⟨by decide, by decide +kernel⟩ (by decide)
theorem s_X1_remove_7 : Snd PG.nam M21 7 (m_astore 7 9) := snd_astore dX1_remove_7 (by decide)
theorem s_X1_remove_9 : Snd PG.nam M21 9 (m_aload 0 10) := snd_aload_n dX1_remove_9 rfl
theorem s_X1_remove_10 : Snd PG.nam M21 10 (m_aload 7 12) := snd_aload dX1_remove_10
theorem s_X1_remove_12 : Snd PG.nam M21 12 (m_callV false [(0, 17)] 1 15) := snd_callV (nam := PG.nam) (List.forall_mem_cons.mpr ⟨dr_V (ym := PG.nam 17) dX1_remove_12 (Or.inl w572) mi_17 rfl (lw_all_tbl qs1), (fun q hq => absurd hq List.not_mem_nil)⟩) (by decide)
theorem s_X1_remove_15 : Snd PG.nam M21 15 (m_istore 8 17) := snd_istore dX1_remove_15 (by decide)
theorem s_X1_remove_17 : Snd PG.nam M21 17 (m_iload 8 19) := snd_iload dX1_remove_17
theorem s_X1_remove_19 : Snd PG.nam M21 19 (m_ifz (fun x => if x < 0 then 22 else 24)) := snd_if_ge dX1_remove_19 (by decide)
theorem s_X1_remove_22 : Snd PG.nam M21 22 (m_const (.int (nI 0)) 23) := snd_iconst dX1_remove_22 (by decide)
theorem s_X1_remove_23 : Snd PG.nam M21 23 (m_iret .int) := snd_iret dX1_remove_23 rfl
theorem s_X1_remove_24 : Snd PG.nam M21 24 (m_aload 0 25) := snd_aload_n dX1_remove_24 rfl
theorem s_X1_remove_25 : Snd PG.nam M21 25 (m_iload 8 27) := snd_iload dX1_remove_25
theorem s_X1_remove_27 : Snd PG.nam M21 27 (m_callV true [(0, 22)] 1 30) := snd_callV (nam := PG.nam) (List.forall_mem_cons.mpr ⟨dr_V (ym := PG.nam 22) dX1_remove_27 (Or.inl w666) mi_22 rfl (lw_all_tbl qs5), (fun q hq => absurd hq List.not_mem_nil)⟩) (by decide)
theorem s_X1_remove_30 : Snd PG.nam M21 30 (m_aload 0 31) := snd_aload_n dX1_remove_30 rfl
theorem s_X1_remove_31 : Snd PG.nam M21 31 (m_const (.int (nI 0)) 32) := snd_iconst dX1_remove_31 (by decide)
theorem s_X1_remove_32 : Snd PG.nam M21 32 (m_aload 7 34) := snd_aload dX1_remove_32
theorem s_X1_remove_34 : Snd PG.nam M21 34 (m_callV true [(0, 19)] 2 37) := snd_callV (nam := PG.nam) (List.forall_mem_cons.mpr ⟨dr_V (ym := PG.nam 19) dX1_remove_34 (Or.inl w618) mi_19 rfl (lw_all_tbl qs3), (fun q hq => absurd hq List.not_mem_nil)⟩) (by decide)
theorem s_X1_remove_37 : Snd PG.nam M21 37 (m_const (.int (nI 1)) 38) := snd_iconst dX1_remove_37 (by decide)
theorem s_X1_remove_38 : Snd PG.nam M21 38 (m_iret .int) := snd_iret dX1_remove_38 rfl
theorem T21 : ∀ q ∈ S21, Snd PG.nam M21 q.1 q.2 := List.forall_mem_cons.mpr ⟨s_X1_remove_0, List.forall_mem_cons.mpr ⟨s_X1_remove_1, List.forall_mem_cons.mpr ⟨s_X1_remove_2, List.forall_mem_cons.mpr ⟨s_X1_remove_4, List.forall_mem_cons.mpr ⟨s_X1_remove_7, List.forall_mem_cons.mpr ⟨s_X1_remove_9, List.forall_mem_cons.mpr ⟨s_X1_remove_10, List.forall_mem_cons.mpr ⟨s_X1_remove_12, List.forall_mem_cons.mpr ⟨s_X1_remove_15, List.forall_mem_cons.mpr ⟨s_X1_remove_17, List.forall_mem_cons.mpr ⟨s_X1_remove_19, List.forall_mem_cons.mpr ⟨s_X1_remove_22, List.forall_mem_cons.mpr ⟨s_X1_remove_23, List.forall_mem_cons.mpr ⟨s_X1_remove_24, List.forall_mem_cons.mpr ⟨s_X1_remove_25, List.forall_mem_cons.mpr ⟨s_X1_remove_27, List.forall_mem_cons.mpr ⟨s_X1_remove_30, List.forall_mem_cons.mpr ⟨s_X1_remove_31, List.forall_mem_cons.mpr ⟨s_X1_remove_32, List.forall_mem_cons.mpr ⟨s_X1_remove_34, List.forall_mem_cons.mpr ⟨s_X1_remove_37, List.forall_mem_cons.mpr ⟨s_X1_remove_38, (fun q hq => absurd hq List.not_mem_nil)⟩⟩⟩⟩⟩⟩⟩⟩⟩⟩⟩⟩⟩⟩⟩⟩⟩⟩⟩⟩⟩⟩
theorem s_X1_take_0 : Snd PG.nam M22 0 (m_aload 0 1) := snd_aload_n dX1_take_0 rfl
theorem s_X1_take_1 : Snd PG.nam M22 1 (m_dup 2) := snd_dup dX1_take_1
theorem s_X1_take_2 : Snd PG.nam M22 2 (m_getf [(0, 1)] 5) := snd_getf dX1_take_2 fd_X1_72
theorem s_X1_take_5 : Snd PG.nam M22 5 (m_const (.int (nI 1)) 6) := snd_iconst dX1_take_5 (by decide)
theorem s_X1_take_6 : Snd PG.nam M22 6 (m_ibin (fun a b => a - b) 7) := snd_isub dX1_take_6
theorem s_X1_take_7 : Snd PG.nam M22 7 (m_putf [(0, 1)] .int 10) := snd_putf dX1_take_7 fd_X1_72
theorem s_X1_take_10 : Snd PG.nam M22 10 (m_aload 0 11) := snd_aload_n dX1_take_10 rfl
theorem s_X1_take_11 : Snd PG.nam M22 11 (m_getf [(0, 0)] 14) := snd_getf dX1_take_11 fd_X1_11
theorem s_X1_take_14 : Snd PG.nam M22 14 (m_iload 1 15) := snd_iload_n dX1_take_14 rfl
theorem s_X1_take_15 : Snd PG.nam M22 15 (m_aload 0 16) := snd_aload_n dX1_take_15 rfl
theorem s_X1_take_16 : Snd PG.nam M22 16 (m_getf [(0, 0)] 19) := snd_getf dX1_take_16 fd_X1_11
theorem s_X1_take_19 : Snd PG.nam M22 19 (m_aload 0 20) := snd_aload_n dX1_take_19 rfl
theorem s_X1_take_20 : Snd PG.nam M22 20 (m_getf [(0, 1)] 23) := snd_getf dX1_take_20 fd_X1_72
theorem s_X1_take_23 : Snd PG.nam M22 23 (m_aald 24) := snd_aald dX1_take_23
theorem s_X1_take_24 : Snd PG.nam M22 24 (m_aast "TripleStore$Triple" [2] 25) := snd_aast dX1_take_24 (List.forall_mem_cons.mpr ⟨⟨_, rfl, Or.inr rfl⟩, (fun ci hci => absurd hci List.not_mem_nil)⟩)
theorem s_X1_take_25 : Snd PG.nam M22 25 (m_aload 0 26) := snd_aload_n dX1_take_25 rfl
theorem s_X1_take_26 : Snd PG.nam M22 26 (m_getf [(0, 0)] 29) := snd_getf dX1_take_26 fd_X1_11
theorem s_X1_take_29 : Snd PG.nam M22 29 (m_aload 0 30) := snd_aload_n dX1_take_29 rfl
theorem s_X1_take_30 : Snd PG.nam M22 30 (m_getf [(0, 1)] 33) := snd_getf dX1_take_30 fd_X1_72
theorem s_X1_take_33 : Snd PG.nam M22 33 (m_const .null 34) := snd_null dX1_take_33
theorem s_X1_take_34 : Snd PG.nam M22 34 (m_aast "TripleStore$Triple" [2] 35) := snd_aast dX1_take_34 (List.forall_mem_cons.mpr ⟨⟨_, rfl, Or.inr rfl⟩, (fun ci hci => absurd hci List.not_mem_nil)⟩)
theorem s_X1_take_35 : Snd PG.nam M22 35 (m_vret) := snd_vret dX1_take_35 rfl
theorem T22 : ∀ q ∈ S22, Snd PG.nam M22 q.1 q.2 := List.forall_mem_cons.mpr ⟨s_X1_take_0, List.forall_mem_cons.mpr ⟨s_X1_take_1, List.forall_mem_cons.mpr ⟨s_X1_take_2, List.forall_mem_cons.mpr ⟨s_X1_take_5, List.forall_mem_cons.mpr ⟨s_X1_take_6, List.forall_mem_cons.mpr ⟨s_X1_take_7, List.forall_mem_cons.mpr ⟨s_X1_take_10, List.forall_mem_cons.mpr ⟨s_X1_take_11, List.forall_mem_cons.mpr ⟨s_X1_take_14, List.forall_mem_cons.mpr ⟨s_X1_take_15, List.forall_mem_cons.mpr ⟨s_X1_take_16, List.forall_mem_cons.mpr ⟨s_X1_take_19, List.forall_mem_cons.mpr ⟨s_X1_take_20, List.forall_mem_cons.mpr ⟨s_X1_take_23, List.forall_mem_cons.mpr ⟨s_X1_take_24, List.forall_mem_cons.mpr ⟨s_X1_take_25, List.forall_mem_cons.mpr ⟨s_X1_take_26, List.forall_mem_cons.mpr ⟨s_X1_take_29, List.forall_mem_cons.mpr ⟨s_X1_take_30, List.forall_mem_cons.mpr ⟨s_X1_take_33, List.forall_mem_cons.mpr ⟨s_X1_take_34, List.forall_mem_cons.mpr ⟨s_X1_take_35, (fun q hq => absurd hq List.not_mem_nil)⟩⟩⟩⟩⟩⟩⟩⟩⟩⟩⟩⟩⟩⟩⟩⟩⟩⟩⟩⟩⟩⟩
theorem s_X1_begin_0 : Snd PG.nam M23 0 (m_aload 0 1) := snd_aload_n dX1_begin_0 rfl
theorem s_X1_begin_1 : Snd PG.nam M23 1 (m_getf [(0, 2)] 4) := snd_getf dX1_begin_1 fd_X1_91
theorem s_X1_begin_4 : Snd PG.nam M23 4 (m_ifz (fun x => if x = 0 then 15 else 7)) := snd_if_eq dX1_begin_4 (by decide)
theorem s_X1_begin_7 : Snd PG.nam M23 7 (m_thr 25) := snd_thr exc_J14 rfl dX1_begin_7 dX1_begin_10 dX1_begin_11 dX1_begin_14 w599 w608 w85 (by decide)
theorem s_X1_begin_15 : Snd PG.nam M23 15 (m_aload 0 16) := snd_aload_n dX1_begin_15 rfl
theorem s_X1_begin_16 : Snd PG.nam M23 16 (m_const (.int (nI 1)) 17) := snd_iconst dX1_begin_16 (by decide)
theorem s_X1_begin_17 : Snd PG.nam M23 17 (m_putf [(0, 2)] .boolean 20) := snd_putf dX1_begin_17 fd_X1_91
theorem s_X1_begin_20 : Snd PG.nam M23 20 (m_aload 0 21) := snd_aload_n dX1_begin_20 rfl
theorem s_X1_begin_21 : Snd PG.nam M23 21 (m_getf [(0, 7)] 24) := snd_getf dX1_begin_21 fd_X1_113
theorem s_X1_begin_24 : Snd PG.nam M23 24 (m_iret .int) := snd_iret dX1_begin_24 rfl
theorem T23 : ∀ q ∈ S23, Snd PG.nam M23 q.1 q.2 := List.forall_mem_cons.mpr ⟨s_X1_begin_0, List.forall_mem_cons.mpr ⟨s_X1_begin_1, List.forall_mem_cons.mpr ⟨s_X1_begin_4, List.forall_mem_cons.mpr ⟨s_X1_begin_7, List.forall_mem_cons.mpr ⟨s_X1_begin_15, List.forall_mem_cons.mpr ⟨s_X1_begin_16, List.forall_mem_cons.mpr ⟨s_X1_begin_17, List.forall_mem_cons.mpr ⟨s_X1_begin_20, List.forall_mem_cons.mpr ⟨s_X1_begin_21, List.forall_mem_cons.mpr ⟨s_X1_begin_24, (fun q hq => absurd hq List.not_mem_nil)⟩⟩⟩⟩⟩⟩⟩⟩⟩⟩
theorem s_X1_commit_0 : Snd PG.nam M24 0 (m_aload 0 1) := snd_aload_n dX1_commit_0 rfl
theorem s_X1_commit_1 : Snd PG.nam M24 1 (m_callV true [(0, 25)] 0 4) := snd_callV (nam := PG.nam) (List.forall_mem_cons.mpr ⟨dr_V (ym := PG.nam 25) dX1_commit_1 (Or.inl w684) mi_25 rfl (lw_all_tbl qs6), (fun q hq => absurd hq List.not_mem_nil)⟩) (by decide)
theorem s_X1_commit_4 : Snd PG.nam M24 4 (m_aload 0 5) := snd_aload_n dX1_commit_4 rfl
theorem s_X1_commit_5 : Snd PG.nam M24 5 (m_getf [(0, 4)] 8) := snd_getf dX1_commit_5 fd_X1_88
theorem s_X1_commit_8 : Snd PG.nam M24 8 (m_istore 1 9) := snd_istore_n dX1_commit_8 rfl (by decide)
theorem s_X1_commit_9 : Snd PG.nam M24 9 (m_aload 0 10) := snd_aload_n dX1_commit_9 rfl
theorem s_X1_commit_10 : Snd PG.nam M24 10 (m_callV true [(0, 20)] 0 13) := snd_callV (nam := PG.nam) (List.forall_mem_cons.mpr ⟨dr_V (ym := PG.nam 20) dX1_commit_10 (Or.inl w641) mi_20 rfl (lw_all_tbl qs4), (fun q hq => absurd hq List.not_mem_nil)⟩) (by decide)
theorem s_X1_commit_13 : Snd PG.nam M24 13 (m_iload 1 14) := snd_iload_n dX1_commit_13 rfl
theorem s_X1_commit_14 : Snd PG.nam M24 14 (m_iret .int) := snd_iret dX1_commit_14 rfl
theorem T24 : ∀ q ∈ S24, Snd PG.nam M24 q.1 q.2 := List.forall_mem_cons.mpr ⟨s_X1_commit_0, List.forall_mem_cons.mpr ⟨s_X1_commit_1, List.forall_mem_cons.mpr ⟨s_X1_commit_4, List.forall_mem_cons.mpr ⟨s_X1_commit_5, List.forall_mem_cons.mpr ⟨s_X1_commit_8, List.forall_mem_cons.mpr ⟨s_X1_commit_9, List.forall_mem_cons.mpr ⟨s_X1_commit_10, List.forall_mem_cons.mpr ⟨s_X1_commit_13, List.forall_mem_cons.mpr ⟨s_X1_commit_14, (fun q hq => absurd hq List.not_mem_nil)⟩⟩⟩⟩⟩⟩⟩⟩⟩
theorem s_X1_needOpen_0 : Snd PG.nam M25 0 (m_aload 0 1) := snd_aload_n dX1_needOpen_0 rfl
theorem s_X1_needOpen_1 : Snd PG.nam M25 1 (m_getf [(0, 2)] 4) := snd_getf dX1_needOpen_1 fd_X1_91
theorem s_X1_needOpen_4 : Snd PG.nam M25 4 (m_ifz (fun x => if x = 0 then 7 else 15)) := snd_if_ne dX1_needOpen_4 (by decide)
theorem s_X1_needOpen_7 : Snd PG.nam M25 7 (m_thr 25) := snd_thr exc_J14 rfl dX1_needOpen_7 dX1_needOpen_10 dX1_needOpen_11 dX1_needOpen_14 w599 w608 w85 (by decide)
theorem s_X1_needOpen_15 : Snd PG.nam M25 15 (m_vret) := snd_vret dX1_needOpen_15 rfl
theorem T25 : ∀ q ∈ S25, Snd PG.nam M25 q.1 q.2 := List.forall_mem_cons.mpr ⟨s_X1_needOpen_0, List.forall_mem_cons.mpr ⟨s_X1_needOpen_1, List.forall_mem_cons.mpr ⟨s_X1_needOpen_4, List.forall_mem_cons.mpr ⟨s_X1_needOpen_7, List.forall_mem_cons.mpr ⟨s_X1_needOpen_15, (fun q hq => absurd hq List.not_mem_nil)⟩⟩⟩⟩⟩
theorem s_X1_rollback_0 : Snd PG.nam M26 0 (m_aload 0 1) := snd_aload_n dX1_rollback_0 rfl
theorem s_X1_rollback_1 : Snd PG.nam M26 1 (m_callV true [(0, 25)] 0 4) := snd_callV (nam := PG.nam) (List.forall_mem_cons.mpr ⟨dr_V (ym := PG.nam 25) dX1_rollback_1 (Or.inl w684) mi_25 rfl (lw_all_tbl qs6), (fun q hq => absurd hq List.not_mem_nil)⟩) (by decide)
theorem s_X1_rollback_4 : Snd PG.nam M26 4 (m_aload 0 5) := snd_aload_n dX1_rollback_4 rfl
theorem s_X1_rollback_5 : Snd PG.nam M26 5 (m_callV false [(0, 27)] 0 8) := snd_callV (nam := PG.nam) (List.forall_mem_cons.mpr ⟨dr_V (ym := PG.nam 27) dX1_rollback_5 (Or.inl w695) mi_27 rfl (lw_all_tbl qs7), (fun q hq => absurd hq List.not_mem_nil)⟩) (by decide)
theorem s_X1_rollback_8 : Snd PG.nam M26 8 (m_iret .int) := snd_iret dX1_rollback_8 rfl
theorem T26 : ∀ q ∈ S26, Snd PG.nam M26 q.1 q.2 := List.forall_mem_cons.mpr ⟨s_X1_rollback_0, List.forall_mem_cons.mpr ⟨s_X1_rollback_1, List.forall_mem_cons.mpr ⟨s_X1_rollback_4, List.forall_mem_cons.mpr ⟨s_X1_rollback_5, List.forall_mem_cons.mpr ⟨s_X1_rollback_8, (fun q hq => absurd hq List.not_mem_nil)⟩⟩⟩⟩⟩
theorem s_X1_undoOpen_0 : Snd PG.nam M27 0 (m_aload 0 1) := snd_aload_n dX1_undoOpen_0 rfl
theorem s_X1_undoOpen_1 : Snd PG.nam M27 1 (m_getf [(0, 4)] 4) := snd_getf dX1_undoOpen_1 fd_X1_88
theorem s_X1_undoOpen_4 : Snd PG.nam M27 4 (m_istore 1 5) := snd_istore_n dX1_undoOpen_4 rfl (by decide)
theorem s_X1_undoOpen_5 : Snd PG.nam M27 5 (m_aload 0 6) := snd_aload_n dX1_undoOpen_5 rfl
theorem s_X1_undoOpen_6 : Snd PG.nam M27 6 (m_aload 0 7) := snd_aload_n dX1_undoOpen_6 rfl
theorem s_X1_undoOpen_7 : Snd PG.nam M27 7 (m_getf [(0, 3)] 10) := snd_getf dX1_undoOpen_7 fd_X1_81
theorem s_X1_undoOpen_10 : Snd PG.nam M27 10 (m_callV true [(0, 28)] 1 13) := snd_callV (nam := PG.nam) (List.forall_mem_cons.mpr ⟨dr_V (ym := PG.nam 28) dX1_undoOpen_10 (Or.inl w699) mi_28 rfl (lw_all_tbl qs8), (fun q hq => absurd hq List.not_mem_nil)⟩) (by decide)
theorem s_X1_undoOpen_13 : Snd PG.nam M27 13 (m_aload 0 14) := snd_aload_n dX1_undoOpen_13 rfl
theorem s_X1_undoOpen_14 : Snd PG.nam M27 14 (m_const .null 15) := snd_null dX1_undoOpen_14
theorem s_X1_undoOpen_15 : Snd PG.nam M27 15 (m_putf [(0, 3)] (.object "TripleStore$Change") 18) := snd_putf dX1_undoOpen_15 fd_X1_81
theorem s_X1_undoOpen_18 : Snd PG.nam M27 18 (m_aload 0 19) := snd_aload_n dX1_undoOpen_18 rfl
theorem s_X1_undoOpen_19 : Snd PG.nam M27 19 (m_const (.int (nI 0)) 20) := snd_iconst dX1_undoOpen_19 (by decide)
theorem s_X1_undoOpen_20 : Snd PG.nam M27 20 (m_putf [(0, 4)] .int 23) := snd_putf dX1_undoOpen_20 fd_X1_88
theorem s_X1_undoOpen_23 : Snd PG.nam M27 23 (m_aload 0 24) := snd_aload_n dX1_undoOpen_23 rfl
theorem s_X1_undoOpen_24 : Snd PG.nam M27 24 (m_const (.int (nI 0)) 25) := snd_iconst dX1_undoOpen_24 (by decide)
theorem s_X1_undoOpen_25 : Snd PG.nam M27 25 (m_putf [(0, 2)] .boolean 28) := snd_putf dX1_undoOpen_25 fd_X1_91
theorem s_X1_undoOpen_28 : Snd PG.nam M27 28 (m_iload 1 29) := snd_iload_n dX1_undoOpen_28 rfl
theorem s_X1_undoOpen_29 : Snd PG.nam M27 29 (m_iret .int) := snd_iret dX1_undoOpen_29 rfl
theorem T27 : ∀ q ∈ S27, Snd PG.nam M27 q.1 q.2 := List.forall_mem_cons.mpr ⟨s_X1_undoOpen_0, List.forall_mem_cons.mpr ⟨s_X1_undoOpen_1, List.forall_mem_cons.mpr ⟨s_X1_undoOpen_4, List.forall_mem_cons.mpr ⟨s_X1_undoOpen_5, List.forall_mem_cons.mpr ⟨s_X1_undoOpen_6, List.forall_mem_cons.mpr ⟨s_X1_undoOpen_7, List.forall_mem_cons.mpr ⟨s_X1_undoOpen_10, List.forall_mem_cons.mpr ⟨s_X1_undoOpen_13, List.forall_mem_cons.mpr ⟨s_X1_undoOpen_14, List.forall_mem_cons.mpr ⟨s_X1_undoOpen_15, List.forall_mem_cons.mpr ⟨s_X1_undoOpen_18, List.forall_mem_cons.mpr ⟨s_X1_undoOpen_19, List.forall_mem_cons.mpr ⟨s_X1_undoOpen_20, List.forall_mem_cons.mpr ⟨s_X1_undoOpen_23, List.forall_mem_cons.mpr ⟨s_X1_undoOpen_24, List.forall_mem_cons.mpr ⟨s_X1_undoOpen_25, List.forall_mem_cons.mpr ⟨s_X1_undoOpen_28, List.forall_mem_cons.mpr ⟨s_X1_undoOpen_29, (fun q hq => absurd hq List.not_mem_nil)⟩⟩⟩⟩⟩⟩⟩⟩⟩⟩⟩⟩⟩⟩⟩⟩⟩⟩
theorem s_X1_undo_0 : Snd PG.nam M28 0 (m_aload 1 1) := snd_aload_n dX1_undo_0 rfl
theorem s_X1_undo_1 : Snd PG.nam M28 1 (m_astore 2 2) := snd_astore_n dX1_undo_1 rfl (by decide)
theorem s_X1_undo_2 : Snd PG.nam M28 2 (m_aload 2 3) := snd_aload_n dX1_undo_2 rfl
theorem s_X1_undo_3 : Snd PG.nam M28 3 (m_ifn 44 6) := snd_ifnull dX1_undo_3 (by decide)
theorem s_X1_undo_6 : Snd PG.nam M28 6 (m_aload 2 7) := snd_aload_n dX1_undo_6 rfl
theorem s_X1_undo_7 : Snd PG.nam M28 7 (m_getf [(5, 0)] 10) := snd_getf dX1_undo_7 fd_X1_144
theorem s_X1_undo_10 : Snd PG.nam M28 10 (m_ifz (fun x => if x = 0 then 28 else 13)) := snd_if_eq dX1_undo_10 (by decide)
theorem s_X1_undo_13 : Snd PG.nam M28 13 (m_aload 0 14) := snd_aload_n dX1_undo_13 rfl
theorem s_X1_undo_14 : Snd PG.nam M28 14 (m_aload 0 15) := snd_aload_n dX1_undo_14 rfl
theorem s_X1_undo_15 : Snd PG.nam M28 15 (m_aload 2 16) := snd_aload_n dX1_undo_15 rfl
theorem s_X1_undo_16 : Snd PG.nam M28 16 (m_getf [(5, 1)] 19) := snd_getf dX1_undo_16 fd_X1_147
theorem s_X1_undo_19 : Snd PG.nam M28 19 (m_callV false [(0, 17)] 1 22) := snd_callV (nam := PG.nam) (List.forall_mem_cons.mpr ⟨dr_V (ym := PG.nam 17) dX1_undo_19 (Or.inl w572) mi_17 rfl (lw_all_tbl qs1), (fun q hq => absurd hq List.not_mem_nil)⟩) (by decide)
theorem s_X1_undo_22 : Snd PG.nam M28 22 (m_callV true [(0, 22)] 1 25) := snd_callV (nam := PG.nam) (List.forall_mem_cons.mpr ⟨dr_V (ym := PG.nam 22) dX1_undo_22 (Or.inl w666) mi_22 rfl (lw_all_tbl qs5), (fun q hq => absurd hq List.not_mem_nil)⟩) (by decide)
theorem s_X1_undo_25 : Snd PG.nam M28 25 (m_goto 36) := snd_goto dX1_undo_25 (by decide)
theorem s_X1_undo_28 : Snd PG.nam M28 28 (m_aload 0 29) := snd_aload_n dX1_undo_28 rfl
theorem s_X1_undo_29 : Snd PG.nam M28 29 (m_aload 2 30) := snd_aload_n dX1_undo_29 rfl
theorem s_X1_undo_30 : Snd PG.nam M28 30 (m_getf [(5, 1)] 33) := snd_getf dX1_undo_30 fd_X1_147
theorem s_X1_undo_33 : Snd PG.nam M28 33 (m_callV true [(0, 18)] 1 36) := snd_callV (nam := PG.nam) (List.forall_mem_cons.mpr ⟨dr_V (ym := PG.nam 18) dX1_undo_33 (Or.inl w614) mi_18 rfl (lw_all_tbl qs2), (fun q hq => absurd hq List.not_mem_nil)⟩) (by decide)
theorem s_X1_undo_36 : Snd PG.nam M28 36 (m_aload 2 37) := snd_aload_n dX1_undo_36 rfl
theorem s_X1_undo_37 : Snd PG.nam M28 37 (m_getf [(5, 2)] 40) := snd_getf dX1_undo_37 fd_X1_151
theorem s_X1_undo_40 : Snd PG.nam M28 40 (m_astore 2 41) := snd_astore_n dX1_undo_40 rfl (by decide)
theorem s_X1_undo_41 : Snd PG.nam M28 41 (m_goto 2) := snd_goto dX1_undo_41 (by decide)
theorem s_X1_undo_44 : Snd PG.nam M28 44 (m_vret) := snd_vret dX1_undo_44 rfl
theorem T28 : ∀ q ∈ S28, Snd PG.nam M28 q.1 q.2 := List.forall_mem_cons.mpr ⟨s_X1_undo_0, List.forall_mem_cons.mpr ⟨s_X1_undo_1, List.forall_mem_cons.mpr ⟨s_X1_undo_2, List.forall_mem_cons.mpr ⟨s_X1_undo_3, List.forall_mem_cons.mpr ⟨s_X1_undo_6, List.forall_mem_cons.mpr ⟨s_X1_undo_7, List.forall_mem_cons.mpr ⟨s_X1_undo_10, List.forall_mem_cons.mpr ⟨s_X1_undo_13, List.forall_mem_cons.mpr ⟨s_X1_undo_14, List.forall_mem_cons.mpr ⟨s_X1_undo_15, List.forall_mem_cons.mpr ⟨s_X1_undo_16, List.forall_mem_cons.mpr ⟨s_X1_undo_19, List.forall_mem_cons.mpr ⟨s_X1_undo_22, List.forall_mem_cons.mpr ⟨s_X1_undo_25, List.forall_mem_cons.mpr ⟨s_X1_undo_28, List.forall_mem_cons.mpr ⟨s_X1_undo_29, List.forall_mem_cons.mpr ⟨s_X1_undo_30, List.forall_mem_cons.mpr ⟨s_X1_undo_33, List.forall_mem_cons.mpr ⟨s_X1_undo_36, List.forall_mem_cons.mpr ⟨s_X1_undo_37, List.forall_mem_cons.mpr ⟨s_X1_undo_40, List.forall_mem_cons.mpr ⟨s_X1_undo_41, List.forall_mem_cons.mpr ⟨s_X1_undo_44, (fun q hq => absurd hq List.not_mem_nil)⟩⟩⟩⟩⟩⟩⟩⟩⟩⟩⟩⟩⟩⟩⟩⟩⟩⟩⟩⟩⟩⟩⟩
theorem s_X1_crash_0 : Snd PG.nam M29 0 (m_iload 1 1) := snd_iload_n dX1_crash_0 rfl
theorem s_X1_crash_1 : Snd PG.nam M29 1 (m_ifz (fun x => if x < 0 then 11 else 4)) := snd_if_lt dX1_crash_1 (by decide)
theorem s_X1_crash_4 : Snd PG.nam M29 4 (m_iload 1 5) := snd_iload_n dX1_crash_4 rfl
theorem s_X1_crash_5 : Snd PG.nam M29 5 (m_const (.int (nI 1000)) 8) := snd_sipush dX1_crash_5 (by decide)
theorem s_X1_crash_8 : Snd PG.nam M29 8 (m_icmp (fun x z => if z < x then 11 else 19)) := snd_icmp_le dX1_crash_8 (by decide)
theorem s_X1_crash_11 : Snd PG.nam M29 11 (m_thr 24) := snd_thr exc_J7 rfl dX1_crash_11 dX1_crash_14 dX1_crash_15 dX1_crash_18 w223 w265 w73 (by decide)
theorem s_X1_crash_19 : Snd PG.nam M29 19 (m_aload 0 20) := snd_aload_n dX1_crash_19 rfl
theorem s_X1_crash_20 : Snd PG.nam M29 20 (m_callV false [(0, 27)] 0 23) := snd_callV (nam := PG.nam) (List.forall_mem_cons.mpr ⟨dr_V (ym := PG.nam 27) dX1_crash_20 (Or.inl w695) mi_27 rfl (lw_all_tbl qs7), (fun q hq => absurd hq List.not_mem_nil)⟩) (by decide)
theorem s_X1_crash_23 : Snd PG.nam M29 23 (m_pop 24) := snd_pop dX1_crash_23
theorem s_X1_crash_24 : Snd PG.nam M29 24 (m_aload 0 25) := snd_aload_n dX1_crash_24 rfl
theorem s_X1_crash_25 : Snd PG.nam M29 25 (m_getf [(0, 5)] 28) := snd_getf dX1_crash_25 fd_X1_103
theorem s_X1_crash_28 : Snd PG.nam M29 28 (m_astore 2 29) := snd_astore_n dX1_crash_28 rfl (by decide)
theorem s_X1_crash_29 : Snd PG.nam M29 29 (m_const (.int (nI 0)) 30) := snd_iconst dX1_crash_29 (by decide)
theorem s_X1_crash_30 : Snd PG.nam M29 30 (m_istore 3 31) := snd_istore_n dX1_crash_30 rfl (by decide)
theorem s_X1_crash_31 : Snd PG.nam M29 31 (m_iload 3 32) := snd_iload_n dX1_crash_31 rfl
theorem s_X1_crash_32 : Snd PG.nam M29 32 (m_iload 1 33) := snd_iload_n dX1_crash_32 rfl
theorem s_X1_crash_33 : Snd PG.nam M29 33 (m_icmp (fun x z => if x < z then 36 else 51)) := snd_icmp_ge dX1_crash_33 (by decide)
theorem s_X1_crash_36 : Snd PG.nam M29 36 (m_aload 2 37) := snd_aload_n dX1_crash_36 rfl
theorem s_X1_crash_37 : Snd PG.nam M29 37 (m_ifn 51 40) := snd_ifnull dX1_crash_37 (by decide)
theorem s_X1_crash_40 : Snd PG.nam M29 40 (m_aload 2 41) := snd_aload_n dX1_crash_40 rfl
theorem s_X1_crash_41 : Snd PG.nam M29 41 (m_getf [(6, 1)] 44) := snd_getf dX1_crash_41 fd_X1_110
theorem s_X1_crash_44 : Snd PG.nam M29 44 (m_astore 2 45) := snd_astore_n dX1_crash_44 rfl (by decide)
theorem s_X1_crash_45 : Snd PG.nam M29 45 (m_iinc 3 (nI 1) 48) := snd_iinc dX1_crash_45 (by decide) (by decide)
theorem s_X1_crash_48 : Snd PG.nam M29 48 (m_goto 31) := snd_goto dX1_crash_48 (by decide)
theorem s_X1_crash_51 : Snd PG.nam M29 51 (m_aload 0 52) := snd_aload_n dX1_crash_51 rfl
theorem s_X1_crash_52 : Snd PG.nam M29 52 (m_aload 2 53) := snd_aload_n dX1_crash_52 rfl
theorem s_X1_crash_53 : Snd PG.nam M29 53 (m_callV true [(0, 30)] 1 56) := snd_callV (nam := PG.nam) (List.forall_mem_cons.mpr ⟨dr_V (ym := PG.nam 30) dX1_crash_53 (Or.inl w710) mi_30 rfl (lw_all_tbl qs9), (fun q hq => absurd hq List.not_mem_nil)⟩) (by decide)
theorem s_X1_crash_56 : Snd PG.nam M29 56 (m_aload 0 57) := snd_aload_n dX1_crash_56 rfl
theorem s_X1_crash_57 : Snd PG.nam M29 57 (m_callV false [(0, 12)] 0 60) := snd_callV (nam := PG.nam) (List.forall_mem_cons.mpr ⟨dr_V (ym := PG.nam 12) dX1_crash_57 (Or.inl w715) mi_12 rfl w200, (fun q hq => absurd hq List.not_mem_nil)⟩) (by decide)
theorem s_X1_crash_60 : Snd PG.nam M29 60 (m_pop 61) := snd_pop dX1_crash_60
theorem s_X1_crash_61 : Snd PG.nam M29 61 (m_aload 0 62) := snd_aload_n dX1_crash_61 rfl
theorem s_X1_crash_62 : Snd PG.nam M29 62 (m_getf [(0, 1)] 65) := snd_getf dX1_crash_62 fd_X1_72
theorem s_X1_crash_65 : Snd PG.nam M29 65 (m_iret .int) := snd_iret dX1_crash_65 rfl
theorem T29 : ∀ q ∈ S29, Snd PG.nam M29 q.1 q.2 := List.forall_mem_cons.mpr ⟨s_X1_crash_0, List.forall_mem_cons.mpr ⟨s_X1_crash_1, List.forall_mem_cons.mpr ⟨s_X1_crash_4, List.forall_mem_cons.mpr ⟨s_X1_crash_5, List.forall_mem_cons.mpr ⟨s_X1_crash_8, List.forall_mem_cons.mpr ⟨s_X1_crash_11, List.forall_mem_cons.mpr ⟨s_X1_crash_19, List.forall_mem_cons.mpr ⟨s_X1_crash_20, List.forall_mem_cons.mpr ⟨s_X1_crash_23, List.forall_mem_cons.mpr ⟨s_X1_crash_24, List.forall_mem_cons.mpr ⟨s_X1_crash_25, List.forall_mem_cons.mpr ⟨s_X1_crash_28, List.forall_mem_cons.mpr ⟨s_X1_crash_29, List.forall_mem_cons.mpr ⟨s_X1_crash_30, List.forall_mem_cons.mpr ⟨s_X1_crash_31, List.forall_mem_cons.mpr ⟨s_X1_crash_32, List.forall_mem_cons.mpr ⟨s_X1_crash_33, List.forall_mem_cons.mpr ⟨s_X1_crash_36, List.forall_mem_cons.mpr ⟨s_X1_crash_37, List.forall_mem_cons.mpr ⟨s_X1_crash_40, List.forall_mem_cons.mpr ⟨s_X1_crash_41, List.forall_mem_cons.mpr ⟨s_X1_crash_44, List.forall_mem_cons.mpr ⟨s_X1_crash_45, List.forall_mem_cons.mpr ⟨s_X1_crash_48, List.forall_mem_cons.mpr ⟨s_X1_crash_51, List.forall_mem_cons.mpr ⟨s_X1_crash_52, List.forall_mem_cons.mpr ⟨s_X1_crash_53, List.forall_mem_cons.mpr ⟨s_X1_crash_56, List.forall_mem_cons.mpr ⟨s_X1_crash_57, List.forall_mem_cons.mpr ⟨s_X1_crash_60, List.forall_mem_cons.mpr ⟨s_X1_crash_61, List.forall_mem_cons.mpr ⟨s_X1_crash_62, List.forall_mem_cons.mpr ⟨s_X1_crash_65, (fun q hq => absurd hq List.not_mem_nil)⟩⟩⟩⟩⟩⟩⟩⟩⟩⟩⟩⟩⟩⟩⟩⟩⟩⟩⟩⟩⟩⟩⟩⟩⟩⟩⟩⟩⟩⟩⟩⟩⟩
theorem s_X1_undoFrom_0 : Snd PG.nam M30 0 (m_aload 0 1) := snd_aload_n dX1_undoFrom_0 rfl
theorem s_X1_undoFrom_1 : Snd PG.nam M30 1 (m_getf [(0, 8)] 4) := snd_getf dX1_undoFrom_1 fd_X1_116
theorem s_X1_undoFrom_4 : Snd PG.nam M30 4 (m_anew "TripleStore$Commit" 7) := snd_anew dX1_undoFrom_4 w645 w714
theorem s_X1_undoFrom_7 : Snd PG.nam M30 7 (m_astore 2 8) := snd_astore_n dX1_undoFrom_7 rfl (by decide)
theorem s_X1_undoFrom_8 : Snd PG.nam M30 8 (m_const (.int (nI 0)) 9) := snd_iconst dX1_undoFrom_8 (by decide)
theorem s_X1_undoFrom_9 : Snd PG.nam M30 9 (m_istore 3 10) := snd_istore_n dX1_undoFrom_9 rfl (by decide)
theorem s_X1_undoFrom_10 : Snd PG.nam M30 10 (m_aload 1 11) := snd_aload_n dX1_undoFrom_10 rfl
theorem s_X1_undoFrom_11 : Snd PG.nam M30 11 (m_astore 4 13) := snd_astore dX1_undoFrom_11 (by decide)
theorem s_X1_undoFrom_13 : Snd PG.nam M30 13 (m_aload 4 15) := snd_aload dX1_undoFrom_13
theorem s_X1_undoFrom_15 : Snd PG.nam M30 15 (m_ifn 36 18) := snd_ifnull dX1_undoFrom_15 (by decide)
theorem s_X1_undoFrom_18 : Snd PG.nam M30 18 (m_aload 2 19) := snd_aload_n dX1_undoFrom_18 rfl
theorem s_X1_undoFrom_19 : Snd PG.nam M30 19 (m_iload 3 20) := snd_iload_n dX1_undoFrom_19 rfl
theorem s_X1_undoFrom_20 : Snd PG.nam M30 20 (m_aload 4 22) := snd_aload dX1_undoFrom_20
theorem s_X1_undoFrom_22 : Snd PG.nam M30 22 (m_aast "TripleStore$Commit" [6] 23) := snd_aast dX1_undoFrom_22 (List.forall_mem_cons.mpr ⟨⟨_, rfl, Or.inr rfl⟩, (fun ci hci => absurd hci List.not_mem_nil)⟩)
theorem s_X1_undoFrom_23 : Snd PG.nam M30 23 (m_iinc 3 (nI 1) 26) := snd_iinc dX1_undoFrom_23 (by decide) (by decide)
theorem s_X1_undoFrom_26 : Snd PG.nam M30 26 (m_aload 4 28) := snd_aload dX1_undoFrom_26
theorem s_X1_undoFrom_28 : Snd PG.nam M30 28 (m_getf [(6, 1)] 31) := snd_getf dX1_undoFrom_28 fd_X1_110
theorem s_X1_undoFrom_31 : Snd PG.nam M30 31 (m_astore 4 33) := snd_astore dX1_undoFrom_31 (by decide)
theorem s_X1_undoFrom_33 : Snd PG.nam M30 33 (m_goto 13) := snd_goto dX1_undoFrom_33 (by decide)
theorem s_X1_undoFrom_36 : Snd PG.nam M30 36 (m_iload 3 37) := snd_iload_n dX1_undoFrom_36 rfl
theorem s_X1_undoFrom_37 : Snd PG.nam M30 37 (m_const (.int (nI 1)) 38) := snd_iconst dX1_undoFrom_37 (by decide)
theorem s_X1_undoFrom_38 : Snd PG.nam M30 38 (m_ibin (fun a b => a - b) 39) := snd_isub dX1_undoFrom_38
theorem s_X1_undoFrom_39 : Snd PG.nam M30 39 (m_istore 4 41) := snd_istore dX1_undoFrom_39 (by decide)
theorem s_X1_undoFrom_41 : Snd PG.nam M30 41 (m_iload 4 43) := snd_iload dX1_undoFrom_41
theorem s_X1_undoFrom_43 : Snd PG.nam M30 43 (m_ifz (fun x => if x < 0 then 63 else 46)) := snd_if_lt dX1_undoFrom_43 (by decide)
theorem s_X1_undoFrom_46 : Snd PG.nam M30 46 (m_aload 0 47) := snd_aload_n dX1_undoFrom_46 rfl
theorem s_X1_undoFrom_47 : Snd PG.nam M30 47 (m_aload 2 48) := snd_aload_n dX1_undoFrom_47 rfl
theorem s_X1_undoFrom_48 : Snd PG.nam M30 48 (m_iload 4 50) := snd_iload dX1_undoFrom_48
theorem s_X1_undoFrom_50 : Snd PG.nam M30 50 (m_aald 51) := snd_aald dX1_undoFrom_50
theorem s_X1_undoFrom_51 : Snd PG.nam M30 51 (m_getf [(6, 0)] 54) := snd_getf dX1_undoFrom_51 fd_X1_160
theorem s_X1_undoFrom_54 : Snd PG.nam M30 54 (m_callV true [(0, 28)] 1 57) := snd_callV (nam := PG.nam) (List.forall_mem_cons.mpr ⟨dr_V (ym := PG.nam 28) dX1_undoFrom_54 (Or.inl w699) mi_28 rfl (lw_all_tbl qs8), (fun q hq => absurd hq List.not_mem_nil)⟩) (by decide)
theorem s_X1_undoFrom_57 : Snd PG.nam M30 57 (m_iinc 4 (-1) 60) := snd_iinc dX1_undoFrom_57 (by decide) (by decide)
theorem s_X1_undoFrom_60 : Snd PG.nam M30 60 (m_goto 41) := snd_goto dX1_undoFrom_60 (by decide)
theorem s_X1_undoFrom_63 : Snd PG.nam M30 63 (m_vret) := snd_vret dX1_undoFrom_63 rfl
theorem T30 : ∀ q ∈ S30, Snd PG.nam M30 q.1 q.2 := List.forall_mem_cons.mpr ⟨s_X1_undoFrom_0, List.forall_mem_cons.mpr ⟨s_X1_undoFrom_1, List.forall_mem_cons.mpr ⟨s_X1_undoFrom_4, List.forall_mem_cons.mpr ⟨s_X1_undoFrom_7, List.forall_mem_cons.mpr ⟨s_X1_undoFrom_8, List.forall_mem_cons.mpr ⟨s_X1_undoFrom_9, List.forall_mem_cons.mpr ⟨s_X1_undoFrom_10, List.forall_mem_cons.mpr ⟨s_X1_undoFrom_11, List.forall_mem_cons.mpr ⟨s_X1_undoFrom_13, List.forall_mem_cons.mpr ⟨s_X1_undoFrom_15, List.forall_mem_cons.mpr ⟨s_X1_undoFrom_18, List.forall_mem_cons.mpr ⟨s_X1_undoFrom_19, List.forall_mem_cons.mpr ⟨s_X1_undoFrom_20, List.forall_mem_cons.mpr ⟨s_X1_undoFrom_22, List.forall_mem_cons.mpr ⟨s_X1_undoFrom_23, List.forall_mem_cons.mpr ⟨s_X1_undoFrom_26, List.forall_mem_cons.mpr ⟨s_X1_undoFrom_28, List.forall_mem_cons.mpr ⟨s_X1_undoFrom_31, List.forall_mem_cons.mpr ⟨s_X1_undoFrom_33, List.forall_mem_cons.mpr ⟨s_X1_undoFrom_36, List.forall_mem_cons.mpr ⟨s_X1_undoFrom_37, List.forall_mem_cons.mpr ⟨s_X1_undoFrom_38, List.forall_mem_cons.mpr ⟨s_X1_undoFrom_39, List.forall_mem_cons.mpr ⟨s_X1_undoFrom_41, List.forall_mem_cons.mpr ⟨s_X1_undoFrom_43, List.forall_mem_cons.mpr ⟨s_X1_undoFrom_46, List.forall_mem_cons.mpr ⟨s_X1_undoFrom_47, List.forall_mem_cons.mpr ⟨s_X1_undoFrom_48, List.forall_mem_cons.mpr ⟨s_X1_undoFrom_50, List.forall_mem_cons.mpr ⟨s_X1_undoFrom_51, List.forall_mem_cons.mpr ⟨s_X1_undoFrom_54, List.forall_mem_cons.mpr ⟨s_X1_undoFrom_57, List.forall_mem_cons.mpr ⟨s_X1_undoFrom_60, List.forall_mem_cons.mpr ⟨s_X1_undoFrom_63, (fun q hq => absurd hq List.not_mem_nil)⟩⟩⟩⟩⟩⟩⟩⟩⟩⟩⟩⟩⟩⟩⟩⟩⟩⟩⟩⟩⟩⟩⟩⟩⟩⟩⟩⟩⟩⟩⟩⟩⟩⟩
theorem s_X1_append_0 : Snd PG.nam M31 0 (m_iload 3 1) := snd_iload_n dX1_append_0 rfl
theorem s_X1_append_1 : Snd PG.nam M31 1 (m_const (.int (nI 1)) 2) := snd_iconst dX1_append_1 (by decide)
theorem s_X1_append_2 : Snd PG.nam M31 2 (m_icmp (fun x z => if x < z then 11 else 5)) := snd_icmp_lt dX1_append_2 (by decide)
theorem s_X1_append_5 : Snd PG.nam M31 5 (m_iload 3 6) := snd_iload_n dX1_append_5 rfl
theorem s_X1_append_6 : Snd PG.nam M31 6 (m_const (.int (nI 8)) 8) := snd_bipush dX1_append_6 (by decide)
theorem s_X1_append_8 : Snd PG.nam M31 8 (m_icmp (fun x z => if z < x then 11 else 19)) := snd_icmp_le dX1_append_8 (by decide)
theorem s_X1_append_11 : Snd PG.nam M31 11 (m_thr 24) := snd_thr exc_J7 rfl dX1_append_11 dX1_append_14 dX1_append_15 dX1_append_18 w223 w265 w73 (by decide)
theorem s_X1_append_19 : Snd PG.nam M31 19 (m_const (.int (nI 0)) 20) := snd_iconst dX1_append_19 (by decide)
theorem s_X1_append_20 : Snd PG.nam M31 20 (m_istore 4 22) := snd_istore dX1_append_20 (by decide)
theorem s_X1_append_22 : Snd PG.nam M31 22 (m_iload 4 24) := snd_iload dX1_append_22
theorem s_X1_append_24 : Snd PG.nam M31 24 (m_iload 3 25) := snd_iload_n dX1_append_24 rfl
theorem s_X1_append_25 : Snd PG.nam M31 25 (m_icmp (fun x z => if x < z then 28 else 70)) := snd_icmp_ge dX1_append_25 (by decide)
theorem s_X1_append_28 : Snd PG.nam M31 28 (m_lload 1 29) := snd_lload_n dX1_append_28 rfl
theorem s_X1_append_29 : Snd PG.nam M31 29 (m_const (.int (nI 8)) 31) := snd_bipush dX1_append_29 (by decide)
theorem s_X1_append_31 : Snd PG.nam M31 31 (m_iload 4 33) := snd_iload dX1_append_31
theorem s_X1_append_33 : Snd PG.nam M31 33 (m_ibin (fun a b => a * b) 34) := snd_imul dX1_append_33
theorem s_X1_append_34 : Snd PG.nam M31 34 (m_lsh (fun a b => a >>> (b.toInt64 &&& 63)) 35) := snd_lshr dX1_append_34
theorem s_X1_append_35 : Snd PG.nam M31 35 (m_l2i 36) := snd_l2i dX1_append_35
theorem s_X1_append_36 : Snd PG.nam M31 36 (m_const (.int (nI 255)) 39) := snd_sipush dX1_append_36 (by decide)
theorem s_X1_append_39 : Snd PG.nam M31 39 (m_ibin (fun a b => a &&& b) 40) := snd_iand dX1_append_39
theorem s_X1_append_40 : Snd PG.nam M31 40 (m_istore 5 42) := snd_istore dX1_append_40 (by decide)
theorem s_X1_append_42 : Snd PG.nam M31 42 (m_iload 5 44) := snd_iload dX1_append_42
theorem s_X1_append_44 : Snd PG.nam M31 44 (m_const (.int (nI 32)) 46) := snd_bipush dX1_append_44 (by decide)
theorem s_X1_append_46 : Snd PG.nam M31 46 (m_icmp (fun x z => if x < z then 56 else 49)) := snd_icmp_lt dX1_append_46 (by decide)
theorem s_X1_append_49 : Snd PG.nam M31 49 (m_iload 5 51) := snd_iload dX1_append_49
theorem s_X1_append_51 : Snd PG.nam M31 51 (m_const (.int (nI 126)) 53) := snd_bipush dX1_append_51 (by decide)
theorem s_X1_append_53 : Snd PG.nam M31 53 (m_icmp (fun x z => if z < x then 56 else 64)) := snd_icmp_le dX1_append_53 (by decide)
theorem s_X1_append_56 : Snd PG.nam M31 56 (m_thr 24) := snd_thr exc_J7 rfl dX1_append_56 dX1_append_59 dX1_append_60 dX1_append_63 w223 w265 w73 (by decide)
theorem s_X1_append_64 : Snd PG.nam M31 64 (m_iinc 4 (nI 1) 67) := snd_iinc dX1_append_64 (by decide) (by decide)
theorem s_X1_append_67 : Snd PG.nam M31 67 (m_goto 22) := snd_goto dX1_append_67 (by decide)
theorem s_X1_append_70 : Snd PG.nam M31 70 (m_aload 0 71) := snd_aload_n dX1_append_70 rfl
theorem s_X1_append_71 : Snd PG.nam M31 71 (m_getf [(0, 9)] 74) := snd_getf dX1_append_71 fd_X1_20
theorem s_X1_append_74 : Snd PG.nam M31 74 (m_callV false [(22, 172)] 0 77) := snd_callV (nam := PG.nam) (List.forall_mem_cons.mpr ⟨dr_V (ym := PG.nam 172) dX1_append_74 (Or.inl w302) mi_172 rfl w304, (fun q hq => absurd hq List.not_mem_nil)⟩) (by decide)
theorem s_X1_append_77 : Snd PG.nam M31 77 (m_iload 3 78) := snd_iload_n dX1_append_77 rfl
theorem s_X1_append_78 : Snd PG.nam M31 78 (m_ibin (fun a b => a + b) 79) := snd_iadd dX1_append_78
theorem s_X1_append_79 : Snd PG.nam M31 79 (m_const (.int (nI 160)) 82) := snd_sipush dX1_append_79 (by decide)
theorem s_X1_append_82 : Snd PG.nam M31 82 (m_icmp (fun x z => if z < x then 85 else 93)) := snd_icmp_le dX1_append_82 (by decide)
theorem s_X1_append_85 : Snd PG.nam M31 85 (m_thr 25) := snd_thr exc_J14 rfl dX1_append_85 dX1_append_88 dX1_append_89 dX1_append_92 w599 w608 w85 (by decide)
theorem s_X1_append_93 : Snd PG.nam M31 93 (m_iload 3 94) := snd_iload_n dX1_append_93 rfl
theorem s_X1_append_94 : Snd PG.nam M31 94 (m_const (.int (nI 1)) 95) := snd_iconst dX1_append_94 (by decide)
theorem s_X1_append_95 : Snd PG.nam M31 95 (m_ibin (fun a b => a - b) 96) := snd_isub dX1_append_95
theorem s_X1_append_96 : Snd PG.nam M31 96 (m_istore 4 98) := snd_istore dX1_append_96 (by decide)
theorem s_X1_append_98 : Snd PG.nam M31 98 (m_iload 4 100) := snd_iload dX1_append_98
theorem s_X1_append_100 : Snd PG.nam M31 100 (m_ifz (fun x => if x < 0 then 130 else 103)) := snd_if_lt dX1_append_100 (by decide)
theorem s_X1_append_103 : Snd PG.nam M31 103 (m_aload 0 104) := snd_aload_n dX1_append_103 rfl
theorem s_X1_append_104 : Snd PG.nam M31 104 (m_getf [(0, 9)] 107) := snd_getf dX1_append_104 fd_X1_20
theorem s_X1_append_107 : Snd PG.nam M31 107 (m_lload 1 108) := snd_lload_n dX1_append_107 rfl
theorem s_X1_append_108 : Snd PG.nam M31 108 (m_const (.int (nI 8)) 110) := snd_bipush dX1_append_108 (by decide)
theorem s_X1_append_110 : Snd PG.nam M31 110 (m_iload 4 112) := snd_iload dX1_append_110
theorem s_X1_append_112 : Snd PG.nam M31 112 (m_ibin (fun a b => a * b) 113) := snd_imul dX1_append_112
theorem s_X1_append_113 : Snd PG.nam M31 113 (m_lsh (fun a b => a >>> (b.toInt64 &&& 63)) 114) := snd_lshr dX1_append_113
theorem s_X1_append_114 : Snd PG.nam M31 114 (m_l2i 115) := snd_l2i dX1_append_114
theorem s_X1_append_115 : Snd PG.nam M31 115 (m_const (.int (nI 255)) 118) := snd_sipush dX1_append_115 (by decide)
theorem s_X1_append_118 : Snd PG.nam M31 118 (m_ibin (fun a b => a &&& b) 119) := snd_iand dX1_append_118
theorem s_X1_append_119 : Snd PG.nam M31 119 (m_iun (fun a => (a.toUInt32 % 65536).toInt32) 120) := snd_i2c dX1_append_119
theorem s_X1_append_120 : Snd PG.nam M31 120 (m_callV false [(22, 173)] 1 123) := snd_callV (nam := PG.nam) (List.forall_mem_cons.mpr ⟨dr_V (ym := PG.nam 173) dX1_append_120 (Or.inl w309) mi_173 rfl w311, (fun q hq => absurd hq List.not_mem_nil)⟩) (by decide)
theorem s_X1_append_123 : Snd PG.nam M31 123 (m_pop 124) := snd_pop dX1_append_123
theorem s_X1_append_124 : Snd PG.nam M31 124 (m_iinc 4 (-1) 127) := snd_iinc dX1_append_124 (by decide) (by decide)
theorem s_X1_append_127 : Snd PG.nam M31 127 (m_goto 98) := snd_goto dX1_append_127 (by decide)
theorem s_X1_append_130 : Snd PG.nam M31 130 (m_aload 0 131) := snd_aload_n dX1_append_130 rfl
theorem s_X1_append_131 : Snd PG.nam M31 131 (m_getf [(0, 9)] 134) := snd_getf dX1_append_131 fd_X1_20
theorem s_X1_append_134 : Snd PG.nam M31 134 (m_callV false [(22, 172)] 0 137) := snd_callV (nam := PG.nam) (List.forall_mem_cons.mpr ⟨dr_V (ym := PG.nam 172) dX1_append_134 (Or.inl w302) mi_172 rfl w304, (fun q hq => absurd hq List.not_mem_nil)⟩) (by decide)
theorem s_X1_append_137 : Snd PG.nam M31 137 (m_iret .int) := snd_iret dX1_append_137 rfl
theorem T31 : ∀ q ∈ S31, Snd PG.nam M31 q.1 q.2 := List.forall_mem_cons.mpr ⟨s_X1_append_0, List.forall_mem_cons.mpr ⟨s_X1_append_1, List.forall_mem_cons.mpr ⟨s_X1_append_2, List.forall_mem_cons.mpr ⟨s_X1_append_5, List.forall_mem_cons.mpr ⟨s_X1_append_6, List.forall_mem_cons.mpr ⟨s_X1_append_8, List.forall_mem_cons.mpr ⟨s_X1_append_11, List.forall_mem_cons.mpr ⟨s_X1_append_19, List.forall_mem_cons.mpr ⟨s_X1_append_20, List.forall_mem_cons.mpr ⟨s_X1_append_22, List.forall_mem_cons.mpr ⟨s_X1_append_24, List.forall_mem_cons.mpr ⟨s_X1_append_25, List.forall_mem_cons.mpr ⟨s_X1_append_28, List.forall_mem_cons.mpr ⟨s_X1_append_29, List.forall_mem_cons.mpr ⟨s_X1_append_31, List.forall_mem_cons.mpr ⟨s_X1_append_33, List.forall_mem_cons.mpr ⟨s_X1_append_34, List.forall_mem_cons.mpr ⟨s_X1_append_35, List.forall_mem_cons.mpr ⟨s_X1_append_36, List.forall_mem_cons.mpr ⟨s_X1_append_39, List.forall_mem_cons.mpr ⟨s_X1_append_40, List.forall_mem_cons.mpr ⟨s_X1_append_42, List.forall_mem_cons.mpr ⟨s_X1_append_44, List.forall_mem_cons.mpr ⟨s_X1_append_46, List.forall_mem_cons.mpr ⟨s_X1_append_49, List.forall_mem_cons.mpr ⟨s_X1_append_51, List.forall_mem_cons.mpr ⟨s_X1_append_53, List.forall_mem_cons.mpr ⟨s_X1_append_56, List.forall_mem_cons.mpr ⟨s_X1_append_64, List.forall_mem_cons.mpr ⟨s_X1_append_67, List.forall_mem_cons.mpr ⟨s_X1_append_70, List.forall_mem_cons.mpr ⟨s_X1_append_71, List.forall_mem_cons.mpr ⟨s_X1_append_74, List.forall_mem_cons.mpr ⟨s_X1_append_77, List.forall_mem_cons.mpr ⟨s_X1_append_78, List.forall_mem_cons.mpr ⟨s_X1_append_79, List.forall_mem_cons.mpr ⟨s_X1_append_82, List.forall_mem_cons.mpr ⟨s_X1_append_85, List.forall_mem_cons.mpr ⟨s_X1_append_93, List.forall_mem_cons.mpr ⟨s_X1_append_94, List.forall_mem_cons.mpr ⟨s_X1_append_95, List.forall_mem_cons.mpr ⟨s_X1_append_96, List.forall_mem_cons.mpr ⟨s_X1_append_98, List.forall_mem_cons.mpr ⟨s_X1_append_100, List.forall_mem_cons.mpr ⟨s_X1_append_103, List.forall_mem_cons.mpr ⟨s_X1_append_104, List.forall_mem_cons.mpr ⟨s_X1_append_107, List.forall_mem_cons.mpr ⟨s_X1_append_108, List.forall_mem_cons.mpr ⟨s_X1_append_110, List.forall_mem_cons.mpr ⟨s_X1_append_112, List.forall_mem_cons.mpr ⟨s_X1_append_113, List.forall_mem_cons.mpr ⟨s_X1_append_114, List.forall_mem_cons.mpr ⟨s_X1_append_115, List.forall_mem_cons.mpr ⟨s_X1_append_118, List.forall_mem_cons.mpr ⟨s_X1_append_119, List.forall_mem_cons.mpr ⟨s_X1_append_120, List.forall_mem_cons.mpr ⟨s_X1_append_123, List.forall_mem_cons.mpr ⟨s_X1_append_124, List.forall_mem_cons.mpr ⟨s_X1_append_127, List.forall_mem_cons.mpr ⟨s_X1_append_130, List.forall_mem_cons.mpr ⟨s_X1_append_131, List.forall_mem_cons.mpr ⟨s_X1_append_134, List.forall_mem_cons.mpr ⟨s_X1_append_137, (fun q hq => absurd hq List.not_mem_nil)⟩⟩⟩⟩⟩⟩⟩⟩⟩⟩⟩⟩⟩⟩⟩⟩⟩⟩⟩⟩⟩⟩⟩⟩⟩⟩⟩⟩⟩⟩⟩⟩⟩⟩⟩⟩⟩⟩⟩⟩⟩⟩⟩⟩⟩⟩⟩⟩⟩⟩⟩⟩⟩⟩⟩⟩⟩⟩⟩⟩⟩⟩⟩
theorem s_X1_ask_0 : Snd PG.nam M32 0 (m_aload 0 1) := snd_aload_n dX1_ask_0 rfl
theorem s_X1_ask_1 : Snd PG.nam M32 1 (m_getf [(0, 9)] 4) := snd_getf dX1_ask_1 fd_X1_20
theorem s_X1_ask_4 : Snd PG.nam M32 4 (m_callV false [(22, 174)] 0 7) := snd_callV (nam := PG.nam) (List.forall_mem_cons.mpr ⟨dr_V (ym := PG.nam 174) dX1_ask_4 (Or.inl w406) mi_174 rfl w408, (fun q hq => absurd hq List.not_mem_nil)⟩) (by decide)
theorem s_X1_ask_7 : Snd PG.nam M32 7 (m_astore 1 8) := snd_astore_n dX1_ask_7 rfl (by decide)
theorem s_X1_ask_8 : Snd PG.nam M32 8 (m_aload 0 9) := snd_aload_n dX1_ask_8 rfl
theorem s_X1_ask_9 : Snd PG.nam M32 9 (m_getf [(0, 9)] 12) := snd_getf dX1_ask_9 fd_X1_20
theorem s_X1_ask_12 : Snd PG.nam M32 12 (m_const (.int (nI 0)) 13) := snd_iconst dX1_ask_12 (by decide)
theorem s_X1_ask_13 : Snd PG.nam M32 13 (m_callV true [(22, 175)] 1 16) := snd_callV (nam := PG.nam) (List.forall_mem_cons.mpr ⟨dr_V (ym := PG.nam 175) dX1_ask_13 (Or.inl w730) mi_175 rfl w732, (fun q hq => absurd hq List.not_mem_nil)⟩) (by decide)
theorem s_X1_ask_16 : Snd PG.nam M32 16 (m_new 7 [.null, .null, .null, .int 0, .int 0, .null, .int 0, .int 0, .int 0, .int 0, .int 0] 19) := snd_new dX1_ask_16 rfl w753 w754 w88 rfl (by decide +kernel)
theorem s_X1_ask_19 : Snd PG.nam M32 19 (m_dup 20) := snd_dup dX1_ask_19
theorem s_X1_ask_20 : Snd PG.nam M32 20 (m_aload 0 21) := snd_aload_n dX1_ask_20 rfl
theorem s_X1_ask_21 : Snd PG.nam M32 21 (m_aload 1 22) := snd_aload_n dX1_ask_21 rfl
theorem s_X1_ask_22 : Snd PG.nam M32 22 (m_callI 107 2 25) := snd_callI (nam := PG.nam) (yy := 107) dX1_ask_22 (Or.inl w755) mi_107 rfl w757 (by decide)
theorem s_X1_ask_25 : Snd PG.nam M32 25 (m_callV false [(7, 114)] 0 28) := snd_callV (nam := PG.nam) (List.forall_mem_cons.mpr ⟨dr_V (ym := PG.nam 114) dX1_ask_25 (Or.inl w925) mi_114 rfl w927, (fun q hq => absurd hq List.not_mem_nil)⟩) (by decide)
theorem s_X1_ask_28 : Snd PG.nam M32 28 (m_astore 2 29) := snd_astore_n dX1_ask_28 rfl (by decide)
theorem s_X1_ask_29 : Snd PG.nam M32 29 (m_aload 0 30) := snd_aload_n dX1_ask_29 rfl
theorem s_X1_ask_30 : Snd PG.nam M32 30 (m_const (.int (-1)) 31) := snd_iconst dX1_ask_30 (by decide)
theorem s_X1_ask_31 : Snd PG.nam M32 31 (m_putf [(0, 10)] .int 34) := snd_putf dX1_ask_31 fd_X1_24
theorem s_X1_ask_34 : Snd PG.nam M32 34 (m_aload 0 35) := snd_aload_n dX1_ask_34 rfl
theorem s_X1_ask_35 : Snd PG.nam M32 35 (m_const (.int (nI 0)) 36) := snd_iconst dX1_ask_35 (by decide)
theorem s_X1_ask_36 : Snd PG.nam M32 36 (m_putf [(0, 12)] .int 39) := snd_putf dX1_ask_36 fd_X1_175
theorem s_X1_ask_39 : Snd PG.nam M32 39 (m_aload 0 40) := snd_aload_n dX1_ask_39 rfl
theorem s_X1_ask_40 : Snd PG.nam M32 40 (m_aload 2 41) := snd_aload_n dX1_ask_40 rfl
theorem s_X1_ask_41 : Snd PG.nam M32 41 (m_getf [(8, 2)] 44) := snd_getf dX1_ask_41 fd_X1_200
theorem s_X1_ask_44 : Snd PG.nam M32 44 (m_putf [(0, 13)] .int 47) := snd_putf dX1_ask_44 fd_X1_203
theorem s_X1_ask_47 : Snd PG.nam M32 47 (m_aload 2 48) := snd_aload_n dX1_ask_47 rfl
theorem s_X1_ask_48 : Snd PG.nam M32 48 (m_getf [(8, 3)] 51) := snd_getf dX1_ask_48 fd_X1_206
theorem s_X1_ask_51 : Snd PG.nam M32 51 (m_aload 0 52) := snd_aload_n dX1_ask_51 rfl
theorem s_X1_ask_52 : Snd PG.nam M32 52 (m_callV false [(9, 128)] 1 55) := snd_callV (nam := PG.nam) (List.forall_mem_cons.mpr ⟨dr_V (ym := PG.nam 128) dX1_ask_52 (Or.inl w1157) mi_128 rfl w1159, (fun q hq => absurd hq List.not_mem_nil)⟩) (by decide)
theorem s_X1_ask_55 : Snd PG.nam M32 55 (m_astore 3 56) := snd_astore_n dX1_ask_55 rfl (by decide)
theorem s_X1_ask_56 : Snd PG.nam M32 56 (m_aload 0 57) := snd_aload_n dX1_ask_56 rfl
theorem s_X1_ask_57 : Snd PG.nam M32 57 (m_aload 3 58) := snd_aload_n dX1_ask_57 rfl
theorem s_X1_ask_58 : Snd PG.nam M32 58 (m_getf [(19, 1)] 61) := snd_getf dX1_ask_58 fd_X1_215
theorem s_X1_ask_61 : Snd PG.nam M32 61 (m_anew "TripleStore$Row" 64) := snd_anew dX1_ask_61 w150 w151
theorem s_X1_ask_64 : Snd PG.nam M32 64 (m_putf [(0, 11)] (.array (.object "TripleStore$Row")) 67) := snd_putf dX1_ask_64 fd_X1_30
theorem s_X1_ask_67 : Snd PG.nam M32 67 (m_const (.int (nI 0)) 68) := snd_iconst dX1_ask_67 (by decide)
theorem s_X1_ask_68 : Snd PG.nam M32 68 (m_istore 4 70) := snd_istore dX1_ask_68 (by decide)
theorem s_X1_ask_70 : Snd PG.nam M32 70 (m_iload 4 72) := snd_iload dX1_ask_70
theorem s_X1_ask_72 : Snd PG.nam M32 72 (m_aload 3 73) := snd_aload_n dX1_ask_72 rfl
theorem s_X1_ask_73 : Snd PG.nam M32 73 (m_getf [(19, 1)] 76) := snd_getf dX1_ask_73 fd_X1_215
theorem s_X1_ask_76 : Snd PG.nam M32 76 (m_icmp (fun x z => if x < z then 79 else 105)) := snd_icmp_ge dX1_ask_76 (by decide)
theorem s_X1_ask_79 : Snd PG.nam M32 79 (m_aload 0 80) := snd_aload_n dX1_ask_79 rfl
theorem s_X1_ask_80 : Snd PG.nam M32 80 (m_new 21 [.null, .null] 83) := snd_new dX1_ask_80 rfl w150 w1314 w104 rfl (by decide +kernel)
theorem s_X1_ask_83 : Snd PG.nam M32 83 (m_dup 84) := snd_dup dX1_ask_83
theorem s_X1_ask_84 : Snd PG.nam M32 84 (m_aload 2 85) := snd_aload_n dX1_ask_84 rfl
theorem s_X1_ask_85 : Snd PG.nam M32 85 (m_aload 3 86) := snd_aload_n dX1_ask_85 rfl
theorem s_X1_ask_86 : Snd PG.nam M32 86 (m_getf [(19, 0)] 89) := snd_getf dX1_ask_86 fd_X1_218
theorem s_X1_ask_89 : Snd PG.nam M32 89 (m_iload 4 91) := snd_iload dX1_ask_89
theorem s_X1_ask_91 : Snd PG.nam M32 91 (m_aald 92) := snd_aald dX1_ask_91
theorem s_X1_ask_92 : Snd PG.nam M32 92 (m_callI 160 2 95) := snd_callI (nam := PG.nam) (yy := 160) dX1_ask_92 (Or.inl w1315) mi_160 rfl w1317 (by decide)
theorem s_X1_ask_95 : Snd PG.nam M32 95 (m_aload 2 96) := snd_aload_n dX1_ask_95 rfl
theorem s_X1_ask_96 : Snd PG.nam M32 96 (m_callV true [(0, 33)] 2 99) := snd_callV (nam := PG.nam) (List.forall_mem_cons.mpr ⟨dr_V (ym := PG.nam 33) dX1_ask_96 (Or.inl w1328) mi_33 rfl (lw_all_tbl qs23), (fun q hq => absurd hq List.not_mem_nil)⟩) (by decide)
theorem s_X1_ask_99 : Snd PG.nam M32 99 (m_iinc 4 (nI 1) 102) := snd_iinc dX1_ask_99 (by decide) (by decide)
theorem s_X1_ask_102 : Snd PG.nam M32 102 (m_goto 70) := snd_goto dX1_ask_102 (by decide)
theorem s_X1_ask_105 : Snd PG.nam M32 105 (m_aload 0 106) := snd_aload_n dX1_ask_105 rfl
theorem s_X1_ask_106 : Snd PG.nam M32 106 (m_aload 0 107) := snd_aload_n dX1_ask_106 rfl
theorem s_X1_ask_107 : Snd PG.nam M32 107 (m_getf [(0, 12)] 110) := snd_getf dX1_ask_107 fd_X1_175
theorem s_X1_ask_110 : Snd PG.nam M32 110 (m_aload 2 111) := snd_aload_n dX1_ask_110 rfl
theorem s_X1_ask_111 : Snd PG.nam M32 111 (m_getf [(8, 6)] 114) := snd_getf dX1_ask_111 fd_X1_229
theorem s_X1_ask_114 : Snd PG.nam M32 114 (m_callS false 190 2 117) := snd_callS (nam := PG.nam) (yy := 190) dX1_ask_114 (Or.inl w1346) w346 ⟨by decide, by decide +kernel⟩ (by decide)
theorem s_X1_ask_117 : Snd PG.nam M32 117 (m_putf [(0, 12)] .int 120) := snd_putf dX1_ask_117 fd_X1_175
theorem s_X1_ask_120 : Snd PG.nam M32 120 (m_aload 0 121) := snd_aload_n dX1_ask_120 rfl
theorem s_X1_ask_121 : Snd PG.nam M32 121 (m_getf [(0, 12)] 124) := snd_getf dX1_ask_121 fd_X1_175
theorem s_X1_ask_124 : Snd PG.nam M32 124 (m_iret .int) := snd_iret dX1_ask_124 rfl
theorem T32 : ∀ q ∈ S32, Snd PG.nam M32 q.1 q.2 := List.forall_mem_cons.mpr ⟨s_X1_ask_0, List.forall_mem_cons.mpr ⟨s_X1_ask_1, List.forall_mem_cons.mpr ⟨s_X1_ask_4, List.forall_mem_cons.mpr ⟨s_X1_ask_7, List.forall_mem_cons.mpr ⟨s_X1_ask_8, List.forall_mem_cons.mpr ⟨s_X1_ask_9, List.forall_mem_cons.mpr ⟨s_X1_ask_12, List.forall_mem_cons.mpr ⟨s_X1_ask_13, List.forall_mem_cons.mpr ⟨s_X1_ask_16, List.forall_mem_cons.mpr ⟨s_X1_ask_19, List.forall_mem_cons.mpr ⟨s_X1_ask_20, List.forall_mem_cons.mpr ⟨s_X1_ask_21, List.forall_mem_cons.mpr ⟨s_X1_ask_22, List.forall_mem_cons.mpr ⟨s_X1_ask_25, List.forall_mem_cons.mpr ⟨s_X1_ask_28, List.forall_mem_cons.mpr ⟨s_X1_ask_29, List.forall_mem_cons.mpr ⟨s_X1_ask_30, List.forall_mem_cons.mpr ⟨s_X1_ask_31, List.forall_mem_cons.mpr ⟨s_X1_ask_34, List.forall_mem_cons.mpr ⟨s_X1_ask_35, List.forall_mem_cons.mpr ⟨s_X1_ask_36, List.forall_mem_cons.mpr ⟨s_X1_ask_39, List.forall_mem_cons.mpr ⟨s_X1_ask_40, List.forall_mem_cons.mpr ⟨s_X1_ask_41, List.forall_mem_cons.mpr ⟨s_X1_ask_44, List.forall_mem_cons.mpr ⟨s_X1_ask_47, List.forall_mem_cons.mpr ⟨s_X1_ask_48, List.forall_mem_cons.mpr ⟨s_X1_ask_51, List.forall_mem_cons.mpr ⟨s_X1_ask_52, List.forall_mem_cons.mpr ⟨s_X1_ask_55, List.forall_mem_cons.mpr ⟨s_X1_ask_56, List.forall_mem_cons.mpr ⟨s_X1_ask_57, List.forall_mem_cons.mpr ⟨s_X1_ask_58, List.forall_mem_cons.mpr ⟨s_X1_ask_61, List.forall_mem_cons.mpr ⟨s_X1_ask_64, List.forall_mem_cons.mpr ⟨s_X1_ask_67, List.forall_mem_cons.mpr ⟨s_X1_ask_68, List.forall_mem_cons.mpr ⟨s_X1_ask_70, List.forall_mem_cons.mpr ⟨s_X1_ask_72, List.forall_mem_cons.mpr ⟨s_X1_ask_73, List.forall_mem_cons.mpr ⟨s_X1_ask_76, List.forall_mem_cons.mpr ⟨s_X1_ask_79, List.forall_mem_cons.mpr ⟨s_X1_ask_80, List.forall_mem_cons.mpr ⟨s_X1_ask_83, List.forall_mem_cons.mpr ⟨s_X1_ask_84, List.forall_mem_cons.mpr ⟨s_X1_ask_85, List.forall_mem_cons.mpr ⟨s_X1_ask_86, List.forall_mem_cons.mpr ⟨s_X1_ask_89, List.forall_mem_cons.mpr ⟨s_X1_ask_91, List.forall_mem_cons.mpr ⟨s_X1_ask_92, List.forall_mem_cons.mpr ⟨s_X1_ask_95, List.forall_mem_cons.mpr ⟨s_X1_ask_96, List.forall_mem_cons.mpr ⟨s_X1_ask_99, List.forall_mem_cons.mpr ⟨s_X1_ask_102, List.forall_mem_cons.mpr ⟨s_X1_ask_105, List.forall_mem_cons.mpr ⟨s_X1_ask_106, List.forall_mem_cons.mpr ⟨s_X1_ask_107, List.forall_mem_cons.mpr ⟨s_X1_ask_110, List.forall_mem_cons.mpr ⟨s_X1_ask_111, List.forall_mem_cons.mpr ⟨s_X1_ask_114, List.forall_mem_cons.mpr ⟨s_X1_ask_117, List.forall_mem_cons.mpr ⟨s_X1_ask_120, List.forall_mem_cons.mpr ⟨s_X1_ask_121, List.forall_mem_cons.mpr ⟨s_X1_ask_124, (fun q hq => absurd hq List.not_mem_nil)⟩⟩⟩⟩⟩⟩⟩⟩⟩⟩⟩⟩⟩⟩⟩⟩⟩⟩⟩⟩⟩⟩⟩⟩⟩⟩⟩⟩⟩⟩⟩⟩⟩⟩⟩⟩⟩⟩⟩⟩⟩⟩⟩⟩⟩⟩⟩⟩⟩⟩⟩⟩⟩⟩⟩⟩⟩⟩⟩⟩⟩⟩⟩⟩
theorem s_X1_enter_0 : Snd PG.nam M33 0 (m_aload 2 1) := snd_aload_n dX1_enter_0 rfl
theorem s_X1_enter_1 : Snd PG.nam M33 1 (m_getf [(8, 0)] 4) := snd_getf dX1_enter_1 fd_X1_170
theorem s_X1_enter_4 : Snd PG.nam M33 4 (m_ifz (fun x => if x = 0 then 104 else 7)) := snd_if_eq dX1_enter_4 (by decide)
theorem s_X1_enter_7 : Snd PG.nam M33 7 (m_const (.int (nI 0)) 8) := snd_iconst dX1_enter_7 (by decide)
theorem s_X1_enter_8 : Snd PG.nam M33 8 (m_istore 3 9) := snd_istore_n dX1_enter_8 rfl (by decide)
theorem s_X1_enter_9 : Snd PG.nam M33 9 (m_iload 3 10) := snd_iload_n dX1_enter_9 rfl
theorem s_X1_enter_10 : Snd PG.nam M33 10 (m_aload 0 11) := snd_aload_n dX1_enter_10 rfl
theorem s_X1_enter_11 : Snd PG.nam M33 11 (m_getf [(0, 12)] 14) := snd_getf dX1_enter_11 fd_X1_175
theorem s_X1_enter_14 : Snd PG.nam M33 14 (m_icmp (fun x z => if x < z then 17 else 104)) := snd_icmp_ge dX1_enter_14 (by decide)
theorem s_X1_enter_17 : Snd PG.nam M33 17 (m_aload 0 18) := snd_aload_n dX1_enter_17 rfl
theorem s_X1_enter_18 : Snd PG.nam M33 18 (m_getf [(0, 11)] 21) := snd_getf dX1_enter_18 fd_X1_30
theorem s_X1_enter_21 : Snd PG.nam M33 21 (m_iload 3 22) := snd_iload_n dX1_enter_21 rfl
theorem s_X1_enter_22 : Snd PG.nam M33 22 (m_aald 23) := snd_aald dX1_enter_22
theorem s_X1_enter_23 : Snd PG.nam M33 23 (m_aload 1 24) := snd_aload_n dX1_enter_23 rfl
theorem s_X1_enter_24 : Snd PG.nam M33 24 (m_callV false [(21, 161)] 1 27) := snd_callV (nam := PG.nam) (List.forall_mem_cons.mpr ⟨dr_V (ym := PG.nam 161) dX1_enter_24 (Or.inl w1332) mi_161 rfl w1334, (fun q hq => absurd hq List.not_mem_nil)⟩) (by decide)
theorem s_X1_enter_27 : Snd PG.nam M33 27 (m_ifz (fun x => if x = 0 then 33 else 30)) := snd_if_eq dX1_enter_27 (by decide)
theorem s_X1_enter_30 : Snd PG.nam M33 30 (m_goto 98) := snd_goto dX1_enter_30 (by decide)
theorem s_X1_enter_33 : Snd PG.nam M33 33 (m_aload 1 34) := snd_aload_n dX1_enter_33 rfl
theorem s_X1_enter_34 : Snd PG.nam M33 34 (m_aload 0 35) := snd_aload_n dX1_enter_34 rfl
theorem s_X1_enter_35 : Snd PG.nam M33 35 (m_getf [(0, 11)] 38) := snd_getf dX1_enter_35 fd_X1_30
theorem s_X1_enter_38 : Snd PG.nam M33 38 (m_iload 3 39) := snd_iload_n dX1_enter_38 rfl
theorem s_X1_enter_39 : Snd PG.nam M33 39 (m_aald 40) := snd_aald dX1_enter_39
theorem s_X1_enter_40 : Snd PG.nam M33 40 (m_aload 2 41) := snd_aload_n dX1_enter_40 rfl
theorem s_X1_enter_41 : Snd PG.nam M33 41 (m_getf [(8, 5)] 44) := snd_getf dX1_enter_41 fd_X1_182
theorem s_X1_enter_44 : Snd PG.nam M33 44 (m_callV false [(21, 163)] 2 47) := snd_callV (nam := PG.nam) (List.forall_mem_cons.mpr ⟨dr_V (ym := PG.nam 163) dX1_enter_44 (Or.inl w1341) mi_163 rfl w1343, (fun q hq => absurd hq List.not_mem_nil)⟩) (by decide)
theorem s_X1_enter_47 : Snd PG.nam M33 47 (m_ifz (fun x => if x = 0 then 50 else 51)) := snd_if_ne dX1_enter_47 (by decide)
theorem s_X1_enter_50 : Snd PG.nam M33 50 (m_vret) := snd_vret dX1_enter_50 rfl
theorem s_X1_enter_51 : Snd PG.nam M33 51 (m_aload 0 52) := snd_aload_n dX1_enter_51 rfl
theorem s_X1_enter_52 : Snd PG.nam M33 52 (m_dup 53) := snd_dup dX1_enter_52
theorem s_X1_enter_53 : Snd PG.nam M33 53 (m_getf [(0, 12)] 56) := snd_getf dX1_enter_53 fd_X1_175
theorem s_X1_enter_56 : Snd PG.nam M33 56 (m_const (.int (nI 1)) 57) := snd_iconst dX1_enter_56 (by decide)
theorem s_X1_enter_57 : Snd PG.nam M33 57 (m_ibin (fun a b => a - b) 58) := snd_isub dX1_enter_57
theorem s_X1_enter_58 : Snd PG.nam M33 58 (m_putf [(0, 12)] .int 61) := snd_putf dX1_enter_58 fd_X1_175
theorem s_X1_enter_61 : Snd PG.nam M33 61 (m_iload 3 62) := snd_iload_n dX1_enter_61 rfl
theorem s_X1_enter_62 : Snd PG.nam M33 62 (m_istore 4 64) := snd_istore dX1_enter_62 (by decide)
theorem s_X1_enter_64 : Snd PG.nam M33 64 (m_iload 4 66) := snd_iload dX1_enter_64
theorem s_X1_enter_66 : Snd PG.nam M33 66 (m_aload 0 67) := snd_aload_n dX1_enter_66 rfl
theorem s_X1_enter_67 : Snd PG.nam M33 67 (m_getf [(0, 12)] 70) := snd_getf dX1_enter_67 fd_X1_175
theorem s_X1_enter_70 : Snd PG.nam M33 70 (m_icmp (fun x z => if x < z then 73 else 95)) := snd_icmp_ge dX1_enter_70 (by decide)
theorem s_X1_enter_73 : Snd PG.nam M33 73 (m_aload 0 74) := snd_aload_n dX1_enter_73 rfl
theorem s_X1_enter_74 : Snd PG.nam M33 74 (m_getf [(0, 11)] 77) := snd_getf dX1_enter_74 fd_X1_30
theorem s_X1_enter_77 : Snd PG.nam M33 77 (m_iload 4 79) := snd_iload dX1_enter_77
theorem s_X1_enter_79 : Snd PG.nam M33 79 (m_aload 0 80) := snd_aload_n dX1_enter_79 rfl
theorem s_X1_enter_80 : Snd PG.nam M33 80 (m_getf [(0, 11)] 83) := snd_getf dX1_enter_80 fd_X1_30
theorem s_X1_enter_83 : Snd PG.nam M33 83 (m_iload 4 85) := snd_iload dX1_enter_83
theorem s_X1_enter_85 : Snd PG.nam M33 85 (m_const (.int (nI 1)) 86) := snd_iconst dX1_enter_85 (by decide)
theorem s_X1_enter_86 : Snd PG.nam M33 86 (m_ibin (fun a b => a + b) 87) := snd_iadd dX1_enter_86
theorem s_X1_enter_87 : Snd PG.nam M33 87 (m_aald 88) := snd_aald dX1_enter_87
theorem s_X1_enter_88 : Snd PG.nam M33 88 (m_aast "TripleStore$Row" [21] 89) := snd_aast dX1_enter_88 (List.forall_mem_cons.mpr ⟨⟨_, rfl, Or.inr rfl⟩, (fun ci hci => absurd hci List.not_mem_nil)⟩)
theorem s_X1_enter_89 : Snd PG.nam M33 89 (m_iinc 4 (nI 1) 92) := snd_iinc dX1_enter_89 (by decide) (by decide)
theorem s_X1_enter_92 : Snd PG.nam M33 92 (m_goto 64) := snd_goto dX1_enter_92 (by decide)
theorem s_X1_enter_95 : Snd PG.nam M33 95 (m_goto 104) := snd_goto dX1_enter_95 (by decide)
theorem s_X1_enter_98 : Snd PG.nam M33 98 (m_iinc 3 (nI 1) 101) := snd_iinc dX1_enter_98 (by decide) (by decide)
theorem s_X1_enter_101 : Snd PG.nam M33 101 (m_goto 9) := snd_goto dX1_enter_101 (by decide)
theorem s_X1_enter_104 : Snd PG.nam M33 104 (m_aload 0 105) := snd_aload_n dX1_enter_104 rfl
theorem s_X1_enter_105 : Snd PG.nam M33 105 (m_getf [(0, 12)] 108) := snd_getf dX1_enter_105 fd_X1_175
theorem s_X1_enter_108 : Snd PG.nam M33 108 (m_istore 3 109) := snd_istore_n dX1_enter_108 rfl (by decide)
theorem s_X1_enter_109 : Snd PG.nam M33 109 (m_iload 3 110) := snd_iload_n dX1_enter_109 rfl
theorem s_X1_enter_110 : Snd PG.nam M33 110 (m_ifz (fun x => if 0 < x then 113 else 152)) := snd_if_le dX1_enter_110 (by decide)
theorem s_X1_enter_113 : Snd PG.nam M33 113 (m_aload 1 114) := snd_aload_n dX1_enter_113 rfl
theorem s_X1_enter_114 : Snd PG.nam M33 114 (m_aload 0 115) := snd_aload_n dX1_enter_114 rfl
theorem s_X1_enter_115 : Snd PG.nam M33 115 (m_getf [(0, 11)] 118) := snd_getf dX1_enter_115 fd_X1_30
theorem s_X1_enter_118 : Snd PG.nam M33 118 (m_iload 3 119) := snd_iload_n dX1_enter_118 rfl
theorem s_X1_enter_119 : Snd PG.nam M33 119 (m_const (.int (nI 1)) 120) := snd_iconst dX1_enter_119 (by decide)
theorem s_X1_enter_120 : Snd PG.nam M33 120 (m_ibin (fun a b => a - b) 121) := snd_isub dX1_enter_120
theorem s_X1_enter_121 : Snd PG.nam M33 121 (m_aald 122) := snd_aald dX1_enter_121
theorem s_X1_enter_122 : Snd PG.nam M33 122 (m_aload 2 123) := snd_aload_n dX1_enter_122 rfl
theorem s_X1_enter_123 : Snd PG.nam M33 123 (m_getf [(8, 5)] 126) := snd_getf dX1_enter_123 fd_X1_182
theorem s_X1_enter_126 : Snd PG.nam M33 126 (m_callV false [(21, 163)] 2 129) := snd_callV (nam := PG.nam) (List.forall_mem_cons.mpr ⟨dr_V (ym := PG.nam 163) dX1_enter_126 (Or.inl w1341) mi_163 rfl w1343, (fun q hq => absurd hq List.not_mem_nil)⟩) (by decide)
theorem s_X1_enter_129 : Snd PG.nam M33 129 (m_ifz (fun x => if x = 0 then 152 else 132)) := snd_if_eq dX1_enter_129 (by decide)
theorem s_X1_enter_132 : Snd PG.nam M33 132 (m_aload 0 133) := snd_aload_n dX1_enter_132 rfl
theorem s_X1_enter_133 : Snd PG.nam M33 133 (m_getf [(0, 11)] 136) := snd_getf dX1_enter_133 fd_X1_30
theorem s_X1_enter_136 : Snd PG.nam M33 136 (m_iload 3 137) := snd_iload_n dX1_enter_136 rfl
theorem s_X1_enter_137 : Snd PG.nam M33 137 (m_aload 0 138) := snd_aload_n dX1_enter_137 rfl
theorem s_X1_enter_138 : Snd PG.nam M33 138 (m_getf [(0, 11)] 141) := snd_getf dX1_enter_138 fd_X1_30
theorem s_X1_enter_141 : Snd PG.nam M33 141 (m_iload 3 142) := snd_iload_n dX1_enter_141 rfl
theorem s_X1_enter_142 : Snd PG.nam M33 142 (m_const (.int (nI 1)) 143) := snd_iconst dX1_enter_142 (by decide)
theorem s_X1_enter_143 : Snd PG.nam M33 143 (m_ibin (fun a b => a - b) 144) := snd_isub dX1_enter_143
theorem s_X1_enter_144 : Snd PG.nam M33 144 (m_aald 145) := snd_aald dX1_enter_144
theorem s_X1_enter_145 : Snd PG.nam M33 145 (m_aast "TripleStore$Row" [21] 146) := snd_aast dX1_enter_145 (List.forall_mem_cons.mpr ⟨⟨_, rfl, Or.inr rfl⟩, (fun ci hci => absurd hci List.not_mem_nil)⟩)
theorem s_X1_enter_146 : Snd PG.nam M33 146 (m_iinc 3 (-1) 149) := snd_iinc dX1_enter_146 (by decide) (by decide)
theorem s_X1_enter_149 : Snd PG.nam M33 149 (m_goto 109) := snd_goto dX1_enter_149 (by decide)
theorem s_X1_enter_152 : Snd PG.nam M33 152 (m_aload 0 153) := snd_aload_n dX1_enter_152 rfl
theorem s_X1_enter_153 : Snd PG.nam M33 153 (m_getf [(0, 11)] 156) := snd_getf dX1_enter_153 fd_X1_30
theorem s_X1_enter_156 : Snd PG.nam M33 156 (m_iload 3 157) := snd_iload_n dX1_enter_156 rfl
theorem s_X1_enter_157 : Snd PG.nam M33 157 (m_aload 1 158) := snd_aload_n dX1_enter_157 rfl
theorem s_X1_enter_158 : Snd PG.nam M33 158 (m_aast "TripleStore$Row" [21] 159) := snd_aast dX1_enter_158 (List.forall_mem_cons.mpr ⟨⟨_, rfl, Or.inr rfl⟩, (fun ci hci => absurd hci List.not_mem_nil)⟩)
theorem s_X1_enter_159 : Snd PG.nam M33 159 (m_aload 0 160) := snd_aload_n dX1_enter_159 rfl
theorem s_X1_enter_160 : Snd PG.nam M33 160 (m_dup 161) := snd_dup dX1_enter_160
theorem s_X1_enter_161 : Snd PG.nam M33 161 (m_getf [(0, 12)] 164) := snd_getf dX1_enter_161 fd_X1_175
theorem s_X1_enter_164 : Snd PG.nam M33 164 (m_const (.int (nI 1)) 165) := snd_iconst dX1_enter_164 (by decide)
theorem s_X1_enter_165 : Snd PG.nam M33 165 (m_ibin (fun a b => a + b) 166) := snd_iadd dX1_enter_165
theorem s_X1_enter_166 : Snd PG.nam M33 166 (m_putf [(0, 12)] .int 169) := snd_putf dX1_enter_166 fd_X1_175
theorem s_X1_enter_169 : Snd PG.nam M33 169 (m_vret) := snd_vret dX1_enter_169 rfl
theorem T33 : ∀ q ∈ S33, Snd PG.nam M33 q.1 q.2 := List.forall_mem_cons.mpr ⟨s_X1_enter_0, List.forall_mem_cons.mpr ⟨s_X1_enter_1, List.forall_mem_cons.mpr ⟨s_X1_enter_4, List.forall_mem_cons.mpr ⟨s_X1_enter_7, List.forall_mem_cons.mpr ⟨s_X1_enter_8, List.forall_mem_cons.mpr ⟨s_X1_enter_9, List.forall_mem_cons.mpr ⟨s_X1_enter_10, List.forall_mem_cons.mpr ⟨s_X1_enter_11, List.forall_mem_cons.mpr ⟨s_X1_enter_14, List.forall_mem_cons.mpr ⟨s_X1_enter_17, List.forall_mem_cons.mpr ⟨s_X1_enter_18, List.forall_mem_cons.mpr ⟨s_X1_enter_21, List.forall_mem_cons.mpr ⟨s_X1_enter_22, List.forall_mem_cons.mpr ⟨s_X1_enter_23, List.forall_mem_cons.mpr ⟨s_X1_enter_24, List.forall_mem_cons.mpr ⟨s_X1_enter_27, List.forall_mem_cons.mpr ⟨s_X1_enter_30, List.forall_mem_cons.mpr ⟨s_X1_enter_33, List.forall_mem_cons.mpr ⟨s_X1_enter_34, List.forall_mem_cons.mpr ⟨s_X1_enter_35, List.forall_mem_cons.mpr ⟨s_X1_enter_38, List.forall_mem_cons.mpr ⟨s_X1_enter_39, List.forall_mem_cons.mpr ⟨s_X1_enter_40, List.forall_mem_cons.mpr ⟨s_X1_enter_41, List.forall_mem_cons.mpr ⟨s_X1_enter_44, List.forall_mem_cons.mpr ⟨s_X1_enter_47, List.forall_mem_cons.mpr ⟨s_X1_enter_50, List.forall_mem_cons.mpr ⟨s_X1_enter_51, List.forall_mem_cons.mpr ⟨s_X1_enter_52, List.forall_mem_cons.mpr ⟨s_X1_enter_53, List.forall_mem_cons.mpr ⟨s_X1_enter_56, List.forall_mem_cons.mpr ⟨s_X1_enter_57, List.forall_mem_cons.mpr ⟨s_X1_enter_58, List.forall_mem_cons.mpr ⟨s_X1_enter_61, List.forall_mem_cons.mpr ⟨s_X1_enter_62, List.forall_mem_cons.mpr ⟨s_X1_enter_64, List.forall_mem_cons.mpr ⟨s_X1_enter_66, List.forall_mem_cons.mpr ⟨s_X1_enter_67, List.forall_mem_cons.mpr ⟨s_X1_enter_70, List.forall_mem_cons.mpr ⟨s_X1_enter_73, List.forall_mem_cons.mpr ⟨s_X1_enter_74, List.forall_mem_cons.mpr ⟨s_X1_enter_77, List.forall_mem_cons.mpr ⟨s_X1_enter_79, List.forall_mem_cons.mpr ⟨s_X1_enter_80, List.forall_mem_cons.mpr ⟨s_X1_enter_83, List.forall_mem_cons.mpr ⟨s_X1_enter_85, List.forall_mem_cons.mpr ⟨s_X1_enter_86, List.forall_mem_cons.mpr ⟨s_X1_enter_87, List.forall_mem_cons.mpr ⟨s_X1_enter_88, List.forall_mem_cons.mpr ⟨s_X1_enter_89, List.forall_mem_cons.mpr ⟨s_X1_enter_92, List.forall_mem_cons.mpr ⟨s_X1_enter_95, List.forall_mem_cons.mpr ⟨s_X1_enter_98, List.forall_mem_cons.mpr ⟨s_X1_enter_101, List.forall_mem_cons.mpr ⟨s_X1_enter_104, List.forall_mem_cons.mpr ⟨s_X1_enter_105, List.forall_mem_cons.mpr ⟨s_X1_enter_108, List.forall_mem_cons.mpr ⟨s_X1_enter_109, List.forall_mem_cons.mpr ⟨s_X1_enter_110, List.forall_mem_cons.mpr ⟨s_X1_enter_113, List.forall_mem_cons.mpr ⟨s_X1_enter_114, List.forall_mem_cons.mpr ⟨s_X1_enter_115, List.forall_mem_cons.mpr ⟨s_X1_enter_118, List.forall_mem_cons.mpr ⟨s_X1_enter_119, List.forall_mem_cons.mpr ⟨s_X1_enter_120, List.forall_mem_cons.mpr ⟨s_X1_enter_121, List.forall_mem_cons.mpr ⟨s_X1_enter_122, List.forall_mem_cons.mpr ⟨s_X1_enter_123, List.forall_mem_cons.mpr ⟨s_X1_enter_126, List.forall_mem_cons.mpr ⟨s_X1_enter_129, List.forall_mem_cons.mpr ⟨s_X1_enter_132, List.forall_mem_cons.mpr ⟨s_X1_enter_133, List.forall_mem_cons.mpr ⟨s_X1_enter_136, List.forall_mem_cons.mpr ⟨s_X1_enter_137, List.forall_mem_cons.mpr ⟨s_X1_enter_138, List.forall_mem_cons.mpr ⟨s_X1_enter_141, List.forall_mem_cons.mpr ⟨s_X1_enter_142, List.forall_mem_cons.mpr ⟨s_X1_enter_143, List.forall_mem_cons.mpr ⟨s_X1_enter_144, List.forall_mem_cons.mpr ⟨s_X1_enter_145, List.forall_mem_cons.mpr ⟨s_X1_enter_146, List.forall_mem_cons.mpr ⟨s_X1_enter_149, List.forall_mem_cons.mpr ⟨s_X1_enter_152, List.forall_mem_cons.mpr ⟨s_X1_enter_153, List.forall_mem_cons.mpr ⟨s_X1_enter_156, List.forall_mem_cons.mpr ⟨s_X1_enter_157, List.forall_mem_cons.mpr ⟨s_X1_enter_158, List.forall_mem_cons.mpr ⟨s_X1_enter_159, List.forall_mem_cons.mpr ⟨s_X1_enter_160, List.forall_mem_cons.mpr ⟨s_X1_enter_161, List.forall_mem_cons.mpr ⟨s_X1_enter_164, List.forall_mem_cons.mpr ⟨s_X1_enter_165, List.forall_mem_cons.mpr ⟨s_X1_enter_166, List.forall_mem_cons.mpr ⟨s_X1_enter_169, (fun q hq => absurd hq List.not_mem_nil)⟩⟩⟩⟩⟩⟩⟩⟩⟩⟩⟩⟩⟩⟩⟩⟩⟩⟩⟩⟩⟩⟩⟩⟩⟩⟩⟩⟩⟩⟩⟩⟩⟩⟩⟩⟩⟩⟩⟩⟩⟩⟩⟩⟩⟩⟩⟩⟩⟩⟩⟩⟩⟩⟩⟩⟩⟩⟩⟩⟩⟩⟩⟩⟩⟩⟩⟩⟩⟩⟩⟩⟩⟩⟩⟩⟩⟩⟩⟩⟩⟩⟩⟩⟩⟩⟩⟩⟩⟩⟩⟩⟩⟩⟩
theorem s_X1_cell_0 : Snd PG.nam M34 0 (m_iload 1 1) := snd_iload_n dX1_cell_0 rfl
theorem s_X1_cell_1 : Snd PG.nam M34 1 (m_ifz (fun x => if x < 0 then 24 else 4)) := snd_if_lt dX1_cell_1 (by decide)
theorem s_X1_cell_4 : Snd PG.nam M34 4 (m_iload 1 5) := snd_iload_n dX1_cell_4 rfl
theorem s_X1_cell_5 : Snd PG.nam M34 5 (m_aload 0 6) := snd_aload_n dX1_cell_5 rfl
theorem s_X1_cell_6 : Snd PG.nam M34 6 (m_getf [(0, 12)] 9) := snd_getf dX1_cell_6 fd_X1_175
theorem s_X1_cell_9 : Snd PG.nam M34 9 (m_icmp (fun x z => if x < z then 12 else 24)) := snd_icmp_ge dX1_cell_9 (by decide)
theorem s_X1_cell_12 : Snd PG.nam M34 12 (m_iload 2 13) := snd_iload_n dX1_cell_12 rfl
theorem s_X1_cell_13 : Snd PG.nam M34 13 (m_ifz (fun x => if x < 0 then 24 else 16)) := snd_if_lt dX1_cell_13 (by decide)
theorem s_X1_cell_16 : Snd PG.nam M34 16 (m_iload 2 17) := snd_iload_n dX1_cell_16 rfl
theorem s_X1_cell_17 : Snd PG.nam M34 17 (m_aload 0 18) := snd_aload_n dX1_cell_17 rfl
theorem s_X1_cell_18 : Snd PG.nam M34 18 (m_getf [(0, 13)] 21) := snd_getf dX1_cell_18 fd_X1_203
theorem s_X1_cell_21 : Snd PG.nam M34 21 (m_icmp (fun x z => if x < z then 32 else 24)) := snd_icmp_lt dX1_cell_21 (by decide)
theorem s_X1_cell_24 : Snd PG.nam M34 24 (m_thr 26) := snd_thr exc_J15 rfl dX1_cell_24 dX1_cell_27 dX1_cell_28 dX1_cell_31 w1356 w1365 w105 (by decide)
theorem s_X1_cell_32 : Snd PG.nam M34 32 (m_aload 0 33) := snd_aload_n dX1_cell_32 rfl
theorem s_X1_cell_33 : Snd PG.nam M34 33 (m_getf [(0, 11)] 36) := snd_getf dX1_cell_33 fd_X1_30
theorem s_X1_cell_36 : Snd PG.nam M34 36 (m_iload 1 37) := snd_iload_n dX1_cell_36 rfl
theorem s_X1_cell_37 : Snd PG.nam M34 37 (m_aald 38) := snd_aald dX1_cell_37
theorem s_X1_cell_38 : Snd PG.nam M34 38 (m_getf [(21, 1)] 41) := snd_getf dX1_cell_38 fd_X1_241
theorem s_X1_cell_41 : Snd PG.nam M34 41 (m_iload 2 42) := snd_iload_n dX1_cell_41 rfl
theorem s_X1_cell_42 : Snd PG.nam M34 42 (m_aald 43) := snd_aald dX1_cell_42
theorem s_X1_cell_43 : Snd PG.nam M34 43 (m_astore 3 44) := snd_astore_n dX1_cell_43 rfl (by decide)
theorem s_X1_cell_44 : Snd PG.nam M34 44 (m_aload 3 45) := snd_aload_n dX1_cell_44 rfl
theorem s_X1_cell_45 : Snd PG.nam M34 45 (m_ifn 48 56) := snd_ifnonnull dX1_cell_45 (by decide)
theorem s_X1_cell_48 : Snd PG.nam M34 48 (m_thr 27) := snd_thr exc_J16 rfl dX1_cell_48 dX1_cell_51 dX1_cell_52 dX1_cell_55 w1371 w1380 w106 (by decide)
theorem s_X1_cell_56 : Snd PG.nam M34 56 (m_aload 3 57) := snd_aload_n dX1_cell_56 rfl
theorem s_X1_cell_57 : Snd PG.nam M34 57 (m_callV false [(3, 100), (4, 104)] 0 60) := snd_callV (nam := PG.nam) (List.forall_mem_cons.mpr ⟨dr_U (ym := PG.nam 100) dX1_cell_57 w1386 w1388 (Or.inl w1387) (by decide) (by decide +kernel) w1390 rfl w1389, (List.forall_mem_cons.mpr ⟨dr_U (ym := PG.nam 104) dX1_cell_57 w1386 w1388 (Or.inl w1387) (by decide) (by decide +kernel) w1394 rfl w1393, (fun q hq => absurd hq List.not_mem_nil)⟩)⟩) (by decide)
theorem s_X1_cell_60 : Snd PG.nam M34 60 (m_lret) := snd_lret dX1_cell_60 rfl
theorem T34 : ∀ q ∈ S34, Snd PG.nam M34 q.1 q.2 := List.forall_mem_cons.mpr ⟨s_X1_cell_0, List.forall_mem_cons.mpr ⟨s_X1_cell_1, List.forall_mem_cons.mpr ⟨s_X1_cell_4, List.forall_mem_cons.mpr ⟨s_X1_cell_5, List.forall_mem_cons.mpr ⟨s_X1_cell_6, List.forall_mem_cons.mpr ⟨s_X1_cell_9, List.forall_mem_cons.mpr ⟨s_X1_cell_12, List.forall_mem_cons.mpr ⟨s_X1_cell_13, List.forall_mem_cons.mpr ⟨s_X1_cell_16, List.forall_mem_cons.mpr ⟨s_X1_cell_17, List.forall_mem_cons.mpr ⟨s_X1_cell_18, List.forall_mem_cons.mpr ⟨s_X1_cell_21, List.forall_mem_cons.mpr ⟨s_X1_cell_24, List.forall_mem_cons.mpr ⟨s_X1_cell_32, List.forall_mem_cons.mpr ⟨s_X1_cell_33, List.forall_mem_cons.mpr ⟨s_X1_cell_36, List.forall_mem_cons.mpr ⟨s_X1_cell_37, List.forall_mem_cons.mpr ⟨s_X1_cell_38, List.forall_mem_cons.mpr ⟨s_X1_cell_41, List.forall_mem_cons.mpr ⟨s_X1_cell_42, List.forall_mem_cons.mpr ⟨s_X1_cell_43, List.forall_mem_cons.mpr ⟨s_X1_cell_44, List.forall_mem_cons.mpr ⟨s_X1_cell_45, List.forall_mem_cons.mpr ⟨s_X1_cell_48, List.forall_mem_cons.mpr ⟨s_X1_cell_56, List.forall_mem_cons.mpr ⟨s_X1_cell_57, List.forall_mem_cons.mpr ⟨s_X1_cell_60, (fun q hq => absurd hq List.not_mem_nil)⟩⟩⟩⟩⟩⟩⟩⟩⟩⟩⟩⟩⟩⟩⟩⟩⟩⟩⟩⟩⟩⟩⟩⟩⟩⟩⟩
theorem s_X1_count_0 : Snd PG.nam M35 0 (m_iload 1 1) := snd_iload_n dX1_count_0 rfl
theorem s_X1_count_1 : Snd PG.nam M35 1 (m_ifz (fun x => if x = (nI 0) then 44 else if x = (nI 1) then 49 else if x = (nI 2) then 54 else if x = (nI 3) then 59 else if x = (nI 4) then 64 else if x = (nI 5) then 69 else if x = (nI 6) then 74 else 82)) := snd_sw (fun Ω d mc ms P h k n lv st x kk => by
    dsimp only at kk
    by_cases h0 : x = (nI 0)
    · rw [if_pos h0] at kk; subst h0; exact V.tableIn (off := 43) dX1_count_1 (by decide +kernel) (by decide +kernel) (by decide +kernel) (by decide) kk
    rw [if_neg h0] at kk
    by_cases h1 : x = (nI 1)
    · rw [if_pos h1] at kk; subst h1; exact V.tableIn (off := 48) dX1_count_1 (by decide +kernel) (by decide +kernel) (by decide +kernel) (by decide) kk
    rw [if_neg h1] at kk
    by_cases h2 : x = (nI 2)
    · rw [if_pos h2] at kk; subst h2; exact V.tableIn (off := 53) dX1_count_1 (by decide +kernel) (by decide +kernel) (by decide +kernel) (by decide) kk
    rw [if_neg h2] at kk
    by_cases h3 : x = (nI 3)
    · rw [if_pos h3] at kk; subst h3; exact V.tableIn (off := 58) dX1_count_1 (by decide +kernel) (by decide +kernel) (by decide +kernel) (by decide) kk
    rw [if_neg h3] at kk
    by_cases h4 : x = (nI 4)
    · rw [if_pos h4] at kk; subst h4; exact V.tableIn (off := 63) dX1_count_1 (by decide +kernel) (by decide +kernel) (by decide +kernel) (by decide) kk
    rw [if_neg h4] at kk
    by_cases h5 : x = (nI 5)
    · rw [if_pos h5] at kk; subst h5; exact V.tableIn (off := 68) dX1_count_1 (by decide +kernel) (by decide +kernel) (by decide +kernel) (by decide) kk
    rw [if_neg h5] at kk
    by_cases h6 : x = (nI 6)
    · rw [if_pos h6] at kk; subst h6; exact V.tableIn (off := 73) dX1_count_1 (by decide +kernel) (by decide +kernel) (by decide +kernel) (by decide) kk
    rw [if_neg h6] at kk
    refine V.tableOut dX1_count_1 ?_ (by decide) kk
    have g0 := sw_ne h0 (v := 0) (by decide +kernel)
    have g1 := sw_ne h1 (v := 1) (by decide +kernel)
    have g2 := sw_ne h2 (v := 2) (by decide +kernel)
    have g3 := sw_ne h3 (v := 3) (by decide +kernel)
    have g4 := sw_ne h4 (v := 4) (by decide +kernel)
    have g5 := sw_ne h5 (v := 5) (by decide +kernel)
    have g6 := sw_ne h6 (v := 6) (by decide +kernel)
    omega)
theorem s_X1_count_44 : Snd PG.nam M35 44 (m_aload 0 45) := snd_aload_n dX1_count_44 rfl
theorem s_X1_count_45 : Snd PG.nam M35 45 (m_getf [(0, 1)] 48) := snd_getf dX1_count_45 fd_X1_72
theorem s_X1_count_48 : Snd PG.nam M35 48 (m_iret .int) := snd_iret dX1_count_48 rfl
theorem s_X1_count_49 : Snd PG.nam M35 49 (m_aload 0 50) := snd_aload_n dX1_count_49 rfl
theorem s_X1_count_50 : Snd PG.nam M35 50 (m_getf [(0, 13)] 53) := snd_getf dX1_count_50 fd_X1_203
theorem s_X1_count_53 : Snd PG.nam M35 53 (m_iret .int) := snd_iret dX1_count_53 rfl
theorem s_X1_count_54 : Snd PG.nam M35 54 (m_aload 0 55) := snd_aload_n dX1_count_54 rfl
theorem s_X1_count_55 : Snd PG.nam M35 55 (m_getf [(0, 12)] 58) := snd_getf dX1_count_55 fd_X1_175
theorem s_X1_count_58 : Snd PG.nam M35 58 (m_iret .int) := snd_iret dX1_count_58 rfl
theorem s_X1_count_59 : Snd PG.nam M35 59 (m_aload 0 60) := snd_aload_n dX1_count_59 rfl
theorem s_X1_count_60 : Snd PG.nam M35 60 (m_getf [(0, 7)] 63) := snd_getf dX1_count_60 fd_X1_113
theorem s_X1_count_63 : Snd PG.nam M35 63 (m_iret .int) := snd_iret dX1_count_63 rfl
theorem s_X1_count_64 : Snd PG.nam M35 64 (m_aload 0 65) := snd_aload_n dX1_count_64 rfl
theorem s_X1_count_65 : Snd PG.nam M35 65 (m_getf [(0, 8)] 68) := snd_getf dX1_count_65 fd_X1_116
theorem s_X1_count_68 : Snd PG.nam M35 68 (m_iret .int) := snd_iret dX1_count_68 rfl
theorem s_X1_count_69 : Snd PG.nam M35 69 (m_aload 0 70) := snd_aload_n dX1_count_69 rfl
theorem s_X1_count_70 : Snd PG.nam M35 70 (m_getf [(0, 4)] 73) := snd_getf dX1_count_70 fd_X1_88
theorem s_X1_count_73 : Snd PG.nam M35 73 (m_iret .int) := snd_iret dX1_count_73 rfl
theorem s_X1_count_74 : Snd PG.nam M35 74 (m_aload 0 75) := snd_aload_n dX1_count_74 rfl
theorem s_X1_count_75 : Snd PG.nam M35 75 (m_getf [(0, 9)] 78) := snd_getf dX1_count_75 fd_X1_20
theorem s_X1_count_78 : Snd PG.nam M35 78 (m_callV false [(22, 172)] 0 81) := snd_callV (nam := PG.nam) (List.forall_mem_cons.mpr ⟨dr_V (ym := PG.nam 172) dX1_count_78 (Or.inl w302) mi_172 rfl w304, (fun q hq => absurd hq List.not_mem_nil)⟩) (by decide)
theorem s_X1_count_81 : Snd PG.nam M35 81 (m_iret .int) := snd_iret dX1_count_81 rfl
theorem s_X1_count_82 : Snd PG.nam M35 82 (m_thr 24) := snd_thr exc_J7 rfl dX1_count_82 dX1_count_85 dX1_count_86 dX1_count_89 w223 w265 w73 (by decide)
theorem T35 : ∀ q ∈ S35, Snd PG.nam M35 q.1 q.2 := List.forall_mem_cons.mpr ⟨s_X1_count_0, List.forall_mem_cons.mpr ⟨s_X1_count_1, List.forall_mem_cons.mpr ⟨s_X1_count_44, List.forall_mem_cons.mpr ⟨s_X1_count_45, List.forall_mem_cons.mpr ⟨s_X1_count_48, List.forall_mem_cons.mpr ⟨s_X1_count_49, List.forall_mem_cons.mpr ⟨s_X1_count_50, List.forall_mem_cons.mpr ⟨s_X1_count_53, List.forall_mem_cons.mpr ⟨s_X1_count_54, List.forall_mem_cons.mpr ⟨s_X1_count_55, List.forall_mem_cons.mpr ⟨s_X1_count_58, List.forall_mem_cons.mpr ⟨s_X1_count_59, List.forall_mem_cons.mpr ⟨s_X1_count_60, List.forall_mem_cons.mpr ⟨s_X1_count_63, List.forall_mem_cons.mpr ⟨s_X1_count_64, List.forall_mem_cons.mpr ⟨s_X1_count_65, List.forall_mem_cons.mpr ⟨s_X1_count_68, List.forall_mem_cons.mpr ⟨s_X1_count_69, List.forall_mem_cons.mpr ⟨s_X1_count_70, List.forall_mem_cons.mpr ⟨s_X1_count_73, List.forall_mem_cons.mpr ⟨s_X1_count_74, List.forall_mem_cons.mpr ⟨s_X1_count_75, List.forall_mem_cons.mpr ⟨s_X1_count_78, List.forall_mem_cons.mpr ⟨s_X1_count_81, List.forall_mem_cons.mpr ⟨s_X1_count_82, (fun q hq => absurd hq List.not_mem_nil)⟩⟩⟩⟩⟩⟩⟩⟩⟩⟩⟩⟩⟩⟩⟩⟩⟩⟩⟩⟩⟩⟩⟩⟩⟩
