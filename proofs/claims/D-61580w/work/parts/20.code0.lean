set_option maxRecDepth 100000
abbrev cL_law : ByteArray := code
def yL_law : MethodName := ⟨"TripleStoreLaw", "law", "([I)Z"⟩
theorem dL_law_0 : decode cL_law 0 = .ok (.new 8, 3) := by decide +kernel
theorem dL_law_3 : decode cL_law 3 = .ok (.dup, 1) := by decide +kernel
theorem dL_law_4 : decode cL_law 4 = .ok (.invokespecial 52, 3) := by decide +kernel
theorem dL_law_7 : decode cL_law 7 = .ok (.astore_n 1, 1) := by decide +kernel
theorem dL_law_8 : decode cL_law 8 = .ok (.new 53, 3) := by decide +kernel
theorem dL_law_11 : decode cL_law 11 = .ok (.dup, 1) := by decide +kernel
theorem dL_law_12 : decode cL_law 12 = .ok (.invokespecial 55, 3) := by decide +kernel
theorem dL_law_15 : decode cL_law 15 = .ok (.astore_n 2, 1) := by decide +kernel
theorem dL_law_16 : decode cL_law 16 = .ok (.iconst 1, 1) := by decide +kernel
theorem dL_law_17 : decode cL_law 17 = .ok (.newarray .long, 2) := by decide +kernel
theorem dL_law_19 : decode cL_law 19 = .ok (.astore_n 3, 1) := by decide +kernel
theorem dL_law_20 : decode cL_law 20 = .ok (.iconst 0, 1) := by decide +kernel
theorem dL_law_21 : decode cL_law 21 = .ok (.istore 4, 2) := by decide +kernel
theorem dL_law_23 : decode cL_law 23 = .ok (.iload 4, 2) := by decide +kernel
theorem dL_law_25 : decode cL_law 25 = .ok (.aload_n 0, 1) := by decide +kernel
theorem dL_law_26 : decode cL_law 26 = .ok (.arraylength, 1) := by decide +kernel
theorem dL_law_27 : decode cL_law 27 = .ok (.bipush 7, 2) := by decide +kernel
theorem dL_law_29 : decode cL_law 29 = .ok (.isub, 1) := by decide +kernel
theorem dL_law_30 : decode cL_law 30 = .ok (.if_icmp .gt 917, 3) := by decide +kernel
theorem dL_law_33 : decode cL_law 33 = .ok (.aload_n 0, 1) := by decide +kernel
theorem dL_law_34 : decode cL_law 34 = .ok (.iload 4, 2) := by decide +kernel
theorem dL_law_36 : decode cL_law 36 = .ok (.iaload, 1) := by decide +kernel
theorem dL_law_37 : decode cL_law 37 = .ok (.bipush 15, 2) := by decide +kernel
theorem dL_law_39 : decode cL_law 39 = .ok (.iand, 1) := by decide +kernel
theorem dL_law_40 : decode cL_law 40 = .ok (.tableswitch 901 0 11 #[64, 242, 420, 464, 508, 552, 565, 621, 721, 765, 778, 845], 64) := by decide +kernel
theorem dL_law_104 : decode cL_law 104 = .ok (.aload_n 1, 1) := by decide +kernel
theorem dL_law_105 : decode cL_law 105 = .ok (.aload_n 0, 1) := by decide +kernel
theorem dL_law_106 : decode cL_law 106 = .ok (.iload 4, 2) := by decide +kernel
theorem dL_law_108 : decode cL_law 108 = .ok (.iconst 1, 1) := by decide +kernel
theorem dL_law_109 : decode cL_law 109 = .ok (.iadd, 1) := by decide +kernel
theorem dL_law_110 : decode cL_law 110 = .ok (.iaload, 1) := by decide +kernel
theorem dL_law_111 : decode cL_law 111 = .ok (.i2l, 1) := by decide +kernel
theorem dL_law_112 : decode cL_law 112 = .ok (.bipush 32, 2) := by decide +kernel
theorem dL_law_114 : decode cL_law 114 = .ok (.lshl, 1) := by decide +kernel
theorem dL_law_115 : decode cL_law 115 = .ok (.aload_n 0, 1) := by decide +kernel
theorem dL_law_116 : decode cL_law 116 = .ok (.iload 4, 2) := by decide +kernel
theorem dL_law_118 : decode cL_law 118 = .ok (.iconst 2, 1) := by decide +kernel
theorem dL_law_119 : decode cL_law 119 = .ok (.iadd, 1) := by decide +kernel
theorem dL_law_120 : decode cL_law 120 = .ok (.iaload, 1) := by decide +kernel
theorem dL_law_121 : decode cL_law 121 = .ok (.i2l, 1) := by decide +kernel
theorem dL_law_122 : decode cL_law 122 = .ok (.ldc2_w 56, 3) := by decide +kernel
theorem dL_law_125 : decode cL_law 125 = .ok (.land, 1) := by decide +kernel
theorem dL_law_126 : decode cL_law 126 = .ok (.lor, 1) := by decide +kernel
theorem dL_law_127 : decode cL_law 127 = .ok (.aload_n 0, 1) := by decide +kernel
theorem dL_law_128 : decode cL_law 128 = .ok (.iload 4, 2) := by decide +kernel
theorem dL_law_130 : decode cL_law 130 = .ok (.iconst 3, 1) := by decide +kernel
theorem dL_law_131 : decode cL_law 131 = .ok (.iadd, 1) := by decide +kernel
theorem dL_law_132 : decode cL_law 132 = .ok (.iaload, 1) := by decide +kernel
theorem dL_law_133 : decode cL_law 133 = .ok (.i2l, 1) := by decide +kernel
theorem dL_law_134 : decode cL_law 134 = .ok (.bipush 32, 2) := by decide +kernel
theorem dL_law_136 : decode cL_law 136 = .ok (.lshl, 1) := by decide +kernel
theorem dL_law_137 : decode cL_law 137 = .ok (.aload_n 0, 1) := by decide +kernel
theorem dL_law_138 : decode cL_law 138 = .ok (.iload 4, 2) := by decide +kernel
theorem dL_law_140 : decode cL_law 140 = .ok (.iconst 4, 1) := by decide +kernel
theorem dL_law_141 : decode cL_law 141 = .ok (.iadd, 1) := by decide +kernel
theorem dL_law_142 : decode cL_law 142 = .ok (.iaload, 1) := by decide +kernel
theorem dL_law_143 : decode cL_law 143 = .ok (.i2l, 1) := by decide +kernel
theorem dL_law_144 : decode cL_law 144 = .ok (.ldc2_w 56, 3) := by decide +kernel
theorem dL_law_147 : decode cL_law 147 = .ok (.land, 1) := by decide +kernel
theorem dL_law_148 : decode cL_law 148 = .ok (.lor, 1) := by decide +kernel
theorem dL_law_149 : decode cL_law 149 = .ok (.aload_n 0, 1) := by decide +kernel
theorem dL_law_150 : decode cL_law 150 = .ok (.iload 4, 2) := by decide +kernel
theorem dL_law_152 : decode cL_law 152 = .ok (.iconst 5, 1) := by decide +kernel
theorem dL_law_153 : decode cL_law 153 = .ok (.iadd, 1) := by decide +kernel
theorem dL_law_154 : decode cL_law 154 = .ok (.iaload, 1) := by decide +kernel
theorem dL_law_155 : decode cL_law 155 = .ok (.i2l, 1) := by decide +kernel
theorem dL_law_156 : decode cL_law 156 = .ok (.bipush 32, 2) := by decide +kernel
theorem dL_law_158 : decode cL_law 158 = .ok (.lshl, 1) := by decide +kernel
theorem dL_law_159 : decode cL_law 159 = .ok (.aload_n 0, 1) := by decide +kernel
theorem dL_law_160 : decode cL_law 160 = .ok (.iload 4, 2) := by decide +kernel
theorem dL_law_162 : decode cL_law 162 = .ok (.bipush 6, 2) := by decide +kernel
theorem dL_law_164 : decode cL_law 164 = .ok (.iadd, 1) := by decide +kernel
theorem dL_law_165 : decode cL_law 165 = .ok (.iaload, 1) := by decide +kernel
theorem dL_law_166 : decode cL_law 166 = .ok (.i2l, 1) := by decide +kernel
theorem dL_law_167 : decode cL_law 167 = .ok (.ldc2_w 56, 3) := by decide +kernel
theorem dL_law_170 : decode cL_law 170 = .ok (.land, 1) := by decide +kernel
theorem dL_law_171 : decode cL_law 171 = .ok (.lor, 1) := by decide +kernel
theorem dL_law_172 : decode cL_law 172 = .ok (.aload_n 3, 1) := by decide +kernel
theorem dL_law_173 : decode cL_law 173 = .ok (.invokestatic 58, 3) := by decide +kernel
theorem dL_law_176 : decode cL_law 176 = .ok (.istore 5, 2) := by decide +kernel
theorem dL_law_178 : decode cL_law 178 = .ok (.aload_n 2, 1) := by decide +kernel
theorem dL_law_179 : decode cL_law 179 = .ok (.aload_n 0, 1) := by decide +kernel
theorem dL_law_180 : decode cL_law 180 = .ok (.iload 4, 2) := by decide +kernel
theorem dL_law_182 : decode cL_law 182 = .ok (.iconst 1, 1) := by decide +kernel
theorem dL_law_183 : decode cL_law 183 = .ok (.iadd, 1) := by decide +kernel
theorem dL_law_184 : decode cL_law 184 = .ok (.iaload, 1) := by decide +kernel
theorem dL_law_185 : decode cL_law 185 = .ok (.i2l, 1) := by decide +kernel
theorem dL_law_186 : decode cL_law 186 = .ok (.bipush 32, 2) := by decide +kernel
theorem dL_law_188 : decode cL_law 188 = .ok (.lshl, 1) := by decide +kernel
theorem dL_law_189 : decode cL_law 189 = .ok (.aload_n 0, 1) := by decide +kernel
theorem dL_law_190 : decode cL_law 190 = .ok (.iload 4, 2) := by decide +kernel
theorem dL_law_192 : decode cL_law 192 = .ok (.iconst 2, 1) := by decide +kernel
theorem dL_law_193 : decode cL_law 193 = .ok (.iadd, 1) := by decide +kernel
theorem dL_law_194 : decode cL_law 194 = .ok (.iaload, 1) := by decide +kernel
theorem dL_law_195 : decode cL_law 195 = .ok (.i2l, 1) := by decide +kernel
theorem dL_law_196 : decode cL_law 196 = .ok (.ldc2_w 56, 3) := by decide +kernel
theorem dL_law_199 : decode cL_law 199 = .ok (.land, 1) := by decide +kernel
theorem dL_law_200 : decode cL_law 200 = .ok (.lor, 1) := by decide +kernel
theorem dL_law_201 : decode cL_law 201 = .ok (.aload_n 0, 1) := by decide +kernel
theorem dL_law_202 : decode cL_law 202 = .ok (.iload 4, 2) := by decide +kernel
theorem dL_law_204 : decode cL_law 204 = .ok (.iconst 3, 1) := by decide +kernel
theorem dL_law_205 : decode cL_law 205 = .ok (.iadd, 1) := by decide +kernel
theorem dL_law_206 : decode cL_law 206 = .ok (.iaload, 1) := by decide +kernel
theorem dL_law_207 : decode cL_law 207 = .ok (.i2l, 1) := by decide +kernel
theorem dL_law_208 : decode cL_law 208 = .ok (.bipush 32, 2) := by decide +kernel
theorem dL_law_210 : decode cL_law 210 = .ok (.lshl, 1) := by decide +kernel
theorem dL_law_211 : decode cL_law 211 = .ok (.aload_n 0, 1) := by decide +kernel
theorem dL_law_212 : decode cL_law 212 = .ok (.iload 4, 2) := by decide +kernel
theorem dL_law_214 : decode cL_law 214 = .ok (.iconst 4, 1) := by decide +kernel
theorem dL_law_215 : decode cL_law 215 = .ok (.iadd, 1) := by decide +kernel
theorem dL_law_216 : decode cL_law 216 = .ok (.iaload, 1) := by decide +kernel
theorem dL_law_217 : decode cL_law 217 = .ok (.i2l, 1) := by decide +kernel
theorem dL_law_218 : decode cL_law 218 = .ok (.ldc2_w 56, 3) := by decide +kernel
theorem dL_law_221 : decode cL_law 221 = .ok (.land, 1) := by decide +kernel
theorem dL_law_222 : decode cL_law 222 = .ok (.lor, 1) := by decide +kernel
theorem dL_law_223 : decode cL_law 223 = .ok (.aload_n 0, 1) := by decide +kernel
theorem dL_law_224 : decode cL_law 224 = .ok (.iload 4, 2) := by decide +kernel
theorem dL_law_226 : decode cL_law 226 = .ok (.iconst 5, 1) := by decide +kernel
theorem dL_law_227 : decode cL_law 227 = .ok (.iadd, 1) := by decide +kernel
theorem dL_law_228 : decode cL_law 228 = .ok (.iaload, 1) := by decide +kernel
theorem dL_law_229 : decode cL_law 229 = .ok (.i2l, 1) := by decide +kernel
theorem dL_law_230 : decode cL_law 230 = .ok (.bipush 32, 2) := by decide +kernel
theorem dL_law_232 : decode cL_law 232 = .ok (.lshl, 1) := by decide +kernel
theorem dL_law_233 : decode cL_law 233 = .ok (.aload_n 0, 1) := by decide +kernel
theorem dL_law_234 : decode cL_law 234 = .ok (.iload 4, 2) := by decide +kernel
theorem dL_law_236 : decode cL_law 236 = .ok (.bipush 6, 2) := by decide +kernel
theorem dL_law_238 : decode cL_law 238 = .ok (.iadd, 1) := by decide +kernel
theorem dL_law_239 : decode cL_law 239 = .ok (.iaload, 1) := by decide +kernel
theorem dL_law_240 : decode cL_law 240 = .ok (.i2l, 1) := by decide +kernel
theorem dL_law_241 : decode cL_law 241 = .ok (.ldc2_w 56, 3) := by decide +kernel
theorem dL_law_244 : decode cL_law 244 = .ok (.land, 1) := by decide +kernel
theorem dL_law_245 : decode cL_law 245 = .ok (.lor, 1) := by decide +kernel
theorem dL_law_246 : decode cL_law 246 = .ok (.invokevirtual 63, 3) := by decide +kernel
theorem dL_law_249 : decode cL_law 249 = .ok (.istore 6, 2) := by decide +kernel
theorem dL_law_251 : decode cL_law 251 = .ok (.aload_n 2, 1) := by decide +kernel
theorem dL_law_252 : decode cL_law 252 = .ok (.invokevirtual 64, 3) := by decide +kernel
theorem dL_law_255 : decode cL_law 255 = .ok (.iload 5, 2) := by decide +kernel
theorem dL_law_257 : decode cL_law 257 = .ok (.if_icmp .eq 5, 3) := by decide +kernel
theorem dL_law_260 : decode cL_law 260 = .ok (.iconst 0, 1) := by decide +kernel
theorem dL_law_261 : decode cL_law 261 = .ok (.ireturn, 1) := by decide +kernel
theorem dL_law_262 : decode cL_law 262 = .ok (.iload 5, 2) := by decide +kernel
theorem dL_law_264 : decode cL_law 264 = .ok (.ifCond .ne 15, 3) := by decide +kernel
theorem dL_law_267 : decode cL_law 267 = .ok (.aload_n 3, 1) := by decide +kernel
theorem dL_law_268 : decode cL_law 268 = .ok (.iconst 0, 1) := by decide +kernel
theorem dL_law_269 : decode cL_law 269 = .ok (.laload, 1) := by decide +kernel
theorem dL_law_270 : decode cL_law 270 = .ok (.iload 6, 2) := by decide +kernel
theorem dL_law_272 : decode cL_law 272 = .ok (.i2l, 1) := by decide +kernel
theorem dL_law_273 : decode cL_law 273 = .ok (.lcmp, 1) := by decide +kernel
theorem dL_law_274 : decode cL_law 274 = .ok (.ifCond .eq 5, 3) := by decide +kernel
theorem dL_law_277 : decode cL_law 277 = .ok (.iconst 0, 1) := by decide +kernel
theorem dL_law_278 : decode cL_law 278 = .ok (.ireturn, 1) := by decide +kernel
theorem dL_law_279 : decode cL_law 279 = .ok (.goto 662, 3) := by decide +kernel
theorem dL_law_282 : decode cL_law 282 = .ok (.aload_n 1, 1) := by decide +kernel
theorem dL_law_283 : decode cL_law 283 = .ok (.aload_n 0, 1) := by decide +kernel
theorem dL_law_284 : decode cL_law 284 = .ok (.iload 4, 2) := by decide +kernel
theorem dL_law_286 : decode cL_law 286 = .ok (.iconst 1, 1) := by decide +kernel
theorem dL_law_287 : decode cL_law 287 = .ok (.iadd, 1) := by decide +kernel
theorem dL_law_288 : decode cL_law 288 = .ok (.iaload, 1) := by decide +kernel
theorem dL_law_289 : decode cL_law 289 = .ok (.i2l, 1) := by decide +kernel
theorem dL_law_290 : decode cL_law 290 = .ok (.bipush 32, 2) := by decide +kernel
theorem dL_law_292 : decode cL_law 292 = .ok (.lshl, 1) := by decide +kernel
theorem dL_law_293 : decode cL_law 293 = .ok (.aload_n 0, 1) := by decide +kernel
theorem dL_law_294 : decode cL_law 294 = .ok (.iload 4, 2) := by decide +kernel
theorem dL_law_296 : decode cL_law 296 = .ok (.iconst 2, 1) := by decide +kernel
theorem dL_law_297 : decode cL_law 297 = .ok (.iadd, 1) := by decide +kernel
theorem dL_law_298 : decode cL_law 298 = .ok (.iaload, 1) := by decide +kernel
theorem dL_law_299 : decode cL_law 299 = .ok (.i2l, 1) := by decide +kernel
theorem dL_law_300 : decode cL_law 300 = .ok (.ldc2_w 56, 3) := by decide +kernel
theorem dL_law_303 : decode cL_law 303 = .ok (.land, 1) := by decide +kernel
theorem dL_law_304 : decode cL_law 304 = .ok (.lor, 1) := by decide +kernel
theorem dL_law_305 : decode cL_law 305 = .ok (.aload_n 0, 1) := by decide +kernel
theorem dL_law_306 : decode cL_law 306 = .ok (.iload 4, 2) := by decide +kernel
theorem dL_law_308 : decode cL_law 308 = .ok (.iconst 3, 1) := by decide +kernel
theorem dL_law_309 : decode cL_law 309 = .ok (.iadd, 1) := by decide +kernel
theorem dL_law_310 : decode cL_law 310 = .ok (.iaload, 1) := by decide +kernel
theorem dL_law_311 : decode cL_law 311 = .ok (.i2l, 1) := by decide +kernel
theorem dL_law_312 : decode cL_law 312 = .ok (.bipush 32, 2) := by decide +kernel
theorem dL_law_314 : decode cL_law 314 = .ok (.lshl, 1) := by decide +kernel
theorem dL_law_315 : decode cL_law 315 = .ok (.aload_n 0, 1) := by decide +kernel
theorem dL_law_316 : decode cL_law 316 = .ok (.iload 4, 2) := by decide +kernel
theorem dL_law_318 : decode cL_law 318 = .ok (.iconst 4, 1) := by decide +kernel
theorem dL_law_319 : decode cL_law 319 = .ok (.iadd, 1) := by decide +kernel
theorem dL_law_320 : decode cL_law 320 = .ok (.iaload, 1) := by decide +kernel
theorem dL_law_321 : decode cL_law 321 = .ok (.i2l, 1) := by decide +kernel
theorem dL_law_322 : decode cL_law 322 = .ok (.ldc2_w 56, 3) := by decide +kernel
theorem dL_law_325 : decode cL_law 325 = .ok (.land, 1) := by decide +kernel
theorem dL_law_326 : decode cL_law 326 = .ok (.lor, 1) := by decide +kernel
theorem dL_law_327 : decode cL_law 327 = .ok (.aload_n 0, 1) := by decide +kernel
theorem dL_law_328 : decode cL_law 328 = .ok (.iload 4, 2) := by decide +kernel
theorem dL_law_330 : decode cL_law 330 = .ok (.iconst 5, 1) := by decide +kernel
theorem dL_law_331 : decode cL_law 331 = .ok (.iadd, 1) := by decide +kernel
theorem dL_law_332 : decode cL_law 332 = .ok (.iaload, 1) := by decide +kernel
theorem dL_law_333 : decode cL_law 333 = .ok (.i2l, 1) := by decide +kernel
theorem dL_law_334 : decode cL_law 334 = .ok (.bipush 32, 2) := by decide +kernel
theorem dL_law_336 : decode cL_law 336 = .ok (.lshl, 1) := by decide +kernel
theorem dL_law_337 : decode cL_law 337 = .ok (.aload_n 0, 1) := by decide +kernel
theorem dL_law_338 : decode cL_law 338 = .ok (.iload 4, 2) := by decide +kernel
theorem dL_law_340 : decode cL_law 340 = .ok (.bipush 6, 2) := by decide +kernel
theorem dL_law_342 : decode cL_law 342 = .ok (.iadd, 1) := by decide +kernel
theorem dL_law_343 : decode cL_law 343 = .ok (.iaload, 1) := by decide +kernel
theorem dL_law_344 : decode cL_law 344 = .ok (.i2l, 1) := by decide +kernel
theorem dL_law_345 : decode cL_law 345 = .ok (.ldc2_w 56, 3) := by decide +kernel
theorem dL_law_348 : decode cL_law 348 = .ok (.land, 1) := by decide +kernel
theorem dL_law_349 : decode cL_law 349 = .ok (.lor, 1) := by decide +kernel
theorem dL_law_350 : decode cL_law 350 = .ok (.aload_n 3, 1) := by decide +kernel
theorem dL_law_351 : decode cL_law 351 = .ok (.invokestatic 67, 3) := by decide +kernel
theorem dL_law_354 : decode cL_law 354 = .ok (.istore 5, 2) := by decide +kernel
theorem dL_law_356 : decode cL_law 356 = .ok (.aload_n 2, 1) := by decide +kernel
theorem dL_law_357 : decode cL_law 357 = .ok (.aload_n 0, 1) := by decide +kernel
theorem dL_law_358 : decode cL_law 358 = .ok (.iload 4, 2) := by decide +kernel
theorem dL_law_360 : decode cL_law 360 = .ok (.iconst 1, 1) := by decide +kernel
theorem dL_law_361 : decode cL_law 361 = .ok (.iadd, 1) := by decide +kernel
theorem dL_law_362 : decode cL_law 362 = .ok (.iaload, 1) := by decide +kernel
theorem dL_law_363 : decode cL_law 363 = .ok (.i2l, 1) := by decide +kernel
theorem dL_law_364 : decode cL_law 364 = .ok (.bipush 32, 2) := by decide +kernel
theorem dL_law_366 : decode cL_law 366 = .ok (.lshl, 1) := by decide +kernel
theorem dL_law_367 : decode cL_law 367 = .ok (.aload_n 0, 1) := by decide +kernel
theorem dL_law_368 : decode cL_law 368 = .ok (.iload 4, 2) := by decide +kernel
theorem dL_law_370 : decode cL_law 370 = .ok (.iconst 2, 1) := by decide +kernel
theorem dL_law_371 : decode cL_law 371 = .ok (.iadd, 1) := by decide +kernel
theorem dL_law_372 : decode cL_law 372 = .ok (.iaload, 1) := by decide +kernel
theorem dL_law_373 : decode cL_law 373 = .ok (.i2l, 1) := by decide +kernel
theorem dL_law_374 : decode cL_law 374 = .ok (.ldc2_w 56, 3) := by decide +kernel
theorem dL_law_377 : decode cL_law 377 = .ok (.land, 1) := by decide +kernel
theorem dL_law_378 : decode cL_law 378 = .ok (.lor, 1) := by decide +kernel
theorem dL_law_379 : decode cL_law 379 = .ok (.aload_n 0, 1) := by decide +kernel
theorem dL_law_380 : decode cL_law 380 = .ok (.iload 4, 2) := by decide +kernel
theorem dL_law_382 : decode cL_law 382 = .ok (.iconst 3, 1) := by decide +kernel
theorem dL_law_383 : decode cL_law 383 = .ok (.iadd, 1) := by decide +kernel
theorem dL_law_384 : decode cL_law 384 = .ok (.iaload, 1) := by decide +kernel
theorem dL_law_385 : decode cL_law 385 = .ok (.i2l, 1) := by decide +kernel
theorem dL_law_386 : decode cL_law 386 = .ok (.bipush 32, 2) := by decide +kernel
theorem dL_law_388 : decode cL_law 388 = .ok (.lshl, 1) := by decide +kernel
theorem dL_law_389 : decode cL_law 389 = .ok (.aload_n 0, 1) := by decide +kernel
theorem dL_law_390 : decode cL_law 390 = .ok (.iload 4, 2) := by decide +kernel
theorem dL_law_392 : decode cL_law 392 = .ok (.iconst 4, 1) := by decide +kernel
theorem dL_law_393 : decode cL_law 393 = .ok (.iadd, 1) := by decide +kernel
theorem dL_law_394 : decode cL_law 394 = .ok (.iaload, 1) := by decide +kernel
theorem dL_law_395 : decode cL_law 395 = .ok (.i2l, 1) := by decide +kernel
theorem dL_law_396 : decode cL_law 396 = .ok (.ldc2_w 56, 3) := by decide +kernel
theorem dL_law_399 : decode cL_law 399 = .ok (.land, 1) := by decide +kernel
theorem dL_law_400 : decode cL_law 400 = .ok (.lor, 1) := by decide +kernel
theorem dL_law_401 : decode cL_law 401 = .ok (.aload_n 0, 1) := by decide +kernel
theorem dL_law_402 : decode cL_law 402 = .ok (.iload 4, 2) := by decide +kernel
theorem dL_law_404 : decode cL_law 404 = .ok (.iconst 5, 1) := by decide +kernel
theorem dL_law_405 : decode cL_law 405 = .ok (.iadd, 1) := by decide +kernel
theorem dL_law_406 : decode cL_law 406 = .ok (.iaload, 1) := by decide +kernel
theorem dL_law_407 : decode cL_law 407 = .ok (.i2l, 1) := by decide +kernel
theorem dL_law_408 : decode cL_law 408 = .ok (.bipush 32, 2) := by decide +kernel
theorem dL_law_410 : decode cL_law 410 = .ok (.lshl, 1) := by decide +kernel
theorem dL_law_411 : decode cL_law 411 = .ok (.aload_n 0, 1) := by decide +kernel
theorem dL_law_412 : decode cL_law 412 = .ok (.iload 4, 2) := by decide +kernel
theorem dL_law_414 : decode cL_law 414 = .ok (.bipush 6, 2) := by decide +kernel
theorem dL_law_416 : decode cL_law 416 = .ok (.iadd, 1) := by decide +kernel
theorem dL_law_417 : decode cL_law 417 = .ok (.iaload, 1) := by decide +kernel
theorem dL_law_418 : decode cL_law 418 = .ok (.i2l, 1) := by decide +kernel
theorem dL_law_419 : decode cL_law 419 = .ok (.ldc2_w 56, 3) := by decide +kernel
theorem dL_law_422 : decode cL_law 422 = .ok (.land, 1) := by decide +kernel
theorem dL_law_423 : decode cL_law 423 = .ok (.lor, 1) := by decide +kernel
theorem dL_law_424 : decode cL_law 424 = .ok (.invokevirtual 69, 3) := by decide +kernel
theorem dL_law_427 : decode cL_law 427 = .ok (.istore 6, 2) := by decide +kernel
theorem dL_law_429 : decode cL_law 429 = .ok (.aload_n 2, 1) := by decide +kernel
theorem dL_law_430 : decode cL_law 430 = .ok (.invokevirtual 64, 3) := by decide +kernel
theorem dL_law_433 : decode cL_law 433 = .ok (.iload 5, 2) := by decide +kernel
theorem dL_law_435 : decode cL_law 435 = .ok (.if_icmp .eq 5, 3) := by decide +kernel
theorem dL_law_438 : decode cL_law 438 = .ok (.iconst 0, 1) := by decide +kernel
theorem dL_law_439 : decode cL_law 439 = .ok (.ireturn, 1) := by decide +kernel
theorem dL_law_440 : decode cL_law 440 = .ok (.iload 5, 2) := by decide +kernel
theorem dL_law_442 : decode cL_law 442 = .ok (.ifCond .ne 15, 3) := by decide +kernel
theorem dL_law_445 : decode cL_law 445 = .ok (.aload_n 3, 1) := by decide +kernel
theorem dL_law_446 : decode cL_law 446 = .ok (.iconst 0, 1) := by decide +kernel
theorem dL_law_447 : decode cL_law 447 = .ok (.laload, 1) := by decide +kernel
theorem dL_law_448 : decode cL_law 448 = .ok (.iload 6, 2) := by decide +kernel
theorem dL_law_450 : decode cL_law 450 = .ok (.i2l, 1) := by decide +kernel
theorem dL_law_451 : decode cL_law 451 = .ok (.lcmp, 1) := by decide +kernel
theorem dL_law_452 : decode cL_law 452 = .ok (.ifCond .eq 5, 3) := by decide +kernel
theorem dL_law_455 : decode cL_law 455 = .ok (.iconst 0, 1) := by decide +kernel
theorem dL_law_456 : decode cL_law 456 = .ok (.ireturn, 1) := by decide +kernel
theorem dL_law_457 : decode cL_law 457 = .ok (.goto 484, 3) := by decide +kernel
theorem dL_law_460 : decode cL_law 460 = .ok (.aload_n 1, 1) := by decide +kernel
theorem dL_law_461 : decode cL_law 461 = .ok (.aload_n 3, 1) := by decide +kernel
theorem dL_law_462 : decode cL_law 462 = .ok (.invokestatic 70, 3) := by decide +kernel
theorem dL_law_465 : decode cL_law 465 = .ok (.istore 5, 2) := by decide +kernel
theorem dL_law_467 : decode cL_law 467 = .ok (.aload_n 2, 1) := by decide +kernel
theorem dL_law_468 : decode cL_law 468 = .ok (.invokevirtual 73, 3) := by decide +kernel
theorem dL_law_471 : decode cL_law 471 = .ok (.istore 6, 2) := by decide +kernel
theorem dL_law_473 : decode cL_law 473 = .ok (.aload_n 2, 1) := by decide +kernel
theorem dL_law_474 : decode cL_law 474 = .ok (.invokevirtual 64, 3) := by decide +kernel
theorem dL_law_477 : decode cL_law 477 = .ok (.iload 5, 2) := by decide +kernel
theorem dL_law_479 : decode cL_law 479 = .ok (.if_icmp .eq 5, 3) := by decide +kernel
theorem dL_law_482 : decode cL_law 482 = .ok (.iconst 0, 1) := by decide +kernel
theorem dL_law_483 : decode cL_law 483 = .ok (.ireturn, 1) := by decide +kernel
theorem dL_law_484 : decode cL_law 484 = .ok (.iload 5, 2) := by decide +kernel
theorem dL_law_486 : decode cL_law 486 = .ok (.ifCond .ne 15, 3) := by decide +kernel
theorem dL_law_489 : decode cL_law 489 = .ok (.aload_n 3, 1) := by decide +kernel
theorem dL_law_490 : decode cL_law 490 = .ok (.iconst 0, 1) := by decide +kernel
theorem dL_law_491 : decode cL_law 491 = .ok (.laload, 1) := by decide +kernel
theorem dL_law_492 : decode cL_law 492 = .ok (.iload 6, 2) := by decide +kernel
theorem dL_law_494 : decode cL_law 494 = .ok (.i2l, 1) := by decide +kernel
theorem dL_law_495 : decode cL_law 495 = .ok (.lcmp, 1) := by decide +kernel
theorem dL_law_496 : decode cL_law 496 = .ok (.ifCond .eq 5, 3) := by decide +kernel
theorem dL_law_499 : decode cL_law 499 = .ok (.iconst 0, 1) := by decide +kernel
theorem dL_law_500 : decode cL_law 500 = .ok (.ireturn, 1) := by decide +kernel
theorem dL_law_501 : decode cL_law 501 = .ok (.goto 440, 3) := by decide +kernel
theorem dL_law_504 : decode cL_law 504 = .ok (.aload_n 1, 1) := by decide +kernel
theorem dL_law_505 : decode cL_law 505 = .ok (.aload_n 3, 1) := by decide +kernel
theorem dL_law_506 : decode cL_law 506 = .ok (.invokestatic 74, 3) := by decide +kernel
theorem dL_law_509 : decode cL_law 509 = .ok (.istore 5, 2) := by decide +kernel
theorem dL_law_511 : decode cL_law 511 = .ok (.aload_n 2, 1) := by decide +kernel
theorem dL_law_512 : decode cL_law 512 = .ok (.invokevirtual 76, 3) := by decide +kernel
theorem dL_law_515 : decode cL_law 515 = .ok (.istore 6, 2) := by decide +kernel
theorem dL_law_517 : decode cL_law 517 = .ok (.aload_n 2, 1) := by decide +kernel
theorem dL_law_518 : decode cL_law 518 = .ok (.invokevirtual 64, 3) := by decide +kernel
theorem dL_law_521 : decode cL_law 521 = .ok (.iload 5, 2) := by decide +kernel
theorem dL_law_523 : decode cL_law 523 = .ok (.if_icmp .eq 5, 3) := by decide +kernel
theorem dL_law_526 : decode cL_law 526 = .ok (.iconst 0, 1) := by decide +kernel
theorem dL_law_527 : decode cL_law 527 = .ok (.ireturn, 1) := by decide +kernel
theorem dL_law_528 : decode cL_law 528 = .ok (.iload 5, 2) := by decide +kernel
theorem dL_law_530 : decode cL_law 530 = .ok (.ifCond .ne 15, 3) := by decide +kernel
theorem dL_law_533 : decode cL_law 533 = .ok (.aload_n 3, 1) := by decide +kernel
theorem dL_law_534 : decode cL_law 534 = .ok (.iconst 0, 1) := by decide +kernel
theorem dL_law_535 : decode cL_law 535 = .ok (.laload, 1) := by decide +kernel
theorem dL_law_536 : decode cL_law 536 = .ok (.iload 6, 2) := by decide +kernel
theorem dL_law_538 : decode cL_law 538 = .ok (.i2l, 1) := by decide +kernel
theorem dL_law_539 : decode cL_law 539 = .ok (.lcmp, 1) := by decide +kernel
theorem dL_law_540 : decode cL_law 540 = .ok (.ifCond .eq 5, 3) := by decide +kernel
theorem dL_law_543 : decode cL_law 543 = .ok (.iconst 0, 1) := by decide +kernel
theorem dL_law_544 : decode cL_law 544 = .ok (.ireturn, 1) := by decide +kernel
theorem dL_law_545 : decode cL_law 545 = .ok (.goto 396, 3) := by decide +kernel
theorem dL_law_548 : decode cL_law 548 = .ok (.aload_n 1, 1) := by decide +kernel
theorem dL_law_549 : decode cL_law 549 = .ok (.aload_n 3, 1) := by decide +kernel
theorem dL_law_550 : decode cL_law 550 = .ok (.invokestatic 77, 3) := by decide +kernel
theorem dL_law_553 : decode cL_law 553 = .ok (.istore 5, 2) := by decide +kernel
theorem dL_law_555 : decode cL_law 555 = .ok (.aload_n 2, 1) := by decide +kernel
theorem dL_law_556 : decode cL_law 556 = .ok (.invokevirtual 79, 3) := by decide +kernel
theorem dL_law_559 : decode cL_law 559 = .ok (.istore 6, 2) := by decide +kernel
theorem dL_law_561 : decode cL_law 561 = .ok (.aload_n 2, 1) := by decide +kernel
theorem dL_law_562 : decode cL_law 562 = .ok (.invokevirtual 64, 3) := by decide +kernel
theorem dL_law_565 : decode cL_law 565 = .ok (.iload 5, 2) := by decide +kernel
theorem dL_law_567 : decode cL_law 567 = .ok (.if_icmp .eq 5, 3) := by decide +kernel
theorem dL_law_570 : decode cL_law 570 = .ok (.iconst 0, 1) := by decide +kernel
theorem dL_law_571 : decode cL_law 571 = .ok (.ireturn, 1) := by decide +kernel
theorem dL_law_572 : decode cL_law 572 = .ok (.iload 5, 2) := by decide +kernel
theorem dL_law_574 : decode cL_law 574 = .ok (.ifCond .ne 15, 3) := by decide +kernel
theorem dL_law_577 : decode cL_law 577 = .ok (.aload_n 3, 1) := by decide +kernel
theorem dL_law_578 : decode cL_law 578 = .ok (.iconst 0, 1) := by decide +kernel
theorem dL_law_579 : decode cL_law 579 = .ok (.laload, 1) := by decide +kernel
theorem dL_law_580 : decode cL_law 580 = .ok (.iload 6, 2) := by decide +kernel
theorem dL_law_582 : decode cL_law 582 = .ok (.i2l, 1) := by decide +kernel
theorem dL_law_583 : decode cL_law 583 = .ok (.lcmp, 1) := by decide +kernel
theorem dL_law_584 : decode cL_law 584 = .ok (.ifCond .eq 5, 3) := by decide +kernel
theorem dL_law_587 : decode cL_law 587 = .ok (.iconst 0, 1) := by decide +kernel
theorem dL_law_588 : decode cL_law 588 = .ok (.ireturn, 1) := by decide +kernel
theorem dL_law_589 : decode cL_law 589 = .ok (.goto 352, 3) := by decide +kernel
theorem dL_law_592 : decode cL_law 592 = .ok (.aload_n 1, 1) := by decide +kernel
theorem dL_law_593 : decode cL_law 593 = .ok (.invokevirtual 80, 3) := by decide +kernel
theorem dL_law_596 : decode cL_law 596 = .ok (.aload_n 2, 1) := by decide +kernel
theorem dL_law_597 : decode cL_law 597 = .ok (.invokevirtual 83, 3) := by decide +kernel
theorem dL_law_600 : decode cL_law 600 = .ok (.if_icmp .eq 341, 3) := by decide +kernel
theorem dL_law_603 : decode cL_law 603 = .ok (.iconst 0, 1) := by decide +kernel
theorem dL_law_604 : decode cL_law 604 = .ok (.ireturn, 1) := by decide +kernel
theorem dL_law_605 : decode cL_law 605 = .ok (.aload_n 1, 1) := by decide +kernel
theorem dL_law_606 : decode cL_law 606 = .ok (.aload_n 0, 1) := by decide +kernel
theorem dL_law_607 : decode cL_law 607 = .ok (.iload 4, 2) := by decide +kernel
theorem dL_law_609 : decode cL_law 609 = .ok (.iconst 1, 1) := by decide +kernel
theorem dL_law_610 : decode cL_law 610 = .ok (.iadd, 1) := by decide +kernel
theorem dL_law_611 : decode cL_law 611 = .ok (.iaload, 1) := by decide +kernel
theorem dL_law_612 : decode cL_law 612 = .ok (.aload_n 3, 1) := by decide +kernel
theorem dL_law_613 : decode cL_law 613 = .ok (.invokestatic 84, 3) := by decide +kernel
theorem dL_law_616 : decode cL_law 616 = .ok (.istore 5, 2) := by decide +kernel
theorem dL_law_618 : decode cL_law 618 = .ok (.aload_n 2, 1) := by decide +kernel
theorem dL_law_619 : decode cL_law 619 = .ok (.aload_n 0, 1) := by decide +kernel
theorem dL_law_620 : decode cL_law 620 = .ok (.iload 4, 2) := by decide +kernel
theorem dL_law_622 : decode cL_law 622 = .ok (.iconst 1, 1) := by decide +kernel
theorem dL_law_623 : decode cL_law 623 = .ok (.iadd, 1) := by decide +kernel
theorem dL_law_624 : decode cL_law 624 = .ok (.iaload, 1) := by decide +kernel
theorem dL_law_625 : decode cL_law 625 = .ok (.invokevirtual 87, 3) := by decide +kernel
theorem dL_law_628 : decode cL_law 628 = .ok (.istore 6, 2) := by decide +kernel
theorem dL_law_630 : decode cL_law 630 = .ok (.aload_n 2, 1) := by decide +kernel
theorem dL_law_631 : decode cL_law 631 = .ok (.invokevirtual 64, 3) := by decide +kernel
theorem dL_law_634 : decode cL_law 634 = .ok (.iload 5, 2) := by decide +kernel
theorem dL_law_636 : decode cL_law 636 = .ok (.if_icmp .eq 5, 3) := by decide +kernel
theorem dL_law_639 : decode cL_law 639 = .ok (.iconst 0, 1) := by decide +kernel
theorem dL_law_640 : decode cL_law 640 = .ok (.ireturn, 1) := by decide +kernel
theorem dL_law_641 : decode cL_law 641 = .ok (.iload 5, 2) := by decide +kernel
theorem dL_law_643 : decode cL_law 643 = .ok (.ifCond .ne 15, 3) := by decide +kernel
theorem dL_law_646 : decode cL_law 646 = .ok (.aload_n 3, 1) := by decide +kernel
theorem dL_law_647 : decode cL_law 647 = .ok (.iconst 0, 1) := by decide +kernel
theorem dL_law_648 : decode cL_law 648 = .ok (.laload, 1) := by decide +kernel
theorem dL_law_649 : decode cL_law 649 = .ok (.iload 6, 2) := by decide +kernel
theorem dL_law_651 : decode cL_law 651 = .ok (.i2l, 1) := by decide +kernel
theorem dL_law_652 : decode cL_law 652 = .ok (.lcmp, 1) := by decide +kernel
theorem dL_law_653 : decode cL_law 653 = .ok (.ifCond .eq 5, 3) := by decide +kernel
theorem dL_law_656 : decode cL_law 656 = .ok (.iconst 0, 1) := by decide +kernel
theorem dL_law_657 : decode cL_law 657 = .ok (.ireturn, 1) := by decide +kernel
theorem dL_law_658 : decode cL_law 658 = .ok (.goto 283, 3) := by decide +kernel
theorem dL_law_661 : decode cL_law 661 = .ok (.aload_n 1, 1) := by decide +kernel
theorem dL_law_662 : decode cL_law 662 = .ok (.aload_n 0, 1) := by decide +kernel
theorem dL_law_663 : decode cL_law 663 = .ok (.iload 4, 2) := by decide +kernel
theorem dL_law_665 : decode cL_law 665 = .ok (.iconst 1, 1) := by decide +kernel
theorem dL_law_666 : decode cL_law 666 = .ok (.iadd, 1) := by decide +kernel
theorem dL_law_667 : decode cL_law 667 = .ok (.iaload, 1) := by decide +kernel
theorem dL_law_668 : decode cL_law 668 = .ok (.i2l, 1) := by decide +kernel
theorem dL_law_669 : decode cL_law 669 = .ok (.bipush 32, 2) := by decide +kernel
theorem dL_law_671 : decode cL_law 671 = .ok (.lshl, 1) := by decide +kernel
theorem dL_law_672 : decode cL_law 672 = .ok (.aload_n 0, 1) := by decide +kernel
theorem dL_law_673 : decode cL_law 673 = .ok (.iload 4, 2) := by decide +kernel
theorem dL_law_675 : decode cL_law 675 = .ok (.iconst 2, 1) := by decide +kernel
theorem dL_law_676 : decode cL_law 676 = .ok (.iadd, 1) := by decide +kernel
theorem dL_law_677 : decode cL_law 677 = .ok (.iaload, 1) := by decide +kernel
theorem dL_law_678 : decode cL_law 678 = .ok (.i2l, 1) := by decide +kernel
theorem dL_law_679 : decode cL_law 679 = .ok (.ldc2_w 56, 3) := by decide +kernel
theorem dL_law_682 : decode cL_law 682 = .ok (.land, 1) := by decide +kernel
theorem dL_law_683 : decode cL_law 683 = .ok (.lor, 1) := by decide +kernel
theorem dL_law_684 : decode cL_law 684 = .ok (.aload_n 0, 1) := by decide +kernel
theorem dL_law_685 : decode cL_law 685 = .ok (.iload 4, 2) := by decide +kernel
theorem dL_law_687 : decode cL_law 687 = .ok (.iconst 3, 1) := by decide +kernel
theorem dL_law_688 : decode cL_law 688 = .ok (.iadd, 1) := by decide +kernel
theorem dL_law_689 : decode cL_law 689 = .ok (.iaload, 1) := by decide +kernel
theorem dL_law_690 : decode cL_law 690 = .ok (.aload_n 3, 1) := by decide +kernel
theorem dL_law_691 : decode cL_law 691 = .ok (.invokestatic 88, 3) := by decide +kernel
theorem dL_law_694 : decode cL_law 694 = .ok (.istore 5, 2) := by decide +kernel
theorem dL_law_696 : decode cL_law 696 = .ok (.aload_n 2, 1) := by decide +kernel
theorem dL_law_697 : decode cL_law 697 = .ok (.aload_n 0, 1) := by decide +kernel
theorem dL_law_698 : decode cL_law 698 = .ok (.iload 4, 2) := by decide +kernel
theorem dL_law_700 : decode cL_law 700 = .ok (.iconst 1, 1) := by decide +kernel
theorem dL_law_701 : decode cL_law 701 = .ok (.iadd, 1) := by decide +kernel
theorem dL_law_702 : decode cL_law 702 = .ok (.iaload, 1) := by decide +kernel
theorem dL_law_703 : decode cL_law 703 = .ok (.i2l, 1) := by decide +kernel
theorem dL_law_704 : decode cL_law 704 = .ok (.bipush 32, 2) := by decide +kernel
theorem dL_law_706 : decode cL_law 706 = .ok (.lshl, 1) := by decide +kernel
theorem dL_law_707 : decode cL_law 707 = .ok (.aload_n 0, 1) := by decide +kernel
theorem dL_law_708 : decode cL_law 708 = .ok (.iload 4, 2) := by decide +kernel
theorem dL_law_710 : decode cL_law 710 = .ok (.iconst 2, 1) := by decide +kernel
theorem dL_law_711 : decode cL_law 711 = .ok (.iadd, 1) := by decide +kernel
theorem dL_law_712 : decode cL_law 712 = .ok (.iaload, 1) := by decide +kernel
theorem dL_law_713 : decode cL_law 713 = .ok (.i2l, 1) := by decide +kernel
theorem dL_law_714 : decode cL_law 714 = .ok (.ldc2_w 56, 3) := by decide +kernel
theorem dL_law_717 : decode cL_law 717 = .ok (.land, 1) := by decide +kernel
theorem dL_law_718 : decode cL_law 718 = .ok (.lor, 1) := by decide +kernel
theorem dL_law_719 : decode cL_law 719 = .ok (.aload_n 0, 1) := by decide +kernel
theorem dL_law_720 : decode cL_law 720 = .ok (.iload 4, 2) := by decide +kernel
theorem dL_law_722 : decode cL_law 722 = .ok (.iconst 3, 1) := by decide +kernel
theorem dL_law_723 : decode cL_law 723 = .ok (.iadd, 1) := by decide +kernel
theorem dL_law_724 : decode cL_law 724 = .ok (.iaload, 1) := by decide +kernel
theorem dL_law_725 : decode cL_law 725 = .ok (.invokevirtual 91, 3) := by decide +kernel
theorem dL_law_728 : decode cL_law 728 = .ok (.istore 6, 2) := by decide +kernel
theorem dL_law_730 : decode cL_law 730 = .ok (.aload_n 2, 1) := by decide +kernel
theorem dL_law_731 : decode cL_law 731 = .ok (.invokevirtual 64, 3) := by decide +kernel
theorem dL_law_734 : decode cL_law 734 = .ok (.iload 5, 2) := by decide +kernel
theorem dL_law_736 : decode cL_law 736 = .ok (.if_icmp .eq 5, 3) := by decide +kernel
theorem dL_law_739 : decode cL_law 739 = .ok (.iconst 0, 1) := by decide +kernel
theorem dL_law_740 : decode cL_law 740 = .ok (.ireturn, 1) := by decide +kernel
theorem dL_law_741 : decode cL_law 741 = .ok (.iload 5, 2) := by decide +kernel
theorem dL_law_743 : decode cL_law 743 = .ok (.ifCond .ne 15, 3) := by decide +kernel
theorem dL_law_746 : decode cL_law 746 = .ok (.aload_n 3, 1) := by decide +kernel
theorem dL_law_747 : decode cL_law 747 = .ok (.iconst 0, 1) := by decide +kernel
theorem dL_law_748 : decode cL_law 748 = .ok (.laload, 1) := by decide +kernel
theorem dL_law_749 : decode cL_law 749 = .ok (.iload 6, 2) := by decide +kernel
theorem dL_law_751 : decode cL_law 751 = .ok (.i2l, 1) := by decide +kernel
theorem dL_law_752 : decode cL_law 752 = .ok (.lcmp, 1) := by decide +kernel
theorem dL_law_753 : decode cL_law 753 = .ok (.ifCond .eq 5, 3) := by decide +kernel
theorem dL_law_756 : decode cL_law 756 = .ok (.iconst 0, 1) := by decide +kernel
theorem dL_law_757 : decode cL_law 757 = .ok (.ireturn, 1) := by decide +kernel
theorem dL_law_758 : decode cL_law 758 = .ok (.goto 183, 3) := by decide +kernel
theorem dL_law_761 : decode cL_law 761 = .ok (.aload_n 1, 1) := by decide +kernel
theorem dL_law_762 : decode cL_law 762 = .ok (.aload_n 3, 1) := by decide +kernel
theorem dL_law_763 : decode cL_law 763 = .ok (.invokestatic 92, 3) := by decide +kernel
theorem dL_law_766 : decode cL_law 766 = .ok (.istore 5, 2) := by decide +kernel
theorem dL_law_768 : decode cL_law 768 = .ok (.aload_n 2, 1) := by decide +kernel
theorem dL_law_769 : decode cL_law 769 = .ok (.invokevirtual 94, 3) := by decide +kernel
theorem dL_law_772 : decode cL_law 772 = .ok (.istore 6, 2) := by decide +kernel
theorem dL_law_774 : decode cL_law 774 = .ok (.aload_n 2, 1) := by decide +kernel
theorem dL_law_775 : decode cL_law 775 = .ok (.invokevirtual 64, 3) := by decide +kernel
theorem dL_law_778 : decode cL_law 778 = .ok (.iload 5, 2) := by decide +kernel
theorem dL_law_780 : decode cL_law 780 = .ok (.if_icmp .eq 5, 3) := by decide +kernel
theorem dL_law_783 : decode cL_law 783 = .ok (.iconst 0, 1) := by decide +kernel
theorem dL_law_784 : decode cL_law 784 = .ok (.ireturn, 1) := by decide +kernel
theorem dL_law_785 : decode cL_law 785 = .ok (.iload 5, 2) := by decide +kernel
theorem dL_law_787 : decode cL_law 787 = .ok (.ifCond .ne 15, 3) := by decide +kernel
theorem dL_law_790 : decode cL_law 790 = .ok (.aload_n 3, 1) := by decide +kernel
theorem dL_law_791 : decode cL_law 791 = .ok (.iconst 0, 1) := by decide +kernel
theorem dL_law_792 : decode cL_law 792 = .ok (.laload, 1) := by decide +kernel
theorem dL_law_793 : decode cL_law 793 = .ok (.iload 6, 2) := by decide +kernel
theorem dL_law_795 : decode cL_law 795 = .ok (.i2l, 1) := by decide +kernel
theorem dL_law_796 : decode cL_law 796 = .ok (.lcmp, 1) := by decide +kernel
theorem dL_law_797 : decode cL_law 797 = .ok (.ifCond .eq 5, 3) := by decide +kernel
theorem dL_law_800 : decode cL_law 800 = .ok (.iconst 0, 1) := by decide +kernel
theorem dL_law_801 : decode cL_law 801 = .ok (.ireturn, 1) := by decide +kernel
theorem dL_law_802 : decode cL_law 802 = .ok (.goto 139, 3) := by decide +kernel
theorem dL_law_805 : decode cL_law 805 = .ok (.aload_n 1, 1) := by decide +kernel
theorem dL_law_806 : decode cL_law 806 = .ok (.invokevirtual 95, 3) := by decide +kernel
theorem dL_law_809 : decode cL_law 809 = .ok (.aload_n 2, 1) := by decide +kernel
theorem dL_law_810 : decode cL_law 810 = .ok (.invokevirtual 98, 3) := by decide +kernel
theorem dL_law_813 : decode cL_law 813 = .ok (.if_icmp .eq 128, 3) := by decide +kernel
theorem dL_law_816 : decode cL_law 816 = .ok (.iconst 0, 1) := by decide +kernel
theorem dL_law_817 : decode cL_law 817 = .ok (.ireturn, 1) := by decide +kernel
theorem dL_law_818 : decode cL_law 818 = .ok (.aload_n 1, 1) := by decide +kernel
theorem dL_law_819 : decode cL_law 819 = .ok (.aload_n 0, 1) := by decide +kernel
theorem dL_law_820 : decode cL_law 820 = .ok (.iload 4, 2) := by decide +kernel
theorem dL_law_822 : decode cL_law 822 = .ok (.iconst 1, 1) := by decide +kernel
theorem dL_law_823 : decode cL_law 823 = .ok (.iadd, 1) := by decide +kernel
theorem dL_law_824 : decode cL_law 824 = .ok (.iaload, 1) := by decide +kernel
theorem dL_law_825 : decode cL_law 825 = .ok (.aload_n 0, 1) := by decide +kernel
theorem dL_law_826 : decode cL_law 826 = .ok (.iload 4, 2) := by decide +kernel
theorem dL_law_828 : decode cL_law 828 = .ok (.iconst 2, 1) := by decide +kernel
theorem dL_law_829 : decode cL_law 829 = .ok (.iadd, 1) := by decide +kernel
theorem dL_law_830 : decode cL_law 830 = .ok (.iaload, 1) := by decide +kernel
theorem dL_law_831 : decode cL_law 831 = .ok (.aload_n 3, 1) := by decide +kernel
theorem dL_law_832 : decode cL_law 832 = .ok (.invokestatic 99, 3) := by decide +kernel
theorem dL_law_835 : decode cL_law 835 = .ok (.istore 5, 2) := by decide +kernel
theorem dL_law_837 : decode cL_law 837 = .ok (.aload_n 2, 1) := by decide +kernel
theorem dL_law_838 : decode cL_law 838 = .ok (.aload_n 0, 1) := by decide +kernel
theorem dL_law_839 : decode cL_law 839 = .ok (.iload 4, 2) := by decide +kernel
theorem dL_law_841 : decode cL_law 841 = .ok (.iconst 1, 1) := by decide +kernel
theorem dL_law_842 : decode cL_law 842 = .ok (.iadd, 1) := by decide +kernel
theorem dL_law_843 : decode cL_law 843 = .ok (.iaload, 1) := by decide +kernel
theorem dL_law_844 : decode cL_law 844 = .ok (.aload_n 0, 1) := by decide +kernel
theorem dL_law_845 : decode cL_law 845 = .ok (.iload 4, 2) := by decide +kernel
theorem dL_law_847 : decode cL_law 847 = .ok (.iconst 2, 1) := by decide +kernel
theorem dL_law_848 : decode cL_law 848 = .ok (.iadd, 1) := by decide +kernel
theorem dL_law_849 : decode cL_law 849 = .ok (.iaload, 1) := by decide +kernel
theorem dL_law_850 : decode cL_law 850 = .ok (.invokevirtual 102, 3) := by decide +kernel
theorem dL_law_853 : decode cL_law 853 = .ok (.lstore 6, 2) := by decide +kernel
theorem dL_law_855 : decode cL_law 855 = .ok (.aload_n 2, 1) := by decide +kernel
theorem dL_law_856 : decode cL_law 856 = .ok (.invokevirtual 64, 3) := by decide +kernel
theorem dL_law_859 : decode cL_law 859 = .ok (.iload 5, 2) := by decide +kernel
theorem dL_law_861 : decode cL_law 861 = .ok (.if_icmp .eq 5, 3) := by decide +kernel
theorem dL_law_864 : decode cL_law 864 = .ok (.iconst 0, 1) := by decide +kernel
theorem dL_law_865 : decode cL_law 865 = .ok (.ireturn, 1) := by decide +kernel
theorem dL_law_866 : decode cL_law 866 = .ok (.iload 5, 2) := by decide +kernel
theorem dL_law_868 : decode cL_law 868 = .ok (.ifCond .ne 14, 3) := by decide +kernel
theorem dL_law_871 : decode cL_law 871 = .ok (.aload_n 3, 1) := by decide +kernel
theorem dL_law_872 : decode cL_law 872 = .ok (.iconst 0, 1) := by decide +kernel
theorem dL_law_873 : decode cL_law 873 = .ok (.laload, 1) := by decide +kernel
theorem dL_law_874 : decode cL_law 874 = .ok (.lload 6, 2) := by decide +kernel
theorem dL_law_876 : decode cL_law 876 = .ok (.lcmp, 1) := by decide +kernel
theorem dL_law_877 : decode cL_law 877 = .ok (.ifCond .eq 5, 3) := by decide +kernel
theorem dL_law_880 : decode cL_law 880 = .ok (.iconst 0, 1) := by decide +kernel
theorem dL_law_881 : decode cL_law 881 = .ok (.ireturn, 1) := by decide +kernel
theorem dL_law_882 : decode cL_law 882 = .ok (.goto 59, 3) := by decide +kernel
theorem dL_law_885 : decode cL_law 885 = .ok (.aload_n 1, 1) := by decide +kernel
theorem dL_law_886 : decode cL_law 886 = .ok (.aload_n 0, 1) := by decide +kernel
theorem dL_law_887 : decode cL_law 887 = .ok (.iload 4, 2) := by decide +kernel
theorem dL_law_889 : decode cL_law 889 = .ok (.iconst 1, 1) := by decide +kernel
theorem dL_law_890 : decode cL_law 890 = .ok (.iadd, 1) := by decide +kernel
theorem dL_law_891 : decode cL_law 891 = .ok (.iaload, 1) := by decide +kernel
theorem dL_law_892 : decode cL_law 892 = .ok (.aload_n 3, 1) := by decide +kernel
theorem dL_law_893 : decode cL_law 893 = .ok (.invokestatic 103, 3) := by decide +kernel
theorem dL_law_896 : decode cL_law 896 = .ok (.istore 5, 2) := by decide +kernel
theorem dL_law_898 : decode cL_law 898 = .ok (.aload_n 2, 1) := by decide +kernel
theorem dL_law_899 : decode cL_law 899 = .ok (.aload_n 0, 1) := by decide +kernel
theorem dL_law_900 : decode cL_law 900 = .ok (.iload 4, 2) := by decide +kernel
theorem dL_law_902 : decode cL_law 902 = .ok (.iconst 1, 1) := by decide +kernel
theorem dL_law_903 : decode cL_law 903 = .ok (.iadd, 1) := by decide +kernel
theorem dL_law_904 : decode cL_law 904 = .ok (.iaload, 1) := by decide +kernel
theorem dL_law_905 : decode cL_law 905 = .ok (.invokevirtual 105, 3) := by decide +kernel
theorem dL_law_908 : decode cL_law 908 = .ok (.istore 6, 2) := by decide +kernel
theorem dL_law_910 : decode cL_law 910 = .ok (.aload_n 2, 1) := by decide +kernel
theorem dL_law_911 : decode cL_law 911 = .ok (.invokevirtual 64, 3) := by decide +kernel
theorem dL_law_914 : decode cL_law 914 = .ok (.iload 5, 2) := by decide +kernel
theorem dL_law_916 : decode cL_law 916 = .ok (.if_icmp .eq 5, 3) := by decide +kernel
theorem dL_law_919 : decode cL_law 919 = .ok (.iconst 0, 1) := by decide +kernel
theorem dL_law_920 : decode cL_law 920 = .ok (.ireturn, 1) := by decide +kernel
theorem dL_law_921 : decode cL_law 921 = .ok (.iload 5, 2) := by decide +kernel
theorem dL_law_923 : decode cL_law 923 = .ok (.ifCond .ne 15, 3) := by decide +kernel
theorem dL_law_926 : decode cL_law 926 = .ok (.aload_n 3, 1) := by decide +kernel
theorem dL_law_927 : decode cL_law 927 = .ok (.iconst 0, 1) := by decide +kernel
theorem dL_law_928 : decode cL_law 928 = .ok (.laload, 1) := by decide +kernel
theorem dL_law_929 : decode cL_law 929 = .ok (.iload 6, 2) := by decide +kernel
theorem dL_law_931 : decode cL_law 931 = .ok (.i2l, 1) := by decide +kernel
theorem dL_law_932 : decode cL_law 932 = .ok (.lcmp, 1) := by decide +kernel
theorem dL_law_933 : decode cL_law 933 = .ok (.ifCond .eq 5, 3) := by decide +kernel
theorem dL_law_936 : decode cL_law 936 = .ok (.iconst 0, 1) := by decide +kernel
theorem dL_law_937 : decode cL_law 937 = .ok (.ireturn, 1) := by decide +kernel
theorem dL_law_938 : decode cL_law 938 = .ok (.goto 3, 3) := by decide +kernel
theorem dL_law_941 : decode cL_law 941 = .ok (.iinc 4 7, 3) := by decide +kernel
theorem dL_law_944 : decode cL_law 944 = .ok (.goto (-921), 3) := by decide +kernel
theorem dL_law_947 : decode cL_law 947 = .ok (.iconst 1, 1) := by decide +kernel
theorem dL_law_948 : decode cL_law 948 = .ok (.ireturn, 1) := by decide +kernel
abbrev cX0_add : ByteArray := method_3_code
def yX0_add : MethodName := ⟨"TripleStoreLaw", "add", "(LTripleStore;JJJ[J)I"⟩
theorem dX0_add_0 : decode cX0_add 0 = .ok (.aload 7, 2) := by decide +kernel
theorem dX0_add_2 : decode cX0_add 2 = .ok (.iconst 0, 1) := by decide +kernel
theorem dX0_add_3 : decode cX0_add 3 = .ok (.aload_n 0, 1) := by decide +kernel
theorem dX0_add_4 : decode cX0_add 4 = .ok (.lload_n 1, 1) := by decide +kernel
theorem dX0_add_5 : decode cX0_add 5 = .ok (.lload_n 3, 1) := by decide +kernel
theorem dX0_add_6 : decode cX0_add 6 = .ok (.lload 5, 2) := by decide +kernel
theorem dX0_add_8 : decode cX0_add 8 = .ok (.invokevirtual 7, 3) := by decide +kernel
theorem dX0_add_11 : decode cX0_add 11 = .ok (.i2l, 1) := by decide +kernel
theorem dX0_add_12 : decode cX0_add 12 = .ok (.lastore, 1) := by decide +kernel
theorem dX0_add_13 : decode cX0_add 13 = .ok (.goto 11, 3) := by decide +kernel
theorem dX0_add_16 : decode cX0_add 16 = .ok (.astore 8, 2) := by decide +kernel
theorem dX0_add_18 : decode cX0_add 18 = .ok (.iconst 1, 1) := by decide +kernel
theorem dX0_add_19 : decode cX0_add 19 = .ok (.ireturn, 1) := by decide +kernel
theorem dX0_add_20 : decode cX0_add 20 = .ok (.astore 8, 2) := by decide +kernel
theorem dX0_add_22 : decode cX0_add 22 = .ok (.iconst 2, 1) := by decide +kernel
theorem dX0_add_23 : decode cX0_add 23 = .ok (.ireturn, 1) := by decide +kernel
theorem dX0_add_24 : decode cX0_add 24 = .ok (.iconst 0, 1) := by decide +kernel
theorem dX0_add_25 : decode cX0_add 25 = .ok (.ireturn, 1) := by decide +kernel
abbrev cX0_remove : ByteArray := method_4_code
def yX0_remove : MethodName := ⟨"TripleStoreLaw", "remove", "(LTripleStore;JJJ[J)I"⟩
theorem dX0_remove_0 : decode cX0_remove 0 = .ok (.aload 7, 2) := by decide +kernel
theorem dX0_remove_2 : decode cX0_remove 2 = .ok (.iconst 0, 1) := by decide +kernel
theorem dX0_remove_3 : decode cX0_remove 3 = .ok (.aload_n 0, 1) := by decide +kernel
theorem dX0_remove_4 : decode cX0_remove 4 = .ok (.lload_n 1, 1) := by decide +kernel
theorem dX0_remove_5 : decode cX0_remove 5 = .ok (.lload_n 3, 1) := by decide +kernel
theorem dX0_remove_6 : decode cX0_remove 6 = .ok (.lload 5, 2) := by decide +kernel
theorem dX0_remove_8 : decode cX0_remove 8 = .ok (.invokevirtual 17, 3) := by decide +kernel
theorem dX0_remove_11 : decode cX0_remove 11 = .ok (.i2l, 1) := by decide +kernel
theorem dX0_remove_12 : decode cX0_remove 12 = .ok (.lastore, 1) := by decide +kernel
theorem dX0_remove_13 : decode cX0_remove 13 = .ok (.goto 7, 3) := by decide +kernel
theorem dX0_remove_16 : decode cX0_remove 16 = .ok (.astore 8, 2) := by decide +kernel
theorem dX0_remove_18 : decode cX0_remove 18 = .ok (.iconst 1, 1) := by decide +kernel
theorem dX0_remove_19 : decode cX0_remove 19 = .ok (.ireturn, 1) := by decide +kernel
theorem dX0_remove_20 : decode cX0_remove 20 = .ok (.iconst 0, 1) := by decide +kernel
theorem dX0_remove_21 : decode cX0_remove 21 = .ok (.ireturn, 1) := by decide +kernel
abbrev cX0_begin : ByteArray := method_5_code
def yX0_begin : MethodName := ⟨"TripleStoreLaw", "begin", "(LTripleStore;[J)I"⟩
theorem dX0_begin_0 : decode cX0_begin 0 = .ok (.aload_n 1, 1) := by decide +kernel
theorem dX0_begin_1 : decode cX0_begin 1 = .ok (.iconst 0, 1) := by decide +kernel
theorem dX0_begin_2 : decode cX0_begin 2 = .ok (.aload_n 0, 1) := by decide +kernel
theorem dX0_begin_3 : decode cX0_begin 3 = .ok (.invokevirtual 20, 3) := by decide +kernel
theorem dX0_begin_6 : decode cX0_begin 6 = .ok (.i2l, 1) := by decide +kernel
theorem dX0_begin_7 : decode cX0_begin 7 = .ok (.lastore, 1) := by decide +kernel
theorem dX0_begin_8 : decode cX0_begin 8 = .ok (.goto 6, 3) := by decide +kernel
theorem dX0_begin_11 : decode cX0_begin 11 = .ok (.astore_n 2, 1) := by decide +kernel
theorem dX0_begin_12 : decode cX0_begin 12 = .ok (.iconst 1, 1) := by decide +kernel
theorem dX0_begin_13 : decode cX0_begin 13 = .ok (.ireturn, 1) := by decide +kernel
theorem dX0_begin_14 : decode cX0_begin 14 = .ok (.iconst 0, 1) := by decide +kernel
theorem dX0_begin_15 : decode cX0_begin 15 = .ok (.ireturn, 1) := by decide +kernel
abbrev cX0_commit : ByteArray := method_6_code
def yX0_commit : MethodName := ⟨"TripleStoreLaw", "commit", "(LTripleStore;[J)I"⟩
theorem dX0_commit_0 : decode cX0_commit 0 = .ok (.aload_n 1, 1) := by decide +kernel
theorem dX0_commit_1 : decode cX0_commit 1 = .ok (.iconst 0, 1) := by decide +kernel
theorem dX0_commit_2 : decode cX0_commit 2 = .ok (.aload_n 0, 1) := by decide +kernel
theorem dX0_commit_3 : decode cX0_commit 3 = .ok (.invokevirtual 24, 3) := by decide +kernel
theorem dX0_commit_6 : decode cX0_commit 6 = .ok (.i2l, 1) := by decide +kernel
theorem dX0_commit_7 : decode cX0_commit 7 = .ok (.lastore, 1) := by decide +kernel
theorem dX0_commit_8 : decode cX0_commit 8 = .ok (.goto 6, 3) := by decide +kernel
theorem dX0_commit_11 : decode cX0_commit 11 = .ok (.astore_n 2, 1) := by decide +kernel
theorem dX0_commit_12 : decode cX0_commit 12 = .ok (.iconst 1, 1) := by decide +kernel
theorem dX0_commit_13 : decode cX0_commit 13 = .ok (.ireturn, 1) := by decide +kernel
theorem dX0_commit_14 : decode cX0_commit 14 = .ok (.iconst 0, 1) := by decide +kernel
theorem dX0_commit_15 : decode cX0_commit 15 = .ok (.ireturn, 1) := by decide +kernel
abbrev cX0_rollback : ByteArray := method_7_code
def yX0_rollback : MethodName := ⟨"TripleStoreLaw", "rollback", "(LTripleStore;[J)I"⟩
theorem dX0_rollback_0 : decode cX0_rollback 0 = .ok (.aload_n 1, 1) := by decide +kernel
theorem dX0_rollback_1 : decode cX0_rollback 1 = .ok (.iconst 0, 1) := by decide +kernel
theorem dX0_rollback_2 : decode cX0_rollback 2 = .ok (.aload_n 0, 1) := by decide +kernel
theorem dX0_rollback_3 : decode cX0_rollback 3 = .ok (.invokevirtual 27, 3) := by decide +kernel
theorem dX0_rollback_6 : decode cX0_rollback 6 = .ok (.i2l, 1) := by decide +kernel
theorem dX0_rollback_7 : decode cX0_rollback 7 = .ok (.lastore, 1) := by decide +kernel
theorem dX0_rollback_8 : decode cX0_rollback 8 = .ok (.goto 6, 3) := by decide +kernel
theorem dX0_rollback_11 : decode cX0_rollback 11 = .ok (.astore_n 2, 1) := by decide +kernel
theorem dX0_rollback_12 : decode cX0_rollback 12 = .ok (.iconst 1, 1) := by decide +kernel
theorem dX0_rollback_13 : decode cX0_rollback 13 = .ok (.ireturn, 1) := by decide +kernel
theorem dX0_rollback_14 : decode cX0_rollback 14 = .ok (.iconst 0, 1) := by decide +kernel
theorem dX0_rollback_15 : decode cX0_rollback 15 = .ok (.ireturn, 1) := by decide +kernel
abbrev cX0_crash : ByteArray := method_8_code
def yX0_crash : MethodName := ⟨"TripleStoreLaw", "crash", "(LTripleStore;I[J)I"⟩
theorem dX0_crash_0 : decode cX0_crash 0 = .ok (.aload_n 2, 1) := by decide +kernel
theorem dX0_crash_1 : decode cX0_crash 1 = .ok (.iconst 0, 1) := by decide +kernel
theorem dX0_crash_2 : decode cX0_crash 2 = .ok (.aload_n 0, 1) := by decide +kernel
theorem dX0_crash_3 : decode cX0_crash 3 = .ok (.iload_n 1, 1) := by decide +kernel
theorem dX0_crash_4 : decode cX0_crash 4 = .ok (.invokevirtual 30, 3) := by decide +kernel
theorem dX0_crash_7 : decode cX0_crash 7 = .ok (.i2l, 1) := by decide +kernel
theorem dX0_crash_8 : decode cX0_crash 8 = .ok (.lastore, 1) := by decide +kernel
theorem dX0_crash_9 : decode cX0_crash 9 = .ok (.goto 6, 3) := by decide +kernel
theorem dX0_crash_12 : decode cX0_crash 12 = .ok (.astore_n 3, 1) := by decide +kernel
theorem dX0_crash_13 : decode cX0_crash 13 = .ok (.iconst 1, 1) := by decide +kernel
theorem dX0_crash_14 : decode cX0_crash 14 = .ok (.ireturn, 1) := by decide +kernel
theorem dX0_crash_15 : decode cX0_crash 15 = .ok (.iconst 0, 1) := by decide +kernel
theorem dX0_crash_16 : decode cX0_crash 16 = .ok (.ireturn, 1) := by decide +kernel
abbrev cX0_append : ByteArray := method_9_code
def yX0_append : MethodName := ⟨"TripleStoreLaw", "append", "(LTripleStore;JI[J)I"⟩
theorem dX0_append_0 : decode cX0_append 0 = .ok (.aload 4, 2) := by decide +kernel
theorem dX0_append_2 : decode cX0_append 2 = .ok (.iconst 0, 1) := by decide +kernel
theorem dX0_append_3 : decode cX0_append 3 = .ok (.aload_n 0, 1) := by decide +kernel
theorem dX0_append_4 : decode cX0_append 4 = .ok (.lload_n 1, 1) := by decide +kernel
theorem dX0_append_5 : decode cX0_append 5 = .ok (.iload_n 3, 1) := by decide +kernel
theorem dX0_append_6 : decode cX0_append 6 = .ok (.invokevirtual 34, 3) := by decide +kernel
theorem dX0_append_9 : decode cX0_append 9 = .ok (.i2l, 1) := by decide +kernel
theorem dX0_append_10 : decode cX0_append 10 = .ok (.lastore, 1) := by decide +kernel
theorem dX0_append_11 : decode cX0_append 11 = .ok (.goto 11, 3) := by decide +kernel
theorem dX0_append_14 : decode cX0_append 14 = .ok (.astore 5, 2) := by decide +kernel
theorem dX0_append_16 : decode cX0_append 16 = .ok (.iconst 1, 1) := by decide +kernel
theorem dX0_append_17 : decode cX0_append 17 = .ok (.ireturn, 1) := by decide +kernel
theorem dX0_append_18 : decode cX0_append 18 = .ok (.astore 5, 2) := by decide +kernel
theorem dX0_append_20 : decode cX0_append 20 = .ok (.iconst 2, 1) := by decide +kernel
theorem dX0_append_21 : decode cX0_append 21 = .ok (.ireturn, 1) := by decide +kernel
theorem dX0_append_22 : decode cX0_append 22 = .ok (.iconst 0, 1) := by decide +kernel
theorem dX0_append_23 : decode cX0_append 23 = .ok (.ireturn, 1) := by decide +kernel
abbrev cX0_ask : ByteArray := method_10_code
def yX0_ask : MethodName := ⟨"TripleStoreLaw", "ask", "(LTripleStore;[J)I"⟩
theorem dX0_ask_0 : decode cX0_ask 0 = .ok (.aload_n 1, 1) := by decide +kernel
theorem dX0_ask_1 : decode cX0_ask 1 = .ok (.iconst 0, 1) := by decide +kernel
theorem dX0_ask_2 : decode cX0_ask 2 = .ok (.aload_n 0, 1) := by decide +kernel
theorem dX0_ask_3 : decode cX0_ask 3 = .ok (.invokevirtual 38, 3) := by decide +kernel
theorem dX0_ask_6 : decode cX0_ask 6 = .ok (.i2l, 1) := by decide +kernel
theorem dX0_ask_7 : decode cX0_ask 7 = .ok (.lastore, 1) := by decide +kernel
theorem dX0_ask_8 : decode cX0_ask 8 = .ok (.goto 9, 3) := by decide +kernel
theorem dX0_ask_11 : decode cX0_ask 11 = .ok (.astore_n 2, 1) := by decide +kernel
theorem dX0_ask_12 : decode cX0_ask 12 = .ok (.iconst 1, 1) := by decide +kernel
theorem dX0_ask_13 : decode cX0_ask 13 = .ok (.ireturn, 1) := by decide +kernel
theorem dX0_ask_14 : decode cX0_ask 14 = .ok (.astore_n 2, 1) := by decide +kernel
theorem dX0_ask_15 : decode cX0_ask 15 = .ok (.iconst 2, 1) := by decide +kernel
theorem dX0_ask_16 : decode cX0_ask 16 = .ok (.ireturn, 1) := by decide +kernel
theorem dX0_ask_17 : decode cX0_ask 17 = .ok (.iconst 0, 1) := by decide +kernel
theorem dX0_ask_18 : decode cX0_ask 18 = .ok (.ireturn, 1) := by decide +kernel
abbrev cX0_cell : ByteArray := method_11_code
def yX0_cell : MethodName := ⟨"TripleStoreLaw", "cell", "(LTripleStore;II[J)I"⟩
theorem dX0_cell_0 : decode cX0_cell 0 = .ok (.aload_n 3, 1) := by decide +kernel
theorem dX0_cell_1 : decode cX0_cell 1 = .ok (.iconst 0, 1) := by decide +kernel
theorem dX0_cell_2 : decode cX0_cell 2 = .ok (.aload_n 0, 1) := by decide +kernel
theorem dX0_cell_3 : decode cX0_cell 3 = .ok (.iload_n 1, 1) := by decide +kernel
theorem dX0_cell_4 : decode cX0_cell 4 = .ok (.iload_n 2, 1) := by decide +kernel
theorem dX0_cell_5 : decode cX0_cell 5 = .ok (.invokevirtual 41, 3) := by decide +kernel
theorem dX0_cell_8 : decode cX0_cell 8 = .ok (.lastore, 1) := by decide +kernel
theorem dX0_cell_9 : decode cX0_cell 9 = .ok (.goto 11, 3) := by decide +kernel
theorem dX0_cell_12 : decode cX0_cell 12 = .ok (.astore 4, 2) := by decide +kernel
theorem dX0_cell_14 : decode cX0_cell 14 = .ok (.iconst 1, 1) := by decide +kernel
theorem dX0_cell_15 : decode cX0_cell 15 = .ok (.ireturn, 1) := by decide +kernel
theorem dX0_cell_16 : decode cX0_cell 16 = .ok (.astore 4, 2) := by decide +kernel
theorem dX0_cell_18 : decode cX0_cell 18 = .ok (.iconst 2, 1) := by decide +kernel
theorem dX0_cell_19 : decode cX0_cell 19 = .ok (.ireturn, 1) := by decide +kernel
theorem dX0_cell_20 : decode cX0_cell 20 = .ok (.iconst 0, 1) := by decide +kernel
theorem dX0_cell_21 : decode cX0_cell 21 = .ok (.ireturn, 1) := by decide +kernel
abbrev cX0_count : ByteArray := method_12_code
def yX0_count : MethodName := ⟨"TripleStoreLaw", "count", "(LTripleStore;I[J)I"⟩
theorem dX0_count_0 : decode cX0_count 0 = .ok (.aload_n 2, 1) := by decide +kernel
theorem dX0_count_1 : decode cX0_count 1 = .ok (.iconst 0, 1) := by decide +kernel
theorem dX0_count_2 : decode cX0_count 2 = .ok (.aload_n 0, 1) := by decide +kernel
theorem dX0_count_3 : decode cX0_count 3 = .ok (.iload_n 1, 1) := by decide +kernel
theorem dX0_count_4 : decode cX0_count 4 = .ok (.invokevirtual 49, 3) := by decide +kernel
theorem dX0_count_7 : decode cX0_count 7 = .ok (.i2l, 1) := by decide +kernel
theorem dX0_count_8 : decode cX0_count 8 = .ok (.lastore, 1) := by decide +kernel
theorem dX0_count_9 : decode cX0_count 9 = .ok (.goto 6, 3) := by decide +kernel
theorem dX0_count_12 : decode cX0_count 12 = .ok (.astore_n 3, 1) := by decide +kernel
theorem dX0_count_13 : decode cX0_count 13 = .ok (.iconst 1, 1) := by decide +kernel
theorem dX0_count_14 : decode cX0_count 14 = .ok (.ireturn, 1) := by decide +kernel
theorem dX0_count_15 : decode cX0_count 15 = .ok (.iconst 0, 1) := by decide +kernel
theorem dX0_count_16 : decode cX0_count 16 = .ok (.ireturn, 1) := by decide +kernel
abbrev cX1_init : ByteArray := prog_1_method_1_code
def yX1_init : MethodName := ⟨"TripleStore", "<init>", "()V"⟩
theorem dX1_init_0 : decode cX1_init 0 = .ok (.aload_n 0, 1) := by decide +kernel
theorem dX1_init_1 : decode cX1_init 1 = .ok (.invokespecial 1, 3) := by decide +kernel
theorem dX1_init_4 : decode cX1_init 4 = .ok (.aload_n 0, 1) := by decide +kernel
theorem dX1_init_5 : decode cX1_init 5 = .ok (.bipush 48, 2) := by decide +kernel
theorem dX1_init_7 : decode cX1_init 7 = .ok (.anewarray 9, 3) := by decide +kernel
theorem dX1_init_10 : decode cX1_init 10 = .ok (.putfield 11, 3) := by decide +kernel
theorem dX1_init_13 : decode cX1_init 13 = .ok (.aload_n 0, 1) := by decide +kernel
theorem dX1_init_14 : decode cX1_init 14 = .ok (.new 15, 3) := by decide +kernel
theorem dX1_init_17 : decode cX1_init 17 = .ok (.dup, 1) := by decide +kernel
theorem dX1_init_18 : decode cX1_init 18 = .ok (.sipush 160, 3) := by decide +kernel
theorem dX1_init_21 : decode cX1_init 21 = .ok (.invokespecial 17, 3) := by decide +kernel
theorem dX1_init_24 : decode cX1_init 24 = .ok (.putfield 20, 3) := by decide +kernel
theorem dX1_init_27 : decode cX1_init 27 = .ok (.aload_n 0, 1) := by decide +kernel
theorem dX1_init_28 : decode cX1_init 28 = .ok (.iconst (-1), 1) := by decide +kernel
theorem dX1_init_29 : decode cX1_init 29 = .ok (.putfield 24, 3) := by decide +kernel
theorem dX1_init_32 : decode cX1_init 32 = .ok (.aload_n 0, 1) := by decide +kernel
theorem dX1_init_33 : decode cX1_init 33 = .ok (.iconst 0, 1) := by decide +kernel
theorem dX1_init_34 : decode cX1_init 34 = .ok (.anewarray 28, 3) := by decide +kernel
theorem dX1_init_37 : decode cX1_init 37 = .ok (.putfield 30, 3) := by decide +kernel
theorem dX1_init_40 : decode cX1_init 40 = .ok (.return_, 1) := by decide +kernel
abbrev cX1_sync : ByteArray := prog_1_method_17_code
def yX1_sync : MethodName := ⟨"TripleStore", "sync", "()I"⟩
theorem dX1_sync_0 : decode cX1_sync 0 = .ok (.aload_n 0, 1) := by decide +kernel
theorem dX1_sync_1 : decode cX1_sync 1 = .ok (.getfield 116, 3) := by decide +kernel
theorem dX1_sync_4 : decode cX1_sync 4 = .ok (.istore_n 1, 1) := by decide +kernel
theorem dX1_sync_5 : decode cX1_sync 5 = .ok (.aload_n 0, 1) := by decide +kernel
theorem dX1_sync_6 : decode cX1_sync 6 = .ok (.iconst 0, 1) := by decide +kernel
theorem dX1_sync_7 : decode cX1_sync 7 = .ok (.putfield 116, 3) := by decide +kernel
theorem dX1_sync_10 : decode cX1_sync 10 = .ok (.aload_n 0, 1) := by decide +kernel
theorem dX1_sync_11 : decode cX1_sync 11 = .ok (.aconst_null, 1) := by decide +kernel
theorem dX1_sync_12 : decode cX1_sync 12 = .ok (.putfield 103, 3) := by decide +kernel
theorem dX1_sync_15 : decode cX1_sync 15 = .ok (.aload_n 0, 1) := by decide +kernel
theorem dX1_sync_16 : decode cX1_sync 16 = .ok (.aconst_null, 1) := by decide +kernel
theorem dX1_sync_17 : decode cX1_sync 17 = .ok (.putfield 107, 3) := by decide +kernel
theorem dX1_sync_20 : decode cX1_sync 20 = .ok (.iload_n 1, 1) := by decide +kernel
theorem dX1_sync_21 : decode cX1_sync 21 = .ok (.ireturn, 1) := by decide +kernel
abbrev cX1_fault : ByteArray := prog_1_method_23_code
def yX1_fault : MethodName := ⟨"TripleStore", "fault", "()I"⟩
theorem dX1_fault_0 : decode cX1_fault 0 = .ok (.aload_n 0, 1) := by decide +kernel
theorem dX1_fault_1 : decode cX1_fault 1 = .ok (.getfield 24, 3) := by decide +kernel
theorem dX1_fault_4 : decode cX1_fault 4 = .ok (.ireturn, 1) := by decide +kernel
abbrev cX1_add : ByteArray := prog_1_method_9_code
def yX1_add : MethodName := ⟨"TripleStore", "add", "(JJJ)I"⟩
theorem dX1_add_0 : decode cX1_add 0 = .ok (.lload_n 1, 1) := by decide +kernel
theorem dX1_add_1 : decode cX1_add 1 = .ok (.lload_n 3, 1) := by decide +kernel
theorem dX1_add_2 : decode cX1_add 2 = .ok (.lload 5, 2) := by decide +kernel
theorem dX1_add_4 : decode cX1_add 4 = .ok (.invokestatic 119, 3) := by decide +kernel
theorem dX1_add_7 : decode cX1_add 7 = .ok (.astore 7, 2) := by decide +kernel
theorem dX1_add_9 : decode cX1_add 9 = .ok (.aload_n 0, 1) := by decide +kernel
theorem dX1_add_10 : decode cX1_add 10 = .ok (.aload 7, 2) := by decide +kernel
theorem dX1_add_12 : decode cX1_add 12 = .ok (.invokevirtual 123, 3) := by decide +kernel
theorem dX1_add_15 : decode cX1_add 15 = .ok (.ifCond .lt 5, 3) := by decide +kernel
theorem dX1_add_18 : decode cX1_add 18 = .ok (.iconst 0, 1) := by decide +kernel
theorem dX1_add_19 : decode cX1_add 19 = .ok (.ireturn, 1) := by decide +kernel
theorem dX1_add_20 : decode cX1_add 20 = .ok (.aload_n 0, 1) := by decide +kernel
theorem dX1_add_21 : decode cX1_add 21 = .ok (.getfield 72, 3) := by decide +kernel
theorem dX1_add_24 : decode cX1_add 24 = .ok (.bipush 48, 2) := by decide +kernel
theorem dX1_add_26 : decode cX1_add 26 = .ok (.if_icmp .ne 11, 3) := by decide +kernel
theorem dX1_add_29 : decode cX1_add 29 = .ok (.new 127, 3) := by decide +kernel
theorem dX1_add_32 : decode cX1_add 32 = .ok (.dup, 1) := by decide +kernel
theorem dX1_add_33 : decode cX1_add 33 = .ok (.invokespecial 129, 3) := by decide +kernel
theorem dX1_add_36 : decode cX1_add 36 = .ok (.athrow, 1) := by decide +kernel
theorem dX1_add_37 : decode cX1_add 37 = .ok (.aload_n 0, 1) := by decide +kernel
theorem dX1_add_38 : decode cX1_add 38 = .ok (.aload 7, 2) := by decide +kernel
theorem dX1_add_40 : decode cX1_add 40 = .ok (.invokevirtual 130, 3) := by decide +kernel
theorem dX1_add_43 : decode cX1_add 43 = .ok (.aload_n 0, 1) := by decide +kernel
theorem dX1_add_44 : decode cX1_add 44 = .ok (.iconst 1, 1) := by decide +kernel
theorem dX1_add_45 : decode cX1_add 45 = .ok (.aload 7, 2) := by decide +kernel
theorem dX1_add_47 : decode cX1_add 47 = .ok (.invokevirtual 134, 3) := by decide +kernel
theorem dX1_add_50 : decode cX1_add 50 = .ok (.iconst 1, 1) := by decide +kernel
theorem dX1_add_51 : decode cX1_add 51 = .ok (.ireturn, 1) := by decide +kernel
abbrev cX1_tripleOf : ByteArray := prog_1_method_3_code
def yX1_tripleOf : MethodName := ⟨"TripleStore", "tripleOf", "(JJJ)LTripleStore$Triple;"⟩
theorem dX1_tripleOf_0 : decode cX1_tripleOf 0 = .ok (.new 9, 3) := by decide +kernel
theorem dX1_tripleOf_3 : decode cX1_tripleOf 3 = .ok (.dup, 1) := by decide +kernel
theorem dX1_tripleOf_4 : decode cX1_tripleOf 4 = .ok (.lload_n 0, 1) := by decide +kernel
theorem dX1_tripleOf_5 : decode cX1_tripleOf 5 = .ok (.invokestatic 61, 3) := by decide +kernel
theorem dX1_tripleOf_8 : decode cX1_tripleOf 8 = .ok (.lload_n 2, 1) := by decide +kernel
theorem dX1_tripleOf_9 : decode cX1_tripleOf 9 = .ok (.invokestatic 61, 3) := by decide +kernel
theorem dX1_tripleOf_12 : decode cX1_tripleOf 12 = .ok (.lload 4, 2) := by decide +kernel
theorem dX1_tripleOf_14 : decode cX1_tripleOf 14 = .ok (.invokestatic 61, 3) := by decide +kernel
theorem dX1_tripleOf_17 : decode cX1_tripleOf 17 = .ok (.invokespecial 65, 3) := by decide +kernel
theorem dX1_tripleOf_20 : decode cX1_tripleOf 20 = .ok (.astore 6, 2) := by decide +kernel
theorem dX1_tripleOf_22 : decode cX1_tripleOf 22 = .ok (.aload 6, 2) := by decide +kernel
theorem dX1_tripleOf_24 : decode cX1_tripleOf 24 = .ok (.getfield 68, 3) := by decide +kernel
theorem dX1_tripleOf_27 : decode cX1_tripleOf 27 = .ok (.iconst 0, 1) := by decide +kernel
theorem dX1_tripleOf_28 : decode cX1_tripleOf 28 = .ok (.aaload, 1) := by decide +kernel
theorem dX1_tripleOf_29 : decode cX1_tripleOf 29 = .ok (.instanceof 39, 3) := by decide +kernel
theorem dX1_tripleOf_32 : decode cX1_tripleOf 32 = .ok (.ifCond .ne 16, 3) := by decide +kernel
theorem dX1_tripleOf_35 : decode cX1_tripleOf 35 = .ok (.aload 6, 2) := by decide +kernel
theorem dX1_tripleOf_37 : decode cX1_tripleOf 37 = .ok (.getfield 68, 3) := by decide +kernel
theorem dX1_tripleOf_40 : decode cX1_tripleOf 40 = .ok (.iconst 1, 1) := by decide +kernel
theorem dX1_tripleOf_41 : decode cX1_tripleOf 41 = .ok (.aaload, 1) := by decide +kernel
theorem dX1_tripleOf_42 : decode cX1_tripleOf 42 = .ok (.instanceof 39, 3) := by decide +kernel
theorem dX1_tripleOf_45 : decode cX1_tripleOf 45 = .ok (.ifCond .eq 11, 3) := by decide +kernel
theorem dX1_tripleOf_48 : decode cX1_tripleOf 48 = .ok (.new 36, 3) := by decide +kernel
theorem dX1_tripleOf_51 : decode cX1_tripleOf 51 = .ok (.dup, 1) := by decide +kernel
theorem dX1_tripleOf_52 : decode cX1_tripleOf 52 = .ok (.invokespecial 38, 3) := by decide +kernel
theorem dX1_tripleOf_55 : decode cX1_tripleOf 55 = .ok (.athrow, 1) := by decide +kernel
theorem dX1_tripleOf_56 : decode cX1_tripleOf 56 = .ok (.aload 6, 2) := by decide +kernel
theorem dX1_tripleOf_58 : decode cX1_tripleOf 58 = .ok (.areturn, 1) := by decide +kernel
abbrev cX1_termOf : ByteArray := prog_1_method_2_code
def yX1_termOf : MethodName := ⟨"TripleStore", "termOf", "(J)LTripleStore$Term;"⟩
theorem dX1_termOf_0 : decode cX1_termOf 0 = .ok (.lload_n 0, 1) := by decide +kernel
theorem dX1_termOf_1 : decode cX1_termOf 1 = .ok (.lconst 0, 1) := by decide +kernel
theorem dX1_termOf_2 : decode cX1_termOf 2 = .ok (.lcmp, 1) := by decide +kernel
theorem dX1_termOf_3 : decode cX1_termOf 3 = .ok (.ifCond .ge 33, 3) := by decide +kernel
theorem dX1_termOf_6 : decode cX1_termOf 6 = .ok (.lload_n 0, 1) := by decide +kernel
theorem dX1_termOf_7 : decode cX1_termOf 7 = .ok (.ldc2_w 34, 3) := by decide +kernel
theorem dX1_termOf_10 : decode cX1_termOf 10 = .ok (.lcmp, 1) := by decide +kernel
theorem dX1_termOf_11 : decode cX1_termOf 11 = .ok (.ifCond .ge 11, 3) := by decide +kernel
theorem dX1_termOf_14 : decode cX1_termOf 14 = .ok (.new 36, 3) := by decide +kernel
theorem dX1_termOf_17 : decode cX1_termOf 17 = .ok (.dup, 1) := by decide +kernel
theorem dX1_termOf_18 : decode cX1_termOf 18 = .ok (.invokespecial 38, 3) := by decide +kernel
theorem dX1_termOf_21 : decode cX1_termOf 21 = .ok (.athrow, 1) := by decide +kernel
theorem dX1_termOf_22 : decode cX1_termOf 22 = .ok (.new 39, 3) := by decide +kernel
theorem dX1_termOf_25 : decode cX1_termOf 25 = .ok (.dup, 1) := by decide +kernel
theorem dX1_termOf_26 : decode cX1_termOf 26 = .ok (.ldc2_w 41, 3) := by decide +kernel
theorem dX1_termOf_29 : decode cX1_termOf 29 = .ok (.lload_n 0, 1) := by decide +kernel
theorem dX1_termOf_30 : decode cX1_termOf 30 = .ok (.lsub, 1) := by decide +kernel
theorem dX1_termOf_31 : decode cX1_termOf 31 = .ok (.l2i, 1) := by decide +kernel
theorem dX1_termOf_32 : decode cX1_termOf 32 = .ok (.invokespecial 43, 3) := by decide +kernel
theorem dX1_termOf_35 : decode cX1_termOf 35 = .ok (.areturn, 1) := by decide +kernel
theorem dX1_termOf_36 : decode cX1_termOf 36 = .ok (.new 15, 3) := by decide +kernel
theorem dX1_termOf_39 : decode cX1_termOf 39 = .ok (.dup, 1) := by decide +kernel
theorem dX1_termOf_40 : decode cX1_termOf 40 = .ok (.bipush 8, 2) := by decide +kernel
theorem dX1_termOf_42 : decode cX1_termOf 42 = .ok (.invokespecial 17, 3) := by decide +kernel
theorem dX1_termOf_45 : decode cX1_termOf 45 = .ok (.astore_n 2, 1) := by decide +kernel
theorem dX1_termOf_46 : decode cX1_termOf 46 = .ok (.bipush 56, 2) := by decide +kernel
theorem dX1_termOf_48 : decode cX1_termOf 48 = .ok (.istore_n 3, 1) := by decide +kernel
theorem dX1_termOf_49 : decode cX1_termOf 49 = .ok (.iload_n 3, 1) := by decide +kernel
theorem dX1_termOf_50 : decode cX1_termOf 50 = .ok (.ifCond .lt 64, 3) := by decide +kernel
theorem dX1_termOf_53 : decode cX1_termOf 53 = .ok (.lload_n 0, 1) := by decide +kernel
theorem dX1_termOf_54 : decode cX1_termOf 54 = .ok (.iload_n 3, 1) := by decide +kernel
theorem dX1_termOf_55 : decode cX1_termOf 55 = .ok (.lshr, 1) := by decide +kernel
theorem dX1_termOf_56 : decode cX1_termOf 56 = .ok (.l2i, 1) := by decide +kernel
theorem dX1_termOf_57 : decode cX1_termOf 57 = .ok (.sipush 255, 3) := by decide +kernel
theorem dX1_termOf_60 : decode cX1_termOf 60 = .ok (.iand, 1) := by decide +kernel
theorem dX1_termOf_61 : decode cX1_termOf 61 = .ok (.istore 4, 2) := by decide +kernel
theorem dX1_termOf_63 : decode cX1_termOf 63 = .ok (.iload 4, 2) := by decide +kernel
theorem dX1_termOf_65 : decode cX1_termOf 65 = .ok (.ifCond .ne 13, 3) := by decide +kernel
theorem dX1_termOf_68 : decode cX1_termOf 68 = .ok (.aload_n 2, 1) := by decide +kernel
theorem dX1_termOf_69 : decode cX1_termOf 69 = .ok (.invokevirtual 44, 3) := by decide +kernel
theorem dX1_termOf_72 : decode cX1_termOf 72 = .ok (.ifCond .ne 6, 3) := by decide +kernel
theorem dX1_termOf_75 : decode cX1_termOf 75 = .ok (.goto 33, 3) := by decide +kernel
theorem dX1_termOf_78 : decode cX1_termOf 78 = .ok (.iload 4, 2) := by decide +kernel
theorem dX1_termOf_80 : decode cX1_termOf 80 = .ok (.bipush 97, 2) := by decide +kernel
theorem dX1_termOf_82 : decode cX1_termOf 82 = .ok (.if_icmp .lt 10, 3) := by decide +kernel
theorem dX1_termOf_85 : decode cX1_termOf 85 = .ok (.iload 4, 2) := by decide +kernel
theorem dX1_termOf_87 : decode cX1_termOf 87 = .ok (.bipush 122, 2) := by decide +kernel
theorem dX1_termOf_89 : decode cX1_termOf 89 = .ok (.if_icmp .le 11, 3) := by decide +kernel
theorem dX1_termOf_92 : decode cX1_termOf 92 = .ok (.new 36, 3) := by decide +kernel
theorem dX1_termOf_95 : decode cX1_termOf 95 = .ok (.dup, 1) := by decide +kernel
theorem dX1_termOf_96 : decode cX1_termOf 96 = .ok (.invokespecial 38, 3) := by decide +kernel
theorem dX1_termOf_99 : decode cX1_termOf 99 = .ok (.athrow, 1) := by decide +kernel
theorem dX1_termOf_100 : decode cX1_termOf 100 = .ok (.aload_n 2, 1) := by decide +kernel
theorem dX1_termOf_101 : decode cX1_termOf 101 = .ok (.iload 4, 2) := by decide +kernel
theorem dX1_termOf_103 : decode cX1_termOf 103 = .ok (.i2c, 1) := by decide +kernel
theorem dX1_termOf_104 : decode cX1_termOf 104 = .ok (.invokevirtual 48, 3) := by decide +kernel
theorem dX1_termOf_107 : decode cX1_termOf 107 = .ok (.pop, 1) := by decide +kernel
theorem dX1_termOf_108 : decode cX1_termOf 108 = .ok (.iinc 3 (-8), 3) := by decide +kernel
theorem dX1_termOf_111 : decode cX1_termOf 111 = .ok (.goto (-62), 3) := by decide +kernel
theorem dX1_termOf_114 : decode cX1_termOf 114 = .ok (.aload_n 2, 1) := by decide +kernel
theorem dX1_termOf_115 : decode cX1_termOf 115 = .ok (.invokevirtual 44, 3) := by decide +kernel
theorem dX1_termOf_118 : decode cX1_termOf 118 = .ok (.ifCond .ne 11, 3) := by decide +kernel
theorem dX1_termOf_121 : decode cX1_termOf 121 = .ok (.new 36, 3) := by decide +kernel
theorem dX1_termOf_124 : decode cX1_termOf 124 = .ok (.dup, 1) := by decide +kernel
theorem dX1_termOf_125 : decode cX1_termOf 125 = .ok (.invokespecial 38, 3) := by decide +kernel
theorem dX1_termOf_128 : decode cX1_termOf 128 = .ok (.athrow, 1) := by decide +kernel
theorem dX1_termOf_129 : decode cX1_termOf 129 = .ok (.new 52, 3) := by decide +kernel
theorem dX1_termOf_132 : decode cX1_termOf 132 = .ok (.dup, 1) := by decide +kernel
theorem dX1_termOf_133 : decode cX1_termOf 133 = .ok (.aload_n 2, 1) := by decide +kernel
theorem dX1_termOf_134 : decode cX1_termOf 134 = .ok (.invokevirtual 54, 3) := by decide +kernel
theorem dX1_termOf_137 : decode cX1_termOf 137 = .ok (.invokespecial 58, 3) := by decide +kernel
theorem dX1_termOf_140 : decode cX1_termOf 140 = .ok (.areturn, 1) := by decide +kernel
abbrev cX1_find : ByteArray := prog_1_method_4_code
def yX1_find : MethodName := ⟨"TripleStore", "find", "(LTripleStore$Triple;)I"⟩
theorem dX1_find_0 : decode cX1_find 0 = .ok (.iconst 0, 1) := by decide +kernel
theorem dX1_find_1 : decode cX1_find 1 = .ok (.istore_n 2, 1) := by decide +kernel
theorem dX1_find_2 : decode cX1_find 2 = .ok (.iload_n 2, 1) := by decide +kernel
theorem dX1_find_3 : decode cX1_find 3 = .ok (.aload_n 0, 1) := by decide +kernel
theorem dX1_find_4 : decode cX1_find 4 = .ok (.getfield 72, 3) := by decide +kernel
theorem dX1_find_7 : decode cX1_find 7 = .ok (.if_icmp .ge 24, 3) := by decide +kernel
theorem dX1_find_10 : decode cX1_find 10 = .ok (.aload_n 0, 1) := by decide +kernel
theorem dX1_find_11 : decode cX1_find 11 = .ok (.getfield 11, 3) := by decide +kernel
theorem dX1_find_14 : decode cX1_find 14 = .ok (.iload_n 2, 1) := by decide +kernel
theorem dX1_find_15 : decode cX1_find 15 = .ok (.aaload, 1) := by decide +kernel
theorem dX1_find_16 : decode cX1_find 16 = .ok (.aload_n 1, 1) := by decide +kernel
theorem dX1_find_17 : decode cX1_find 17 = .ok (.invokevirtual 75, 3) := by decide +kernel
theorem dX1_find_20 : decode cX1_find 20 = .ok (.ifCond .eq 5, 3) := by decide +kernel
theorem dX1_find_23 : decode cX1_find 23 = .ok (.iload_n 2, 1) := by decide +kernel
theorem dX1_find_24 : decode cX1_find 24 = .ok (.ireturn, 1) := by decide +kernel
theorem dX1_find_25 : decode cX1_find 25 = .ok (.iinc 2 1, 3) := by decide +kernel
theorem dX1_find_28 : decode cX1_find 28 = .ok (.goto (-26), 3) := by decide +kernel
theorem dX1_find_31 : decode cX1_find 31 = .ok (.iconst (-1), 1) := by decide +kernel
theorem dX1_find_32 : decode cX1_find 32 = .ok (.ireturn, 1) := by decide +kernel
abbrev cX1_place : ByteArray := prog_1_method_5_code
def yX1_place : MethodName := ⟨"TripleStore", "place", "(LTripleStore$Triple;)V"⟩
theorem dX1_place_0 : decode cX1_place 0 = .ok (.aload_n 0, 1) := by decide +kernel
theorem dX1_place_1 : decode cX1_place 1 = .ok (.getfield 11, 3) := by decide +kernel
theorem dX1_place_4 : decode cX1_place 4 = .ok (.aload_n 0, 1) := by decide +kernel
theorem dX1_place_5 : decode cX1_place 5 = .ok (.getfield 72, 3) := by decide +kernel
theorem dX1_place_8 : decode cX1_place 8 = .ok (.aload_n 1, 1) := by decide +kernel
theorem dX1_place_9 : decode cX1_place 9 = .ok (.aastore, 1) := by decide +kernel
theorem dX1_place_10 : decode cX1_place 10 = .ok (.aload_n 0, 1) := by decide +kernel
theorem dX1_place_11 : decode cX1_place 11 = .ok (.dup, 1) := by decide +kernel
theorem dX1_place_12 : decode cX1_place 12 = .ok (.getfield 72, 3) := by decide +kernel
theorem dX1_place_15 : decode cX1_place 15 = .ok (.iconst 1, 1) := by decide +kernel
theorem dX1_place_16 : decode cX1_place 16 = .ok (.iadd, 1) := by decide +kernel
theorem dX1_place_17 : decode cX1_place 17 = .ok (.putfield 72, 3) := by decide +kernel
theorem dX1_place_20 : decode cX1_place 20 = .ok (.return_, 1) := by decide +kernel
abbrev cX1_note : ByteArray := prog_1_method_7_code
def yX1_note : MethodName := ⟨"TripleStore", "note", "(ZLTripleStore$Triple;)V"⟩
theorem dX1_note_0 : decode cX1_note 0 = .ok (.aload_n 0, 1) := by decide +kernel
theorem dX1_note_1 : decode cX1_note 1 = .ok (.new 79, 3) := by decide +kernel
theorem dX1_note_4 : decode cX1_note 4 = .ok (.dup, 1) := by decide +kernel
theorem dX1_note_5 : decode cX1_note 5 = .ok (.iload_n 1, 1) := by decide +kernel
theorem dX1_note_6 : decode cX1_note 6 = .ok (.aload_n 2, 1) := by decide +kernel
theorem dX1_note_7 : decode cX1_note 7 = .ok (.aload_n 0, 1) := by decide +kernel
theorem dX1_note_8 : decode cX1_note 8 = .ok (.getfield 81, 3) := by decide +kernel
theorem dX1_note_11 : decode cX1_note 11 = .ok (.invokespecial 85, 3) := by decide +kernel
theorem dX1_note_14 : decode cX1_note 14 = .ok (.putfield 81, 3) := by decide +kernel
theorem dX1_note_17 : decode cX1_note 17 = .ok (.aload_n 0, 1) := by decide +kernel
theorem dX1_note_18 : decode cX1_note 18 = .ok (.dup, 1) := by decide +kernel
theorem dX1_note_19 : decode cX1_note 19 = .ok (.getfield 88, 3) := by decide +kernel
theorem dX1_note_22 : decode cX1_note 22 = .ok (.iconst 1, 1) := by decide +kernel
theorem dX1_note_23 : decode cX1_note 23 = .ok (.iadd, 1) := by decide +kernel
theorem dX1_note_24 : decode cX1_note 24 = .ok (.putfield 88, 3) := by decide +kernel
theorem dX1_note_27 : decode cX1_note 27 = .ok (.aload_n 0, 1) := by decide +kernel
theorem dX1_note_28 : decode cX1_note 28 = .ok (.getfield 91, 3) := by decide +kernel
theorem dX1_note_31 : decode cX1_note 31 = .ok (.ifCond .ne 7, 3) := by decide +kernel
theorem dX1_note_34 : decode cX1_note 34 = .ok (.aload_n 0, 1) := by decide +kernel
theorem dX1_note_35 : decode cX1_note 35 = .ok (.invokevirtual 95, 3) := by decide +kernel
theorem dX1_note_38 : decode cX1_note 38 = .ok (.return_, 1) := by decide +kernel
abbrev cX1_close : ByteArray := prog_1_method_8_code
def yX1_close : MethodName := ⟨"TripleStore", "close", "()V"⟩
theorem dX1_close_0 : decode cX1_close 0 = .ok (.new 98, 3) := by decide +kernel
theorem dX1_close_3 : decode cX1_close 3 = .ok (.dup, 1) := by decide +kernel
theorem dX1_close_4 : decode cX1_close 4 = .ok (.aload_n 0, 1) := by decide +kernel
theorem dX1_close_5 : decode cX1_close 5 = .ok (.getfield 81, 3) := by decide +kernel
theorem dX1_close_8 : decode cX1_close 8 = .ok (.invokespecial 100, 3) := by decide +kernel
theorem dX1_close_11 : decode cX1_close 11 = .ok (.astore_n 1, 1) := by decide +kernel
theorem dX1_close_12 : decode cX1_close 12 = .ok (.aload_n 0, 1) := by decide +kernel
theorem dX1_close_13 : decode cX1_close 13 = .ok (.getfield 103, 3) := by decide +kernel
theorem dX1_close_16 : decode cX1_close 16 = .ok (.ifnonnull 11, 3) := by decide +kernel
theorem dX1_close_19 : decode cX1_close 19 = .ok (.aload_n 0, 1) := by decide +kernel
theorem dX1_close_20 : decode cX1_close 20 = .ok (.aload_n 1, 1) := by decide +kernel
theorem dX1_close_21 : decode cX1_close 21 = .ok (.putfield 103, 3) := by decide +kernel
theorem dX1_close_24 : decode cX1_close 24 = .ok (.goto 11, 3) := by decide +kernel
theorem dX1_close_27 : decode cX1_close 27 = .ok (.aload_n 0, 1) := by decide +kernel
theorem dX1_close_28 : decode cX1_close 28 = .ok (.getfield 107, 3) := by decide +kernel
theorem dX1_close_31 : decode cX1_close 31 = .ok (.aload_n 1, 1) := by decide +kernel
theorem dX1_close_32 : decode cX1_close 32 = .ok (.putfield 110, 3) := by decide +kernel
theorem dX1_close_35 : decode cX1_close 35 = .ok (.aload_n 0, 1) := by decide +kernel
theorem dX1_close_36 : decode cX1_close 36 = .ok (.aload_n 1, 1) := by decide +kernel
theorem dX1_close_37 : decode cX1_close 37 = .ok (.putfield 107, 3) := by decide +kernel
theorem dX1_close_40 : decode cX1_close 40 = .ok (.aload_n 0, 1) := by decide +kernel
theorem dX1_close_41 : decode cX1_close 41 = .ok (.dup, 1) := by decide +kernel
theorem dX1_close_42 : decode cX1_close 42 = .ok (.getfield 113, 3) := by decide +kernel
theorem dX1_close_45 : decode cX1_close 45 = .ok (.iconst 1, 1) := by decide +kernel
theorem dX1_close_46 : decode cX1_close 46 = .ok (.iadd, 1) := by decide +kernel
theorem dX1_close_47 : decode cX1_close 47 = .ok (.putfield 113, 3) := by decide +kernel
theorem dX1_close_50 : decode cX1_close 50 = .ok (.aload_n 0, 1) := by decide +kernel
theorem dX1_close_51 : decode cX1_close 51 = .ok (.dup, 1) := by decide +kernel
theorem dX1_close_52 : decode cX1_close 52 = .ok (.getfield 116, 3) := by decide +kernel
theorem dX1_close_55 : decode cX1_close 55 = .ok (.iconst 1, 1) := by decide +kernel
theorem dX1_close_56 : decode cX1_close 56 = .ok (.iadd, 1) := by decide +kernel
theorem dX1_close_57 : decode cX1_close 57 = .ok (.putfield 116, 3) := by decide +kernel
theorem dX1_close_60 : decode cX1_close 60 = .ok (.aload_n 0, 1) := by decide +kernel
theorem dX1_close_61 : decode cX1_close 61 = .ok (.aconst_null, 1) := by decide +kernel
theorem dX1_close_62 : decode cX1_close 62 = .ok (.putfield 81, 3) := by decide +kernel
theorem dX1_close_65 : decode cX1_close 65 = .ok (.aload_n 0, 1) := by decide +kernel
theorem dX1_close_66 : decode cX1_close 66 = .ok (.iconst 0, 1) := by decide +kernel
theorem dX1_close_67 : decode cX1_close 67 = .ok (.putfield 88, 3) := by decide +kernel
theorem dX1_close_70 : decode cX1_close 70 = .ok (.aload_n 0, 1) := by decide +kernel
theorem dX1_close_71 : decode cX1_close 71 = .ok (.iconst 0, 1) := by decide +kernel
theorem dX1_close_72 : decode cX1_close 72 = .ok (.putfield 91, 3) := by decide +kernel
theorem dX1_close_75 : decode cX1_close 75 = .ok (.return_, 1) := by decide +kernel
abbrev cX1_remove : ByteArray := prog_1_method_10_code
def yX1_remove : MethodName := ⟨"TripleStore", "remove", "(JJJ)I"⟩
theorem dX1_remove_0 : decode cX1_remove 0 = .ok (.lload_n 1, 1) := by decide +kernel
theorem dX1_remove_1 : decode cX1_remove 1 = .ok (.lload_n 3, 1) := by decide +kernel
theorem dX1_remove_2 : decode cX1_remove 2 = .ok (.lload 5, 2) := by decide +kernel
theorem dX1_remove_4 : decode cX1_remove 4 = .ok (.invokestatic 119, 3) := by decide +kernel
theorem dX1_remove_7 : decode cX1_remove 7 = .ok (.astore 7, 2) := by decide +kernel
theorem dX1_remove_9 : decode cX1_remove 9 = .ok (.aload_n 0, 1) := by decide +kernel
theorem dX1_remove_10 : decode cX1_remove 10 = .ok (.aload 7, 2) := by decide +kernel
theorem dX1_remove_12 : decode cX1_remove 12 = .ok (.invokevirtual 123, 3) := by decide +kernel
theorem dX1_remove_15 : decode cX1_remove 15 = .ok (.istore 8, 2) := by decide +kernel
theorem dX1_remove_17 : decode cX1_remove 17 = .ok (.iload 8, 2) := by decide +kernel
theorem dX1_remove_19 : decode cX1_remove 19 = .ok (.ifCond .ge 5, 3) := by decide +kernel
theorem dX1_remove_22 : decode cX1_remove 22 = .ok (.iconst 0, 1) := by decide +kernel
theorem dX1_remove_23 : decode cX1_remove 23 = .ok (.ireturn, 1) := by decide +kernel
theorem dX1_remove_24 : decode cX1_remove 24 = .ok (.aload_n 0, 1) := by decide +kernel
theorem dX1_remove_25 : decode cX1_remove 25 = .ok (.iload 8, 2) := by decide +kernel
theorem dX1_remove_27 : decode cX1_remove 27 = .ok (.invokevirtual 138, 3) := by decide +kernel
theorem dX1_remove_30 : decode cX1_remove 30 = .ok (.aload_n 0, 1) := by decide +kernel
theorem dX1_remove_31 : decode cX1_remove 31 = .ok (.iconst 0, 1) := by decide +kernel
theorem dX1_remove_32 : decode cX1_remove 32 = .ok (.aload 7, 2) := by decide +kernel
theorem dX1_remove_34 : decode cX1_remove 34 = .ok (.invokevirtual 134, 3) := by decide +kernel
theorem dX1_remove_37 : decode cX1_remove 37 = .ok (.iconst 1, 1) := by decide +kernel
theorem dX1_remove_38 : decode cX1_remove 38 = .ok (.ireturn, 1) := by decide +kernel
abbrev cX1_take : ByteArray := prog_1_method_6_code
def yX1_take : MethodName := ⟨"TripleStore", "take", "(I)V"⟩
theorem dX1_take_0 : decode cX1_take 0 = .ok (.aload_n 0, 1) := by decide +kernel
theorem dX1_take_1 : decode cX1_take 1 = .ok (.dup, 1) := by decide +kernel
theorem dX1_take_2 : decode cX1_take 2 = .ok (.getfield 72, 3) := by decide +kernel
theorem dX1_take_5 : decode cX1_take 5 = .ok (.iconst 1, 1) := by decide +kernel
theorem dX1_take_6 : decode cX1_take 6 = .ok (.isub, 1) := by decide +kernel
theorem dX1_take_7 : decode cX1_take 7 = .ok (.putfield 72, 3) := by decide +kernel
theorem dX1_take_10 : decode cX1_take 10 = .ok (.aload_n 0, 1) := by decide +kernel
theorem dX1_take_11 : decode cX1_take 11 = .ok (.getfield 11, 3) := by decide +kernel
theorem dX1_take_14 : decode cX1_take 14 = .ok (.iload_n 1, 1) := by decide +kernel
theorem dX1_take_15 : decode cX1_take 15 = .ok (.aload_n 0, 1) := by decide +kernel
theorem dX1_take_16 : decode cX1_take 16 = .ok (.getfield 11, 3) := by decide +kernel
theorem dX1_take_19 : decode cX1_take 19 = .ok (.aload_n 0, 1) := by decide +kernel
theorem dX1_take_20 : decode cX1_take 20 = .ok (.getfield 72, 3) := by decide +kernel
theorem dX1_take_23 : decode cX1_take 23 = .ok (.aaload, 1) := by decide +kernel
theorem dX1_take_24 : decode cX1_take 24 = .ok (.aastore, 1) := by decide +kernel
theorem dX1_take_25 : decode cX1_take 25 = .ok (.aload_n 0, 1) := by decide +kernel
theorem dX1_take_26 : decode cX1_take 26 = .ok (.getfield 11, 3) := by decide +kernel
theorem dX1_take_29 : decode cX1_take 29 = .ok (.aload_n 0, 1) := by decide +kernel
theorem dX1_take_30 : decode cX1_take 30 = .ok (.getfield 72, 3) := by decide +kernel
theorem dX1_take_33 : decode cX1_take 33 = .ok (.aconst_null, 1) := by decide +kernel
theorem dX1_take_34 : decode cX1_take 34 = .ok (.aastore, 1) := by decide +kernel
theorem dX1_take_35 : decode cX1_take 35 = .ok (.return_, 1) := by decide +kernel
abbrev cX1_begin : ByteArray := prog_1_method_11_code
def yX1_begin : MethodName := ⟨"TripleStore", "begin", "()I"⟩
theorem dX1_begin_0 : decode cX1_begin 0 = .ok (.aload_n 0, 1) := by decide +kernel
theorem dX1_begin_1 : decode cX1_begin 1 = .ok (.getfield 91, 3) := by decide +kernel
theorem dX1_begin_4 : decode cX1_begin 4 = .ok (.ifCond .eq 11, 3) := by decide +kernel
theorem dX1_begin_7 : decode cX1_begin 7 = .ok (.new 127, 3) := by decide +kernel
theorem dX1_begin_10 : decode cX1_begin 10 = .ok (.dup, 1) := by decide +kernel
theorem dX1_begin_11 : decode cX1_begin 11 = .ok (.invokespecial 129, 3) := by decide +kernel
theorem dX1_begin_14 : decode cX1_begin 14 = .ok (.athrow, 1) := by decide +kernel
theorem dX1_begin_15 : decode cX1_begin 15 = .ok (.aload_n 0, 1) := by decide +kernel
theorem dX1_begin_16 : decode cX1_begin 16 = .ok (.iconst 1, 1) := by decide +kernel
theorem dX1_begin_17 : decode cX1_begin 17 = .ok (.putfield 91, 3) := by decide +kernel
theorem dX1_begin_20 : decode cX1_begin 20 = .ok (.aload_n 0, 1) := by decide +kernel
theorem dX1_begin_21 : decode cX1_begin 21 = .ok (.getfield 113, 3) := by decide +kernel
theorem dX1_begin_24 : decode cX1_begin 24 = .ok (.ireturn, 1) := by decide +kernel
abbrev cX1_commit : ByteArray := prog_1_method_13_code
def yX1_commit : MethodName := ⟨"TripleStore", "commit", "()I"⟩
theorem dX1_commit_0 : decode cX1_commit 0 = .ok (.aload_n 0, 1) := by decide +kernel
theorem dX1_commit_1 : decode cX1_commit 1 = .ok (.invokevirtual 141, 3) := by decide +kernel
theorem dX1_commit_4 : decode cX1_commit 4 = .ok (.aload_n 0, 1) := by decide +kernel
theorem dX1_commit_5 : decode cX1_commit 5 = .ok (.getfield 88, 3) := by decide +kernel
theorem dX1_commit_8 : decode cX1_commit 8 = .ok (.istore_n 1, 1) := by decide +kernel
theorem dX1_commit_9 : decode cX1_commit 9 = .ok (.aload_n 0, 1) := by decide +kernel
theorem dX1_commit_10 : decode cX1_commit 10 = .ok (.invokevirtual 95, 3) := by decide +kernel
theorem dX1_commit_13 : decode cX1_commit 13 = .ok (.iload_n 1, 1) := by decide +kernel
theorem dX1_commit_14 : decode cX1_commit 14 = .ok (.ireturn, 1) := by decide +kernel
abbrev cX1_needOpen : ByteArray := prog_1_method_12_code
def yX1_needOpen : MethodName := ⟨"TripleStore", "needOpen", "()V"⟩
theorem dX1_needOpen_0 : decode cX1_needOpen 0 = .ok (.aload_n 0, 1) := by decide +kernel
theorem dX1_needOpen_1 : decode cX1_needOpen 1 = .ok (.getfield 91, 3) := by decide +kernel
theorem dX1_needOpen_4 : decode cX1_needOpen 4 = .ok (.ifCond .ne 11, 3) := by decide +kernel
theorem dX1_needOpen_7 : decode cX1_needOpen 7 = .ok (.new 127, 3) := by decide +kernel
theorem dX1_needOpen_10 : decode cX1_needOpen 10 = .ok (.dup, 1) := by decide +kernel
theorem dX1_needOpen_11 : decode cX1_needOpen 11 = .ok (.invokespecial 129, 3) := by decide +kernel
theorem dX1_needOpen_14 : decode cX1_needOpen 14 = .ok (.athrow, 1) := by decide +kernel
theorem dX1_needOpen_15 : decode cX1_needOpen 15 = .ok (.return_, 1) := by decide +kernel
abbrev cX1_rollback : ByteArray := prog_1_method_16_code
def yX1_rollback : MethodName := ⟨"TripleStore", "rollback", "()I"⟩
theorem dX1_rollback_0 : decode cX1_rollback 0 = .ok (.aload_n 0, 1) := by decide +kernel
theorem dX1_rollback_1 : decode cX1_rollback 1 = .ok (.invokevirtual 141, 3) := by decide +kernel
theorem dX1_rollback_4 : decode cX1_rollback 4 = .ok (.aload_n 0, 1) := by decide +kernel
theorem dX1_rollback_5 : decode cX1_rollback 5 = .ok (.invokevirtual 157, 3) := by decide +kernel
theorem dX1_rollback_8 : decode cX1_rollback 8 = .ok (.ireturn, 1) := by decide +kernel
abbrev cX1_undoOpen : ByteArray := prog_1_method_15_code
def yX1_undoOpen : MethodName := ⟨"TripleStore", "undoOpen", "()I"⟩
theorem dX1_undoOpen_0 : decode cX1_undoOpen 0 = .ok (.aload_n 0, 1) := by decide +kernel
theorem dX1_undoOpen_1 : decode cX1_undoOpen 1 = .ok (.getfield 88, 3) := by decide +kernel
theorem dX1_undoOpen_4 : decode cX1_undoOpen 4 = .ok (.istore_n 1, 1) := by decide +kernel
theorem dX1_undoOpen_5 : decode cX1_undoOpen 5 = .ok (.aload_n 0, 1) := by decide +kernel
theorem dX1_undoOpen_6 : decode cX1_undoOpen 6 = .ok (.aload_n 0, 1) := by decide +kernel
theorem dX1_undoOpen_7 : decode cX1_undoOpen 7 = .ok (.getfield 81, 3) := by decide +kernel
theorem dX1_undoOpen_10 : decode cX1_undoOpen 10 = .ok (.invokevirtual 154, 3) := by decide +kernel
theorem dX1_undoOpen_13 : decode cX1_undoOpen 13 = .ok (.aload_n 0, 1) := by decide +kernel
theorem dX1_undoOpen_14 : decode cX1_undoOpen 14 = .ok (.aconst_null, 1) := by decide +kernel
theorem dX1_undoOpen_15 : decode cX1_undoOpen 15 = .ok (.putfield 81, 3) := by decide +kernel
theorem dX1_undoOpen_18 : decode cX1_undoOpen 18 = .ok (.aload_n 0, 1) := by decide +kernel
theorem dX1_undoOpen_19 : decode cX1_undoOpen 19 = .ok (.iconst 0, 1) := by decide +kernel
theorem dX1_undoOpen_20 : decode cX1_undoOpen 20 = .ok (.putfield 88, 3) := by decide +kernel
theorem dX1_undoOpen_23 : decode cX1_undoOpen 23 = .ok (.aload_n 0, 1) := by decide +kernel
theorem dX1_undoOpen_24 : decode cX1_undoOpen 24 = .ok (.iconst 0, 1) := by decide +kernel
theorem dX1_undoOpen_25 : decode cX1_undoOpen 25 = .ok (.putfield 91, 3) := by decide +kernel
theorem dX1_undoOpen_28 : decode cX1_undoOpen 28 = .ok (.iload_n 1, 1) := by decide +kernel
theorem dX1_undoOpen_29 : decode cX1_undoOpen 29 = .ok (.ireturn, 1) := by decide +kernel
abbrev cX1_undo : ByteArray := prog_1_method_14_code
def yX1_undo : MethodName := ⟨"TripleStore", "undo", "(LTripleStore$Change;)V"⟩
theorem dX1_undo_0 : decode cX1_undo 0 = .ok (.aload_n 1, 1) := by decide +kernel
theorem dX1_undo_1 : decode cX1_undo 1 = .ok (.astore_n 2, 1) := by decide +kernel
theorem dX1_undo_2 : decode cX1_undo 2 = .ok (.aload_n 2, 1) := by decide +kernel
theorem dX1_undo_3 : decode cX1_undo 3 = .ok (.ifnull 41, 3) := by decide +kernel
theorem dX1_undo_6 : decode cX1_undo 6 = .ok (.aload_n 2, 1) := by decide +kernel
theorem dX1_undo_7 : decode cX1_undo 7 = .ok (.getfield 144, 3) := by decide +kernel
theorem dX1_undo_10 : decode cX1_undo 10 = .ok (.ifCond .eq 18, 3) := by decide +kernel
theorem dX1_undo_13 : decode cX1_undo 13 = .ok (.aload_n 0, 1) := by decide +kernel
theorem dX1_undo_14 : decode cX1_undo 14 = .ok (.aload_n 0, 1) := by decide +kernel
theorem dX1_undo_15 : decode cX1_undo 15 = .ok (.aload_n 2, 1) := by decide +kernel
theorem dX1_undo_16 : decode cX1_undo 16 = .ok (.getfield 147, 3) := by decide +kernel
theorem dX1_undo_19 : decode cX1_undo 19 = .ok (.invokevirtual 123, 3) := by decide +kernel
theorem dX1_undo_22 : decode cX1_undo 22 = .ok (.invokevirtual 138, 3) := by decide +kernel
theorem dX1_undo_25 : decode cX1_undo 25 = .ok (.goto 11, 3) := by decide +kernel
theorem dX1_undo_28 : decode cX1_undo 28 = .ok (.aload_n 0, 1) := by decide +kernel
theorem dX1_undo_29 : decode cX1_undo 29 = .ok (.aload_n 2, 1) := by decide +kernel
theorem dX1_undo_30 : decode cX1_undo 30 = .ok (.getfield 147, 3) := by decide +kernel
theorem dX1_undo_33 : decode cX1_undo 33 = .ok (.invokevirtual 130, 3) := by decide +kernel
theorem dX1_undo_36 : decode cX1_undo 36 = .ok (.aload_n 2, 1) := by decide +kernel
theorem dX1_undo_37 : decode cX1_undo 37 = .ok (.getfield 151, 3) := by decide +kernel
theorem dX1_undo_40 : decode cX1_undo 40 = .ok (.astore_n 2, 1) := by decide +kernel
theorem dX1_undo_41 : decode cX1_undo 41 = .ok (.goto (-39), 3) := by decide +kernel
theorem dX1_undo_44 : decode cX1_undo 44 = .ok (.return_, 1) := by decide +kernel
abbrev cX1_crash : ByteArray := prog_1_method_19_code
def yX1_crash : MethodName := ⟨"TripleStore", "crash", "(I)I"⟩
theorem dX1_crash_0 : decode cX1_crash 0 = .ok (.iload_n 1, 1) := by decide +kernel
theorem dX1_crash_1 : decode cX1_crash 1 = .ok (.ifCond .lt 10, 3) := by decide +kernel
theorem dX1_crash_4 : decode cX1_crash 4 = .ok (.iload_n 1, 1) := by decide +kernel
theorem dX1_crash_5 : decode cX1_crash 5 = .ok (.sipush 1000, 3) := by decide +kernel
theorem dX1_crash_8 : decode cX1_crash 8 = .ok (.if_icmp .le 11, 3) := by decide +kernel
theorem dX1_crash_11 : decode cX1_crash 11 = .ok (.new 36, 3) := by decide +kernel
theorem dX1_crash_14 : decode cX1_crash 14 = .ok (.dup, 1) := by decide +kernel
theorem dX1_crash_15 : decode cX1_crash 15 = .ok (.invokespecial 38, 3) := by decide +kernel
theorem dX1_crash_18 : decode cX1_crash 18 = .ok (.athrow, 1) := by decide +kernel
theorem dX1_crash_19 : decode cX1_crash 19 = .ok (.aload_n 0, 1) := by decide +kernel
theorem dX1_crash_20 : decode cX1_crash 20 = .ok (.invokevirtual 157, 3) := by decide +kernel
theorem dX1_crash_23 : decode cX1_crash 23 = .ok (.pop, 1) := by decide +kernel
theorem dX1_crash_24 : decode cX1_crash 24 = .ok (.aload_n 0, 1) := by decide +kernel
theorem dX1_crash_25 : decode cX1_crash 25 = .ok (.getfield 103, 3) := by decide +kernel
theorem dX1_crash_28 : decode cX1_crash 28 = .ok (.astore_n 2, 1) := by decide +kernel
theorem dX1_crash_29 : decode cX1_crash 29 = .ok (.iconst 0, 1) := by decide +kernel
theorem dX1_crash_30 : decode cX1_crash 30 = .ok (.istore_n 3, 1) := by decide +kernel
theorem dX1_crash_31 : decode cX1_crash 31 = .ok (.iload_n 3, 1) := by decide +kernel
theorem dX1_crash_32 : decode cX1_crash 32 = .ok (.iload_n 1, 1) := by decide +kernel
theorem dX1_crash_33 : decode cX1_crash 33 = .ok (.if_icmp .ge 18, 3) := by decide +kernel
theorem dX1_crash_36 : decode cX1_crash 36 = .ok (.aload_n 2, 1) := by decide +kernel
theorem dX1_crash_37 : decode cX1_crash 37 = .ok (.ifnull 14, 3) := by decide +kernel
theorem dX1_crash_40 : decode cX1_crash 40 = .ok (.aload_n 2, 1) := by decide +kernel
theorem dX1_crash_41 : decode cX1_crash 41 = .ok (.getfield 110, 3) := by decide +kernel
theorem dX1_crash_44 : decode cX1_crash 44 = .ok (.astore_n 2, 1) := by decide +kernel
theorem dX1_crash_45 : decode cX1_crash 45 = .ok (.iinc 3 1, 3) := by decide +kernel
theorem dX1_crash_48 : decode cX1_crash 48 = .ok (.goto (-17), 3) := by decide +kernel
theorem dX1_crash_51 : decode cX1_crash 51 = .ok (.aload_n 0, 1) := by decide +kernel
theorem dX1_crash_52 : decode cX1_crash 52 = .ok (.aload_n 2, 1) := by decide +kernel
theorem dX1_crash_53 : decode cX1_crash 53 = .ok (.invokevirtual 163, 3) := by decide +kernel
theorem dX1_crash_56 : decode cX1_crash 56 = .ok (.aload_n 0, 1) := by decide +kernel
theorem dX1_crash_57 : decode cX1_crash 57 = .ok (.invokevirtual 167, 3) := by decide +kernel
theorem dX1_crash_60 : decode cX1_crash 60 = .ok (.pop, 1) := by decide +kernel
theorem dX1_crash_61 : decode cX1_crash 61 = .ok (.aload_n 0, 1) := by decide +kernel
theorem dX1_crash_62 : decode cX1_crash 62 = .ok (.getfield 72, 3) := by decide +kernel
theorem dX1_crash_65 : decode cX1_crash 65 = .ok (.ireturn, 1) := by decide +kernel
abbrev cX1_undoFrom : ByteArray := prog_1_method_18_code
def yX1_undoFrom : MethodName := ⟨"TripleStore", "undoFrom", "(LTripleStore$Commit;)V"⟩
theorem dX1_undoFrom_0 : decode cX1_undoFrom 0 = .ok (.aload_n 0, 1) := by decide +kernel
theorem dX1_undoFrom_1 : decode cX1_undoFrom 1 = .ok (.getfield 116, 3) := by decide +kernel
theorem dX1_undoFrom_4 : decode cX1_undoFrom 4 = .ok (.anewarray 98, 3) := by decide +kernel
theorem dX1_undoFrom_7 : decode cX1_undoFrom 7 = .ok (.astore_n 2, 1) := by decide +kernel
theorem dX1_undoFrom_8 : decode cX1_undoFrom 8 = .ok (.iconst 0, 1) := by decide +kernel
theorem dX1_undoFrom_9 : decode cX1_undoFrom 9 = .ok (.istore_n 3, 1) := by decide +kernel
theorem dX1_undoFrom_10 : decode cX1_undoFrom 10 = .ok (.aload_n 1, 1) := by decide +kernel
theorem dX1_undoFrom_11 : decode cX1_undoFrom 11 = .ok (.astore 4, 2) := by decide +kernel
theorem dX1_undoFrom_13 : decode cX1_undoFrom 13 = .ok (.aload 4, 2) := by decide +kernel
theorem dX1_undoFrom_15 : decode cX1_undoFrom 15 = .ok (.ifnull 21, 3) := by decide +kernel
theorem dX1_undoFrom_18 : decode cX1_undoFrom 18 = .ok (.aload_n 2, 1) := by decide +kernel
theorem dX1_undoFrom_19 : decode cX1_undoFrom 19 = .ok (.iload_n 3, 1) := by decide +kernel
theorem dX1_undoFrom_20 : decode cX1_undoFrom 20 = .ok (.aload 4, 2) := by decide +kernel
theorem dX1_undoFrom_22 : decode cX1_undoFrom 22 = .ok (.aastore, 1) := by decide +kernel
theorem dX1_undoFrom_23 : decode cX1_undoFrom 23 = .ok (.iinc 3 1, 3) := by decide +kernel
theorem dX1_undoFrom_26 : decode cX1_undoFrom 26 = .ok (.aload 4, 2) := by decide +kernel
theorem dX1_undoFrom_28 : decode cX1_undoFrom 28 = .ok (.getfield 110, 3) := by decide +kernel
theorem dX1_undoFrom_31 : decode cX1_undoFrom 31 = .ok (.astore 4, 2) := by decide +kernel
theorem dX1_undoFrom_33 : decode cX1_undoFrom 33 = .ok (.goto (-20), 3) := by decide +kernel
theorem dX1_undoFrom_36 : decode cX1_undoFrom 36 = .ok (.iload_n 3, 1) := by decide +kernel
theorem dX1_undoFrom_37 : decode cX1_undoFrom 37 = .ok (.iconst 1, 1) := by decide +kernel
theorem dX1_undoFrom_38 : decode cX1_undoFrom 38 = .ok (.isub, 1) := by decide +kernel
theorem dX1_undoFrom_39 : decode cX1_undoFrom 39 = .ok (.istore 4, 2) := by decide +kernel
theorem dX1_undoFrom_41 : decode cX1_undoFrom 41 = .ok (.iload 4, 2) := by decide +kernel
theorem dX1_undoFrom_43 : decode cX1_undoFrom 43 = .ok (.ifCond .lt 20, 3) := by decide +kernel
theorem dX1_undoFrom_46 : decode cX1_undoFrom 46 = .ok (.aload_n 0, 1) := by decide +kernel
theorem dX1_undoFrom_47 : decode cX1_undoFrom 47 = .ok (.aload_n 2, 1) := by decide +kernel
theorem dX1_undoFrom_48 : decode cX1_undoFrom 48 = .ok (.iload 4, 2) := by decide +kernel
theorem dX1_undoFrom_50 : decode cX1_undoFrom 50 = .ok (.aaload, 1) := by decide +kernel
theorem dX1_undoFrom_51 : decode cX1_undoFrom 51 = .ok (.getfield 160, 3) := by decide +kernel
theorem dX1_undoFrom_54 : decode cX1_undoFrom 54 = .ok (.invokevirtual 154, 3) := by decide +kernel
theorem dX1_undoFrom_57 : decode cX1_undoFrom 57 = .ok (.iinc 4 (-1), 3) := by decide +kernel
theorem dX1_undoFrom_60 : decode cX1_undoFrom 60 = .ok (.goto (-19), 3) := by decide +kernel
theorem dX1_undoFrom_63 : decode cX1_undoFrom 63 = .ok (.return_, 1) := by decide +kernel
abbrev cX1_append : ByteArray := prog_1_method_20_code
def yX1_append : MethodName := ⟨"TripleStore", "append", "(JI)I"⟩
theorem dX1_append_0 : decode cX1_append 0 = .ok (.iload_n 3, 1) := by decide +kernel
theorem dX1_append_1 : decode cX1_append 1 = .ok (.iconst 1, 1) := by decide +kernel
theorem dX1_append_2 : decode cX1_append 2 = .ok (.if_icmp .lt 9, 3) := by decide +kernel
theorem dX1_append_5 : decode cX1_append 5 = .ok (.iload_n 3, 1) := by decide +kernel
theorem dX1_append_6 : decode cX1_append 6 = .ok (.bipush 8, 2) := by decide +kernel
theorem dX1_append_8 : decode cX1_append 8 = .ok (.if_icmp .le 11, 3) := by decide +kernel
theorem dX1_append_11 : decode cX1_append 11 = .ok (.new 36, 3) := by decide +kernel
theorem dX1_append_14 : decode cX1_append 14 = .ok (.dup, 1) := by decide +kernel
theorem dX1_append_15 : decode cX1_append 15 = .ok (.invokespecial 38, 3) := by decide +kernel
theorem dX1_append_18 : decode cX1_append 18 = .ok (.athrow, 1) := by decide +kernel
theorem dX1_append_19 : decode cX1_append 19 = .ok (.iconst 0, 1) := by decide +kernel
theorem dX1_append_20 : decode cX1_append 20 = .ok (.istore 4, 2) := by decide +kernel
theorem dX1_append_22 : decode cX1_append 22 = .ok (.iload 4, 2) := by decide +kernel
theorem dX1_append_24 : decode cX1_append 24 = .ok (.iload_n 3, 1) := by decide +kernel
theorem dX1_append_25 : decode cX1_append 25 = .ok (.if_icmp .ge 45, 3) := by decide +kernel
theorem dX1_append_28 : decode cX1_append 28 = .ok (.lload_n 1, 1) := by decide +kernel
theorem dX1_append_29 : decode cX1_append 29 = .ok (.bipush 8, 2) := by decide +kernel
theorem dX1_append_31 : decode cX1_append 31 = .ok (.iload 4, 2) := by decide +kernel
theorem dX1_append_33 : decode cX1_append 33 = .ok (.imul, 1) := by decide +kernel
theorem dX1_append_34 : decode cX1_append 34 = .ok (.lshr, 1) := by decide +kernel
theorem dX1_append_35 : decode cX1_append 35 = .ok (.l2i, 1) := by decide +kernel
theorem dX1_append_36 : decode cX1_append 36 = .ok (.sipush 255, 3) := by decide +kernel
theorem dX1_append_39 : decode cX1_append 39 = .ok (.iand, 1) := by decide +kernel
theorem dX1_append_40 : decode cX1_append 40 = .ok (.istore 5, 2) := by decide +kernel
theorem dX1_append_42 : decode cX1_append 42 = .ok (.iload 5, 2) := by decide +kernel
theorem dX1_append_44 : decode cX1_append 44 = .ok (.bipush 32, 2) := by decide +kernel
theorem dX1_append_46 : decode cX1_append 46 = .ok (.if_icmp .lt 10, 3) := by decide +kernel
theorem dX1_append_49 : decode cX1_append 49 = .ok (.iload 5, 2) := by decide +kernel
theorem dX1_append_51 : decode cX1_append 51 = .ok (.bipush 126, 2) := by decide +kernel
theorem dX1_append_53 : decode cX1_append 53 = .ok (.if_icmp .le 11, 3) := by decide +kernel
theorem dX1_append_56 : decode cX1_append 56 = .ok (.new 36, 3) := by decide +kernel
theorem dX1_append_59 : decode cX1_append 59 = .ok (.dup, 1) := by decide +kernel
theorem dX1_append_60 : decode cX1_append 60 = .ok (.invokespecial 38, 3) := by decide +kernel
theorem dX1_append_63 : decode cX1_append 63 = .ok (.athrow, 1) := by decide +kernel
theorem dX1_append_64 : decode cX1_append 64 = .ok (.iinc 4 1, 3) := by decide +kernel
theorem dX1_append_67 : decode cX1_append 67 = .ok (.goto (-45), 3) := by decide +kernel
theorem dX1_append_70 : decode cX1_append 70 = .ok (.aload_n 0, 1) := by decide +kernel
theorem dX1_append_71 : decode cX1_append 71 = .ok (.getfield 20, 3) := by decide +kernel
theorem dX1_append_74 : decode cX1_append 74 = .ok (.invokevirtual 44, 3) := by decide +kernel
theorem dX1_append_77 : decode cX1_append 77 = .ok (.iload_n 3, 1) := by decide +kernel
theorem dX1_append_78 : decode cX1_append 78 = .ok (.iadd, 1) := by decide +kernel
theorem dX1_append_79 : decode cX1_append 79 = .ok (.sipush 160, 3) := by decide +kernel
theorem dX1_append_82 : decode cX1_append 82 = .ok (.if_icmp .le 11, 3) := by decide +kernel
theorem dX1_append_85 : decode cX1_append 85 = .ok (.new 127, 3) := by decide +kernel
theorem dX1_append_88 : decode cX1_append 88 = .ok (.dup, 1) := by decide +kernel
theorem dX1_append_89 : decode cX1_append 89 = .ok (.invokespecial 129, 3) := by decide +kernel
theorem dX1_append_92 : decode cX1_append 92 = .ok (.athrow, 1) := by decide +kernel
theorem dX1_append_93 : decode cX1_append 93 = .ok (.iload_n 3, 1) := by decide +kernel
theorem dX1_append_94 : decode cX1_append 94 = .ok (.iconst 1, 1) := by decide +kernel
theorem dX1_append_95 : decode cX1_append 95 = .ok (.isub, 1) := by decide +kernel
theorem dX1_append_96 : decode cX1_append 96 = .ok (.istore 4, 2) := by decide +kernel
theorem dX1_append_98 : decode cX1_append 98 = .ok (.iload 4, 2) := by decide +kernel
theorem dX1_append_100 : decode cX1_append 100 = .ok (.ifCond .lt 30, 3) := by decide +kernel
theorem dX1_append_103 : decode cX1_append 103 = .ok (.aload_n 0, 1) := by decide +kernel
theorem dX1_append_104 : decode cX1_append 104 = .ok (.getfield 20, 3) := by decide +kernel
theorem dX1_append_107 : decode cX1_append 107 = .ok (.lload_n 1, 1) := by decide +kernel
theorem dX1_append_108 : decode cX1_append 108 = .ok (.bipush 8, 2) := by decide +kernel
theorem dX1_append_110 : decode cX1_append 110 = .ok (.iload 4, 2) := by decide +kernel
theorem dX1_append_112 : decode cX1_append 112 = .ok (.imul, 1) := by decide +kernel
theorem dX1_append_113 : decode cX1_append 113 = .ok (.lshr, 1) := by decide +kernel
theorem dX1_append_114 : decode cX1_append 114 = .ok (.l2i, 1) := by decide +kernel
theorem dX1_append_115 : decode cX1_append 115 = .ok (.sipush 255, 3) := by decide +kernel
theorem dX1_append_118 : decode cX1_append 118 = .ok (.iand, 1) := by decide +kernel
theorem dX1_append_119 : decode cX1_append 119 = .ok (.i2c, 1) := by decide +kernel
theorem dX1_append_120 : decode cX1_append 120 = .ok (.invokevirtual 48, 3) := by decide +kernel
theorem dX1_append_123 : decode cX1_append 123 = .ok (.pop, 1) := by decide +kernel
theorem dX1_append_124 : decode cX1_append 124 = .ok (.iinc 4 (-1), 3) := by decide +kernel
theorem dX1_append_127 : decode cX1_append 127 = .ok (.goto (-29), 3) := by decide +kernel
theorem dX1_append_130 : decode cX1_append 130 = .ok (.aload_n 0, 1) := by decide +kernel
theorem dX1_append_131 : decode cX1_append 131 = .ok (.getfield 20, 3) := by decide +kernel
theorem dX1_append_134 : decode cX1_append 134 = .ok (.invokevirtual 44, 3) := by decide +kernel
theorem dX1_append_137 : decode cX1_append 137 = .ok (.ireturn, 1) := by decide +kernel
abbrev cX1_ask : ByteArray := prog_1_method_22_code
def yX1_ask : MethodName := ⟨"TripleStore", "ask", "()I"⟩
theorem dX1_ask_0 : decode cX1_ask 0 = .ok (.aload_n 0, 1) := by decide +kernel
theorem dX1_ask_1 : decode cX1_ask 1 = .ok (.getfield 20, 3) := by decide +kernel
theorem dX1_ask_4 : decode cX1_ask 4 = .ok (.invokevirtual 54, 3) := by decide +kernel
theorem dX1_ask_7 : decode cX1_ask 7 = .ok (.astore_n 1, 1) := by decide +kernel
theorem dX1_ask_8 : decode cX1_ask 8 = .ok (.aload_n 0, 1) := by decide +kernel
theorem dX1_ask_9 : decode cX1_ask 9 = .ok (.getfield 20, 3) := by decide +kernel
theorem dX1_ask_12 : decode cX1_ask 12 = .ok (.iconst 0, 1) := by decide +kernel
theorem dX1_ask_13 : decode cX1_ask 13 = .ok (.invokevirtual 188, 3) := by decide +kernel
theorem dX1_ask_16 : decode cX1_ask 16 = .ok (.new 191, 3) := by decide +kernel
theorem dX1_ask_19 : decode cX1_ask 19 = .ok (.dup, 1) := by decide +kernel
theorem dX1_ask_20 : decode cX1_ask 20 = .ok (.aload_n 0, 1) := by decide +kernel
theorem dX1_ask_21 : decode cX1_ask 21 = .ok (.aload_n 1, 1) := by decide +kernel
theorem dX1_ask_22 : decode cX1_ask 22 = .ok (.invokespecial 193, 3) := by decide +kernel
theorem dX1_ask_25 : decode cX1_ask 25 = .ok (.invokevirtual 196, 3) := by decide +kernel
theorem dX1_ask_28 : decode cX1_ask 28 = .ok (.astore_n 2, 1) := by decide +kernel
theorem dX1_ask_29 : decode cX1_ask 29 = .ok (.aload_n 0, 1) := by decide +kernel
theorem dX1_ask_30 : decode cX1_ask 30 = .ok (.iconst (-1), 1) := by decide +kernel
theorem dX1_ask_31 : decode cX1_ask 31 = .ok (.putfield 24, 3) := by decide +kernel
theorem dX1_ask_34 : decode cX1_ask 34 = .ok (.aload_n 0, 1) := by decide +kernel
theorem dX1_ask_35 : decode cX1_ask 35 = .ok (.iconst 0, 1) := by decide +kernel
theorem dX1_ask_36 : decode cX1_ask 36 = .ok (.putfield 175, 3) := by decide +kernel
theorem dX1_ask_39 : decode cX1_ask 39 = .ok (.aload_n 0, 1) := by decide +kernel
theorem dX1_ask_40 : decode cX1_ask 40 = .ok (.aload_n 2, 1) := by decide +kernel
theorem dX1_ask_41 : decode cX1_ask 41 = .ok (.getfield 200, 3) := by decide +kernel
theorem dX1_ask_44 : decode cX1_ask 44 = .ok (.putfield 203, 3) := by decide +kernel
theorem dX1_ask_47 : decode cX1_ask 47 = .ok (.aload_n 2, 1) := by decide +kernel
theorem dX1_ask_48 : decode cX1_ask 48 = .ok (.getfield 206, 3) := by decide +kernel
theorem dX1_ask_51 : decode cX1_ask 51 = .ok (.aload_n 0, 1) := by decide +kernel
theorem dX1_ask_52 : decode cX1_ask 52 = .ok (.invokevirtual 210, 3) := by decide +kernel
theorem dX1_ask_55 : decode cX1_ask 55 = .ok (.astore_n 3, 1) := by decide +kernel
theorem dX1_ask_56 : decode cX1_ask 56 = .ok (.aload_n 0, 1) := by decide +kernel
theorem dX1_ask_57 : decode cX1_ask 57 = .ok (.aload_n 3, 1) := by decide +kernel
theorem dX1_ask_58 : decode cX1_ask 58 = .ok (.getfield 215, 3) := by decide +kernel
theorem dX1_ask_61 : decode cX1_ask 61 = .ok (.anewarray 28, 3) := by decide +kernel
theorem dX1_ask_64 : decode cX1_ask 64 = .ok (.putfield 30, 3) := by decide +kernel
theorem dX1_ask_67 : decode cX1_ask 67 = .ok (.iconst 0, 1) := by decide +kernel
theorem dX1_ask_68 : decode cX1_ask 68 = .ok (.istore 4, 2) := by decide +kernel
theorem dX1_ask_70 : decode cX1_ask 70 = .ok (.iload 4, 2) := by decide +kernel
theorem dX1_ask_72 : decode cX1_ask 72 = .ok (.aload_n 3, 1) := by decide +kernel
theorem dX1_ask_73 : decode cX1_ask 73 = .ok (.getfield 215, 3) := by decide +kernel
theorem dX1_ask_76 : decode cX1_ask 76 = .ok (.if_icmp .ge 29, 3) := by decide +kernel
theorem dX1_ask_79 : decode cX1_ask 79 = .ok (.aload_n 0, 1) := by decide +kernel
theorem dX1_ask_80 : decode cX1_ask 80 = .ok (.new 28, 3) := by decide +kernel
theorem dX1_ask_83 : decode cX1_ask 83 = .ok (.dup, 1) := by decide +kernel
theorem dX1_ask_84 : decode cX1_ask 84 = .ok (.aload_n 2, 1) := by decide +kernel
theorem dX1_ask_85 : decode cX1_ask 85 = .ok (.aload_n 3, 1) := by decide +kernel
theorem dX1_ask_86 : decode cX1_ask 86 = .ok (.getfield 218, 3) := by decide +kernel
theorem dX1_ask_89 : decode cX1_ask 89 = .ok (.iload 4, 2) := by decide +kernel
theorem dX1_ask_91 : decode cX1_ask 91 = .ok (.aaload, 1) := by decide +kernel
theorem dX1_ask_92 : decode cX1_ask 92 = .ok (.invokespecial 222, 3) := by decide +kernel
theorem dX1_ask_95 : decode cX1_ask 95 = .ok (.aload_n 2, 1) := by decide +kernel
theorem dX1_ask_96 : decode cX1_ask 96 = .ok (.invokevirtual 225, 3) := by decide +kernel
theorem dX1_ask_99 : decode cX1_ask 99 = .ok (.iinc 4 1, 3) := by decide +kernel
theorem dX1_ask_102 : decode cX1_ask 102 = .ok (.goto (-32), 3) := by decide +kernel
theorem dX1_ask_105 : decode cX1_ask 105 = .ok (.aload_n 0, 1) := by decide +kernel
theorem dX1_ask_106 : decode cX1_ask 106 = .ok (.aload_n 0, 1) := by decide +kernel
theorem dX1_ask_107 : decode cX1_ask 107 = .ok (.getfield 175, 3) := by decide +kernel
theorem dX1_ask_110 : decode cX1_ask 110 = .ok (.aload_n 2, 1) := by decide +kernel
theorem dX1_ask_111 : decode cX1_ask 111 = .ok (.getfield 229, 3) := by decide +kernel
theorem dX1_ask_114 : decode cX1_ask 114 = .ok (.invokestatic 232, 3) := by decide +kernel
theorem dX1_ask_117 : decode cX1_ask 117 = .ok (.putfield 175, 3) := by decide +kernel
theorem dX1_ask_120 : decode cX1_ask 120 = .ok (.aload_n 0, 1) := by decide +kernel
theorem dX1_ask_121 : decode cX1_ask 121 = .ok (.getfield 175, 3) := by decide +kernel
theorem dX1_ask_124 : decode cX1_ask 124 = .ok (.ireturn, 1) := by decide +kernel
abbrev cX1_enter : ByteArray := prog_1_method_21_code
def yX1_enter : MethodName := ⟨"TripleStore", "enter", "(LTripleStore$Row;LTripleStore$Query;)V"⟩
theorem dX1_enter_0 : decode cX1_enter 0 = .ok (.aload_n 2, 1) := by decide +kernel
theorem dX1_enter_1 : decode cX1_enter 1 = .ok (.getfield 170, 3) := by decide +kernel
theorem dX1_enter_4 : decode cX1_enter 4 = .ok (.ifCond .eq 100, 3) := by decide +kernel
theorem dX1_enter_7 : decode cX1_enter 7 = .ok (.iconst 0, 1) := by decide +kernel
theorem dX1_enter_8 : decode cX1_enter 8 = .ok (.istore_n 3, 1) := by decide +kernel
theorem dX1_enter_9 : decode cX1_enter 9 = .ok (.iload_n 3, 1) := by decide +kernel
theorem dX1_enter_10 : decode cX1_enter 10 = .ok (.aload_n 0, 1) := by decide +kernel
theorem dX1_enter_11 : decode cX1_enter 11 = .ok (.getfield 175, 3) := by decide +kernel
theorem dX1_enter_14 : decode cX1_enter 14 = .ok (.if_icmp .ge 90, 3) := by decide +kernel
theorem dX1_enter_17 : decode cX1_enter 17 = .ok (.aload_n 0, 1) := by decide +kernel
theorem dX1_enter_18 : decode cX1_enter 18 = .ok (.getfield 30, 3) := by decide +kernel
theorem dX1_enter_21 : decode cX1_enter 21 = .ok (.iload_n 3, 1) := by decide +kernel
theorem dX1_enter_22 : decode cX1_enter 22 = .ok (.aaload, 1) := by decide +kernel
theorem dX1_enter_23 : decode cX1_enter 23 = .ok (.aload_n 1, 1) := by decide +kernel
theorem dX1_enter_24 : decode cX1_enter 24 = .ok (.invokevirtual 178, 3) := by decide +kernel
theorem dX1_enter_27 : decode cX1_enter 27 = .ok (.ifCond .eq 6, 3) := by decide +kernel
theorem dX1_enter_30 : decode cX1_enter 30 = .ok (.goto 68, 3) := by decide +kernel
theorem dX1_enter_33 : decode cX1_enter 33 = .ok (.aload_n 1, 1) := by decide +kernel
theorem dX1_enter_34 : decode cX1_enter 34 = .ok (.aload_n 0, 1) := by decide +kernel
theorem dX1_enter_35 : decode cX1_enter 35 = .ok (.getfield 30, 3) := by decide +kernel
theorem dX1_enter_38 : decode cX1_enter 38 = .ok (.iload_n 3, 1) := by decide +kernel
theorem dX1_enter_39 : decode cX1_enter 39 = .ok (.aaload, 1) := by decide +kernel
theorem dX1_enter_40 : decode cX1_enter 40 = .ok (.aload_n 2, 1) := by decide +kernel
theorem dX1_enter_41 : decode cX1_enter 41 = .ok (.getfield 182, 3) := by decide +kernel
theorem dX1_enter_44 : decode cX1_enter 44 = .ok (.invokevirtual 185, 3) := by decide +kernel
theorem dX1_enter_47 : decode cX1_enter 47 = .ok (.ifCond .ne 4, 3) := by decide +kernel
theorem dX1_enter_50 : decode cX1_enter 50 = .ok (.return_, 1) := by decide +kernel
theorem dX1_enter_51 : decode cX1_enter 51 = .ok (.aload_n 0, 1) := by decide +kernel
theorem dX1_enter_52 : decode cX1_enter 52 = .ok (.dup, 1) := by decide +kernel
theorem dX1_enter_53 : decode cX1_enter 53 = .ok (.getfield 175, 3) := by decide +kernel
theorem dX1_enter_56 : decode cX1_enter 56 = .ok (.iconst 1, 1) := by decide +kernel
theorem dX1_enter_57 : decode cX1_enter 57 = .ok (.isub, 1) := by decide +kernel
theorem dX1_enter_58 : decode cX1_enter 58 = .ok (.putfield 175, 3) := by decide +kernel
theorem dX1_enter_61 : decode cX1_enter 61 = .ok (.iload_n 3, 1) := by decide +kernel
theorem dX1_enter_62 : decode cX1_enter 62 = .ok (.istore 4, 2) := by decide +kernel
theorem dX1_enter_64 : decode cX1_enter 64 = .ok (.iload 4, 2) := by decide +kernel
theorem dX1_enter_66 : decode cX1_enter 66 = .ok (.aload_n 0, 1) := by decide +kernel
theorem dX1_enter_67 : decode cX1_enter 67 = .ok (.getfield 175, 3) := by decide +kernel
theorem dX1_enter_70 : decode cX1_enter 70 = .ok (.if_icmp .ge 25, 3) := by decide +kernel
theorem dX1_enter_73 : decode cX1_enter 73 = .ok (.aload_n 0, 1) := by decide +kernel
theorem dX1_enter_74 : decode cX1_enter 74 = .ok (.getfield 30, 3) := by decide +kernel
theorem dX1_enter_77 : decode cX1_enter 77 = .ok (.iload 4, 2) := by decide +kernel
theorem dX1_enter_79 : decode cX1_enter 79 = .ok (.aload_n 0, 1) := by decide +kernel
theorem dX1_enter_80 : decode cX1_enter 80 = .ok (.getfield 30, 3) := by decide +kernel
theorem dX1_enter_83 : decode cX1_enter 83 = .ok (.iload 4, 2) := by decide +kernel
theorem dX1_enter_85 : decode cX1_enter 85 = .ok (.iconst 1, 1) := by decide +kernel
theorem dX1_enter_86 : decode cX1_enter 86 = .ok (.iadd, 1) := by decide +kernel
theorem dX1_enter_87 : decode cX1_enter 87 = .ok (.aaload, 1) := by decide +kernel
theorem dX1_enter_88 : decode cX1_enter 88 = .ok (.aastore, 1) := by decide +kernel
theorem dX1_enter_89 : decode cX1_enter 89 = .ok (.iinc 4 1, 3) := by decide +kernel
theorem dX1_enter_92 : decode cX1_enter 92 = .ok (.goto (-28), 3) := by decide +kernel
theorem dX1_enter_95 : decode cX1_enter 95 = .ok (.goto 9, 3) := by decide +kernel
theorem dX1_enter_98 : decode cX1_enter 98 = .ok (.iinc 3 1, 3) := by decide +kernel
theorem dX1_enter_101 : decode cX1_enter 101 = .ok (.goto (-92), 3) := by decide +kernel
theorem dX1_enter_104 : decode cX1_enter 104 = .ok (.aload_n 0, 1) := by decide +kernel
theorem dX1_enter_105 : decode cX1_enter 105 = .ok (.getfield 175, 3) := by decide +kernel
theorem dX1_enter_108 : decode cX1_enter 108 = .ok (.istore_n 3, 1) := by decide +kernel
theorem dX1_enter_109 : decode cX1_enter 109 = .ok (.iload_n 3, 1) := by decide +kernel
theorem dX1_enter_110 : decode cX1_enter 110 = .ok (.ifCond .le 42, 3) := by decide +kernel
theorem dX1_enter_113 : decode cX1_enter 113 = .ok (.aload_n 1, 1) := by decide +kernel
theorem dX1_enter_114 : decode cX1_enter 114 = .ok (.aload_n 0, 1) := by decide +kernel
theorem dX1_enter_115 : decode cX1_enter 115 = .ok (.getfield 30, 3) := by decide +kernel
theorem dX1_enter_118 : decode cX1_enter 118 = .ok (.iload_n 3, 1) := by decide +kernel
theorem dX1_enter_119 : decode cX1_enter 119 = .ok (.iconst 1, 1) := by decide +kernel
theorem dX1_enter_120 : decode cX1_enter 120 = .ok (.isub, 1) := by decide +kernel
theorem dX1_enter_121 : decode cX1_enter 121 = .ok (.aaload, 1) := by decide +kernel
theorem dX1_enter_122 : decode cX1_enter 122 = .ok (.aload_n 2, 1) := by decide +kernel
theorem dX1_enter_123 : decode cX1_enter 123 = .ok (.getfield 182, 3) := by decide +kernel
theorem dX1_enter_126 : decode cX1_enter 126 = .ok (.invokevirtual 185, 3) := by decide +kernel
theorem dX1_enter_129 : decode cX1_enter 129 = .ok (.ifCond .eq 23, 3) := by decide +kernel
theorem dX1_enter_132 : decode cX1_enter 132 = .ok (.aload_n 0, 1) := by decide +kernel
theorem dX1_enter_133 : decode cX1_enter 133 = .ok (.getfield 30, 3) := by decide +kernel
theorem dX1_enter_136 : decode cX1_enter 136 = .ok (.iload_n 3, 1) := by decide +kernel
theorem dX1_enter_137 : decode cX1_enter 137 = .ok (.aload_n 0, 1) := by decide +kernel
theorem dX1_enter_138 : decode cX1_enter 138 = .ok (.getfield 30, 3) := by decide +kernel
theorem dX1_enter_141 : decode cX1_enter 141 = .ok (.iload_n 3, 1) := by decide +kernel
theorem dX1_enter_142 : decode cX1_enter 142 = .ok (.iconst 1, 1) := by decide +kernel
theorem dX1_enter_143 : decode cX1_enter 143 = .ok (.isub, 1) := by decide +kernel
theorem dX1_enter_144 : decode cX1_enter 144 = .ok (.aaload, 1) := by decide +kernel
theorem dX1_enter_145 : decode cX1_enter 145 = .ok (.aastore, 1) := by decide +kernel
theorem dX1_enter_146 : decode cX1_enter 146 = .ok (.iinc 3 (-1), 3) := by decide +kernel
theorem dX1_enter_149 : decode cX1_enter 149 = .ok (.goto (-40), 3) := by decide +kernel
theorem dX1_enter_152 : decode cX1_enter 152 = .ok (.aload_n 0, 1) := by decide +kernel
theorem dX1_enter_153 : decode cX1_enter 153 = .ok (.getfield 30, 3) := by decide +kernel
theorem dX1_enter_156 : decode cX1_enter 156 = .ok (.iload_n 3, 1) := by decide +kernel
theorem dX1_enter_157 : decode cX1_enter 157 = .ok (.aload_n 1, 1) := by decide +kernel
theorem dX1_enter_158 : decode cX1_enter 158 = .ok (.aastore, 1) := by decide +kernel
theorem dX1_enter_159 : decode cX1_enter 159 = .ok (.aload_n 0, 1) := by decide +kernel
theorem dX1_enter_160 : decode cX1_enter 160 = .ok (.dup, 1) := by decide +kernel
theorem dX1_enter_161 : decode cX1_enter 161 = .ok (.getfield 175, 3) := by decide +kernel
theorem dX1_enter_164 : decode cX1_enter 164 = .ok (.iconst 1, 1) := by decide +kernel
theorem dX1_enter_165 : decode cX1_enter 165 = .ok (.iadd, 1) := by decide +kernel
theorem dX1_enter_166 : decode cX1_enter 166 = .ok (.putfield 175, 3) := by decide +kernel
theorem dX1_enter_169 : decode cX1_enter 169 = .ok (.return_, 1) := by decide +kernel
