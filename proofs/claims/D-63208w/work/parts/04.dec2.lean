theorem d_Model_init_0 : decode b_Model_init 0 = .ok (.aload_n 0, 1) := by decide +kernel
theorem d_Model_init_1 : decode b_Model_init 1 = .ok (.invokespecial 1, 3) := by decide +kernel
theorem d_Model_init_4 : decode b_Model_init 4 = .ok (.aload_n 0, 1) := by decide +kernel
theorem d_Model_init_5 : decode b_Model_init 5 = .ok (.iconst 3, 1) := by decide +kernel
theorem d_Model_init_6 : decode b_Model_init 6 = .ok (.newarray .long, 2) := by decide +kernel
theorem d_Model_init_8 : decode b_Model_init 8 = .ok (.putfield 7, 3) := by decide +kernel
theorem d_Model_init_11 : decode b_Model_init 11 = .ok (.aload_n 0, 1) := by decide +kernel
theorem d_Model_init_12 : decode b_Model_init 12 = .ok (.iconst 3, 1) := by decide +kernel
theorem d_Model_init_13 : decode b_Model_init 13 = .ok (.newarray .boolean, 2) := by decide +kernel
theorem d_Model_init_15 : decode b_Model_init 15 = .ok (.putfield 13, 3) := by decide +kernel
theorem d_Model_init_18 : decode b_Model_init 18 = .ok (.aload_n 0, 1) := by decide +kernel
theorem d_Model_init_19 : decode b_Model_init 19 = .ok (.iconst 3, 1) := by decide +kernel
theorem d_Model_init_20 : decode b_Model_init 20 = .ok (.newarray .int, 2) := by decide +kernel
theorem d_Model_init_22 : decode b_Model_init 22 = .ok (.putfield 17, 3) := by decide +kernel
theorem d_Model_init_25 : decode b_Model_init 25 = .ok (.aload_n 0, 1) := by decide +kernel
theorem d_Model_init_26 : decode b_Model_init 26 = .ok (.iconst 3, 1) := by decide +kernel
theorem d_Model_init_27 : decode b_Model_init 27 = .ok (.newarray .int, 2) := by decide +kernel
theorem d_Model_init_29 : decode b_Model_init 29 = .ok (.putfield 21, 3) := by decide +kernel
theorem d_Model_init_32 : decode b_Model_init 32 = .ok (.aload_n 0, 1) := by decide +kernel
theorem d_Model_init_33 : decode b_Model_init 33 = .ok (.iconst 3, 1) := by decide +kernel
theorem d_Model_init_34 : decode b_Model_init 34 = .ok (.newarray .int, 2) := by decide +kernel
theorem d_Model_init_36 : decode b_Model_init 36 = .ok (.putfield 24, 3) := by decide +kernel
theorem d_Model_init_39 : decode b_Model_init 39 = .ok (.aload_n 0, 1) := by decide +kernel
theorem d_Model_init_40 : decode b_Model_init 40 = .ok (.iconst 3, 1) := by decide +kernel
theorem d_Model_init_41 : decode b_Model_init 41 = .ok (.newarray .int, 2) := by decide +kernel
theorem d_Model_init_43 : decode b_Model_init 43 = .ok (.putfield 27, 3) := by decide +kernel
theorem d_Model_init_46 : decode b_Model_init 46 = .ok (.aload_n 0, 1) := by decide +kernel
theorem d_Model_init_47 : decode b_Model_init 47 = .ok (.iconst 3, 1) := by decide +kernel
theorem d_Model_init_48 : decode b_Model_init 48 = .ok (.newarray .int, 2) := by decide +kernel
theorem d_Model_init_50 : decode b_Model_init 50 = .ok (.putfield 30, 3) := by decide +kernel
theorem d_Model_init_53 : decode b_Model_init 53 = .ok (.aload_n 0, 1) := by decide +kernel
theorem d_Model_init_54 : decode b_Model_init 54 = .ok (.iconst 3, 1) := by decide +kernel
theorem d_Model_init_55 : decode b_Model_init 55 = .ok (.newarray .int, 2) := by decide +kernel
theorem d_Model_init_57 : decode b_Model_init 57 = .ok (.putfield 33, 3) := by decide +kernel
theorem d_Model_init_60 : decode b_Model_init 60 = .ok (.aload_n 0, 1) := by decide +kernel
theorem d_Model_init_61 : decode b_Model_init 61 = .ok (.iconst 3, 1) := by decide +kernel
theorem d_Model_init_62 : decode b_Model_init 62 = .ok (.newarray .int, 2) := by decide +kernel
theorem d_Model_init_64 : decode b_Model_init 64 = .ok (.putfield 36, 3) := by decide +kernel
theorem d_Model_init_67 : decode b_Model_init 67 = .ok (.aload_n 0, 1) := by decide +kernel
theorem d_Model_init_68 : decode b_Model_init 68 = .ok (.iconst 3, 1) := by decide +kernel
theorem d_Model_init_69 : decode b_Model_init 69 = .ok (.newarray .int, 2) := by decide +kernel
theorem d_Model_init_71 : decode b_Model_init 71 = .ok (.putfield 39, 3) := by decide +kernel
theorem d_Model_init_74 : decode b_Model_init 74 = .ok (.aload_n 0, 1) := by decide +kernel
theorem d_Model_init_75 : decode b_Model_init 75 = .ok (.bipush 12, 2) := by decide +kernel
theorem d_Model_init_77 : decode b_Model_init 77 = .ok (.newarray .int, 2) := by decide +kernel
theorem d_Model_init_79 : decode b_Model_init 79 = .ok (.putfield 42, 3) := by decide +kernel
theorem d_Model_init_82 : decode b_Model_init 82 = .ok (.aload_n 0, 1) := by decide +kernel
theorem d_Model_init_83 : decode b_Model_init 83 = .ok (.bipush 12, 2) := by decide +kernel
theorem d_Model_init_85 : decode b_Model_init 85 = .ok (.newarray .boolean, 2) := by decide +kernel
theorem d_Model_init_87 : decode b_Model_init 87 = .ok (.putfield 45, 3) := by decide +kernel
theorem d_Model_init_90 : decode b_Model_init 90 = .ok (.aload_n 0, 1) := by decide +kernel
theorem d_Model_init_91 : decode b_Model_init 91 = .ok (.bipush 12, 2) := by decide +kernel
theorem d_Model_init_93 : decode b_Model_init 93 = .ok (.newarray .int, 2) := by decide +kernel
theorem d_Model_init_95 : decode b_Model_init 95 = .ok (.putfield 48, 3) := by decide +kernel
theorem d_Model_init_98 : decode b_Model_init 98 = .ok (.aload_n 0, 1) := by decide +kernel
theorem d_Model_init_99 : decode b_Model_init 99 = .ok (.bipush 12, 2) := by decide +kernel
theorem d_Model_init_101 : decode b_Model_init 101 = .ok (.newarray .long, 2) := by decide +kernel
theorem d_Model_init_103 : decode b_Model_init 103 = .ok (.putfield 51, 3) := by decide +kernel
theorem d_Model_init_106 : decode b_Model_init 106 = .ok (.aload_n 0, 1) := by decide +kernel
theorem d_Model_init_107 : decode b_Model_init 107 = .ok (.bipush 12, 2) := by decide +kernel
theorem d_Model_init_109 : decode b_Model_init 109 = .ok (.newarray .long, 2) := by decide +kernel
theorem d_Model_init_111 : decode b_Model_init 111 = .ok (.putfield 54, 3) := by decide +kernel
theorem d_Model_init_114 : decode b_Model_init 114 = .ok (.aload_n 0, 1) := by decide +kernel
theorem d_Model_init_115 : decode b_Model_init 115 = .ok (.bipush 6, 2) := by decide +kernel
theorem d_Model_init_117 : decode b_Model_init 117 = .ok (.newarray .int, 2) := by decide +kernel
theorem d_Model_init_119 : decode b_Model_init 119 = .ok (.putfield 57, 3) := by decide +kernel
theorem d_Model_init_122 : decode b_Model_init 122 = .ok (.aload_n 0, 1) := by decide +kernel
theorem d_Model_init_123 : decode b_Model_init 123 = .ok (.bipush 6, 2) := by decide +kernel
theorem d_Model_init_125 : decode b_Model_init 125 = .ok (.newarray .int, 2) := by decide +kernel
theorem d_Model_init_127 : decode b_Model_init 127 = .ok (.putfield 60, 3) := by decide +kernel
theorem d_Model_init_130 : decode b_Model_init 130 = .ok (.aload_n 0, 1) := by decide +kernel
theorem d_Model_init_131 : decode b_Model_init 131 = .ok (.bipush 6, 2) := by decide +kernel
theorem d_Model_init_133 : decode b_Model_init 133 = .ok (.newarray .int, 2) := by decide +kernel
theorem d_Model_init_135 : decode b_Model_init 135 = .ok (.putfield 63, 3) := by decide +kernel
theorem d_Model_init_138 : decode b_Model_init 138 = .ok (.aload_n 0, 1) := by decide +kernel
theorem d_Model_init_139 : decode b_Model_init 139 = .ok (.bipush 6, 2) := by decide +kernel
theorem d_Model_init_141 : decode b_Model_init 141 = .ok (.newarray .long, 2) := by decide +kernel
theorem d_Model_init_143 : decode b_Model_init 143 = .ok (.putfield 66, 3) := by decide +kernel
theorem d_Model_init_146 : decode b_Model_init 146 = .ok (.aload_n 0, 1) := by decide +kernel
theorem d_Model_init_147 : decode b_Model_init 147 = .ok (.bipush 6, 2) := by decide +kernel
theorem d_Model_init_149 : decode b_Model_init 149 = .ok (.newarray .long, 2) := by decide +kernel
theorem d_Model_init_151 : decode b_Model_init 151 = .ok (.putfield 69, 3) := by decide +kernel
theorem d_Model_init_154 : decode b_Model_init 154 = .ok (.aload_n 0, 1) := by decide +kernel
theorem d_Model_init_155 : decode b_Model_init 155 = .ok (.bipush 6, 2) := by decide +kernel
theorem d_Model_init_157 : decode b_Model_init 157 = .ok (.newarray .int, 2) := by decide +kernel
theorem d_Model_init_159 : decode b_Model_init 159 = .ok (.putfield 72, 3) := by decide +kernel
theorem d_Model_init_162 : decode b_Model_init 162 = .ok (.aload_n 0, 1) := by decide +kernel
theorem d_Model_init_163 : decode b_Model_init 163 = .ok (.bipush 6, 2) := by decide +kernel
theorem d_Model_init_165 : decode b_Model_init 165 = .ok (.newarray .boolean, 2) := by decide +kernel
theorem d_Model_init_167 : decode b_Model_init 167 = .ok (.putfield 75, 3) := by decide +kernel
theorem d_Model_init_170 : decode b_Model_init 170 = .ok (.aload_n 0, 1) := by decide +kernel
theorem d_Model_init_171 : decode b_Model_init 171 = .ok (.bipush 6, 2) := by decide +kernel
theorem d_Model_init_173 : decode b_Model_init 173 = .ok (.newarray .int, 2) := by decide +kernel
theorem d_Model_init_175 : decode b_Model_init 175 = .ok (.putfield 78, 3) := by decide +kernel
theorem d_Model_init_178 : decode b_Model_init 178 = .ok (.aload_n 0, 1) := by decide +kernel
theorem d_Model_init_179 : decode b_Model_init 179 = .ok (.bipush 18, 2) := by decide +kernel
theorem d_Model_init_181 : decode b_Model_init 181 = .ok (.newarray .int, 2) := by decide +kernel
theorem d_Model_init_183 : decode b_Model_init 183 = .ok (.putfield 81, 3) := by decide +kernel
theorem d_Model_init_186 : decode b_Model_init 186 = .ok (.aload_n 0, 1) := by decide +kernel
theorem d_Model_init_187 : decode b_Model_init 187 = .ok (.bipush 18, 2) := by decide +kernel
theorem d_Model_init_189 : decode b_Model_init 189 = .ok (.newarray .int, 2) := by decide +kernel
theorem d_Model_init_191 : decode b_Model_init 191 = .ok (.putfield 84, 3) := by decide +kernel
theorem d_Model_init_194 : decode b_Model_init 194 = .ok (.aload_n 0, 1) := by decide +kernel
theorem d_Model_init_195 : decode b_Model_init 195 = .ok (.bipush 18, 2) := by decide +kernel
theorem d_Model_init_197 : decode b_Model_init 197 = .ok (.newarray .long, 2) := by decide +kernel
theorem d_Model_init_199 : decode b_Model_init 199 = .ok (.putfield 87, 3) := by decide +kernel
theorem d_Model_init_202 : decode b_Model_init 202 = .ok (.aload_n 0, 1) := by decide +kernel
theorem d_Model_init_203 : decode b_Model_init 203 = .ok (.bipush 18, 2) := by decide +kernel
theorem d_Model_init_205 : decode b_Model_init 205 = .ok (.newarray .long, 2) := by decide +kernel
theorem d_Model_init_207 : decode b_Model_init 207 = .ok (.putfield 90, 3) := by decide +kernel
theorem d_Model_init_210 : decode b_Model_init 210 = .ok (.aload_n 0, 1) := by decide +kernel
theorem d_Model_init_211 : decode b_Model_init 211 = .ok (.bipush 12, 2) := by decide +kernel
theorem d_Model_init_213 : decode b_Model_init 213 = .ok (.newarray .int, 2) := by decide +kernel
theorem d_Model_init_215 : decode b_Model_init 215 = .ok (.putfield 93, 3) := by decide +kernel
theorem d_Model_init_218 : decode b_Model_init 218 = .ok (.aload_n 0, 1) := by decide +kernel
theorem d_Model_init_219 : decode b_Model_init 219 = .ok (.bipush 25, 2) := by decide +kernel
theorem d_Model_init_221 : decode b_Model_init 221 = .ok (.newarray .int, 2) := by decide +kernel
theorem d_Model_init_223 : decode b_Model_init 223 = .ok (.putfield 96, 3) := by decide +kernel
theorem d_Model_init_226 : decode b_Model_init 226 = .ok (.aload_n 0, 1) := by decide +kernel
theorem d_Model_init_227 : decode b_Model_init 227 = .ok (.bipush 25, 2) := by decide +kernel
theorem d_Model_init_229 : decode b_Model_init 229 = .ok (.newarray .int, 2) := by decide +kernel
theorem d_Model_init_231 : decode b_Model_init 231 = .ok (.putfield 99, 3) := by decide +kernel
theorem d_Model_init_234 : decode b_Model_init 234 = .ok (.aload_n 0, 1) := by decide +kernel
theorem d_Model_init_235 : decode b_Model_init 235 = .ok (.bipush 25, 2) := by decide +kernel
theorem d_Model_init_237 : decode b_Model_init 237 = .ok (.newarray .int, 2) := by decide +kernel
theorem d_Model_init_239 : decode b_Model_init 239 = .ok (.putfield 102, 3) := by decide +kernel
theorem d_Model_init_242 : decode b_Model_init 242 = .ok (.aload_n 0, 1) := by decide +kernel
theorem d_Model_init_243 : decode b_Model_init 243 = .ok (.bipush 25, 2) := by decide +kernel
theorem d_Model_init_245 : decode b_Model_init 245 = .ok (.newarray .boolean, 2) := by decide +kernel
theorem d_Model_init_247 : decode b_Model_init 247 = .ok (.putfield 105, 3) := by decide +kernel
theorem d_Model_init_250 : decode b_Model_init 250 = .ok (.aload_n 0, 1) := by decide +kernel
theorem d_Model_init_251 : decode b_Model_init 251 = .ok (.bipush 25, 2) := by decide +kernel
theorem d_Model_init_253 : decode b_Model_init 253 = .ok (.newarray .int, 2) := by decide +kernel
theorem d_Model_init_255 : decode b_Model_init 255 = .ok (.putfield 108, 3) := by decide +kernel
theorem d_Model_init_258 : decode b_Model_init 258 = .ok (.aload_n 0, 1) := by decide +kernel
theorem d_Model_init_259 : decode b_Model_init 259 = .ok (.bipush 25, 2) := by decide +kernel
theorem d_Model_init_261 : decode b_Model_init 261 = .ok (.newarray .long, 2) := by decide +kernel
theorem d_Model_init_263 : decode b_Model_init 263 = .ok (.putfield 111, 3) := by decide +kernel
theorem d_Model_init_266 : decode b_Model_init 266 = .ok (.aload_n 0, 1) := by decide +kernel
theorem d_Model_init_267 : decode b_Model_init 267 = .ok (.bipush 25, 2) := by decide +kernel
theorem d_Model_init_269 : decode b_Model_init 269 = .ok (.newarray .long, 2) := by decide +kernel
theorem d_Model_init_271 : decode b_Model_init 271 = .ok (.putfield 114, 3) := by decide +kernel
theorem d_Model_init_274 : decode b_Model_init 274 = .ok (.aload_n 0, 1) := by decide +kernel
theorem d_Model_init_275 : decode b_Model_init 275 = .ok (.iload_n 1, 1) := by decide +kernel
theorem d_Model_init_276 : decode b_Model_init 276 = .ok (.iconst 1, 1) := by decide +kernel
theorem d_Model_init_277 : decode b_Model_init 277 = .ok (.if_icmp .ge 7, 3) := by decide +kernel
theorem d_Model_init_280 : decode b_Model_init 280 = .ok (.iconst 1, 1) := by decide +kernel
theorem d_Model_init_281 : decode b_Model_init 281 = .ok (.goto 17, 3) := by decide +kernel
theorem d_Model_init_284 : decode b_Model_init 284 = .ok (.iload_n 1, 1) := by decide +kernel
theorem d_Model_init_285 : decode b_Model_init 285 = .ok (.sipush 1000, 3) := by decide +kernel
theorem d_Model_init_288 : decode b_Model_init 288 = .ok (.if_icmp .le 9, 3) := by decide +kernel
theorem d_Model_init_291 : decode b_Model_init 291 = .ok (.sipush 1000, 3) := by decide +kernel
theorem d_Model_init_294 : decode b_Model_init 294 = .ok (.goto 4, 3) := by decide +kernel
theorem d_Model_init_297 : decode b_Model_init 297 = .ok (.iload_n 1, 1) := by decide +kernel
theorem d_Model_init_298 : decode b_Model_init 298 = .ok (.putfield 117, 3) := by decide +kernel
theorem d_Model_init_301 : decode b_Model_init 301 = .ok (.aload_n 0, 1) := by decide +kernel
theorem d_Model_init_302 : decode b_Model_init 302 = .ok (.iload_n 2, 1) := by decide +kernel
theorem d_Model_init_303 : decode b_Model_init 303 = .ok (.iconst 1, 1) := by decide +kernel
theorem d_Model_init_304 : decode b_Model_init 304 = .ok (.if_icmp .ge 7, 3) := by decide +kernel
theorem d_Model_init_307 : decode b_Model_init 307 = .ok (.iconst 1, 1) := by decide +kernel
theorem d_Model_init_308 : decode b_Model_init 308 = .ok (.goto 15, 3) := by decide +kernel
theorem d_Model_init_311 : decode b_Model_init 311 = .ok (.iload_n 2, 1) := by decide +kernel
theorem d_Model_init_312 : decode b_Model_init 312 = .ok (.bipush 50, 2) := by decide +kernel
theorem d_Model_init_314 : decode b_Model_init 314 = .ok (.if_icmp .le 8, 3) := by decide +kernel
theorem d_Model_init_317 : decode b_Model_init 317 = .ok (.bipush 50, 2) := by decide +kernel
theorem d_Model_init_319 : decode b_Model_init 319 = .ok (.goto 4, 3) := by decide +kernel
theorem d_Model_init_322 : decode b_Model_init 322 = .ok (.iload_n 2, 1) := by decide +kernel
theorem d_Model_init_323 : decode b_Model_init 323 = .ok (.putfield 121, 3) := by decide +kernel
theorem d_Model_init_326 : decode b_Model_init 326 = .ok (.iconst 0, 1) := by decide +kernel
theorem d_Model_init_327 : decode b_Model_init 327 = .ok (.istore_n 3, 1) := by decide +kernel
theorem d_Model_init_328 : decode b_Model_init 328 = .ok (.iload_n 3, 1) := by decide +kernel
theorem d_Model_init_329 : decode b_Model_init 329 = .ok (.bipush 12, 2) := by decide +kernel
theorem d_Model_init_331 : decode b_Model_init 331 = .ok (.if_icmp .ge 16, 3) := by decide +kernel
theorem d_Model_init_334 : decode b_Model_init 334 = .ok (.aload_n 0, 1) := by decide +kernel
theorem d_Model_init_335 : decode b_Model_init 335 = .ok (.getfield 42, 3) := by decide +kernel
theorem d_Model_init_338 : decode b_Model_init 338 = .ok (.iload_n 3, 1) := by decide +kernel
theorem d_Model_init_339 : decode b_Model_init 339 = .ok (.iconst (-1), 1) := by decide +kernel
theorem d_Model_init_340 : decode b_Model_init 340 = .ok (.iastore, 1) := by decide +kernel
theorem d_Model_init_341 : decode b_Model_init 341 = .ok (.iinc 3 1, 3) := by decide +kernel
theorem d_Model_init_344 : decode b_Model_init 344 = .ok (.goto (-16), 3) := by decide +kernel
theorem d_Model_init_347 : decode b_Model_init 347 = .ok (.iconst 0, 1) := by decide +kernel
theorem d_Model_init_348 : decode b_Model_init 348 = .ok (.istore_n 3, 1) := by decide +kernel
theorem d_Model_init_349 : decode b_Model_init 349 = .ok (.iload_n 3, 1) := by decide +kernel
theorem d_Model_init_350 : decode b_Model_init 350 = .ok (.bipush 6, 2) := by decide +kernel
theorem d_Model_init_352 : decode b_Model_init 352 = .ok (.if_icmp .ge 23, 3) := by decide +kernel
theorem d_Model_init_355 : decode b_Model_init 355 = .ok (.aload_n 0, 1) := by decide +kernel
theorem d_Model_init_356 : decode b_Model_init 356 = .ok (.getfield 60, 3) := by decide +kernel
theorem d_Model_init_359 : decode b_Model_init 359 = .ok (.iload_n 3, 1) := by decide +kernel
theorem d_Model_init_360 : decode b_Model_init 360 = .ok (.iconst (-1), 1) := by decide +kernel
theorem d_Model_init_361 : decode b_Model_init 361 = .ok (.iastore, 1) := by decide +kernel
theorem d_Model_init_362 : decode b_Model_init 362 = .ok (.aload_n 0, 1) := by decide +kernel
theorem d_Model_init_363 : decode b_Model_init 363 = .ok (.getfield 72, 3) := by decide +kernel
theorem d_Model_init_366 : decode b_Model_init 366 = .ok (.iload_n 3, 1) := by decide +kernel
theorem d_Model_init_367 : decode b_Model_init 367 = .ok (.iconst (-1), 1) := by decide +kernel
theorem d_Model_init_368 : decode b_Model_init 368 = .ok (.iastore, 1) := by decide +kernel
theorem d_Model_init_369 : decode b_Model_init 369 = .ok (.iinc 3 1, 3) := by decide +kernel
theorem d_Model_init_372 : decode b_Model_init 372 = .ok (.goto (-23), 3) := by decide +kernel
theorem d_Model_init_375 : decode b_Model_init 375 = .ok (.iconst 0, 1) := by decide +kernel
theorem d_Model_init_376 : decode b_Model_init 376 = .ok (.istore_n 3, 1) := by decide +kernel
theorem d_Model_init_377 : decode b_Model_init 377 = .ok (.iload_n 3, 1) := by decide +kernel
theorem d_Model_init_378 : decode b_Model_init 378 = .ok (.iconst 3, 1) := by decide +kernel
theorem d_Model_init_379 : decode b_Model_init 379 = .ok (.if_icmp .ge 16, 3) := by decide +kernel
theorem d_Model_init_382 : decode b_Model_init 382 = .ok (.aload_n 0, 1) := by decide +kernel
theorem d_Model_init_383 : decode b_Model_init 383 = .ok (.getfield 39, 3) := by decide +kernel
theorem d_Model_init_386 : decode b_Model_init 386 = .ok (.iload_n 3, 1) := by decide +kernel
theorem d_Model_init_387 : decode b_Model_init 387 = .ok (.iconst (-1), 1) := by decide +kernel
theorem d_Model_init_388 : decode b_Model_init 388 = .ok (.iastore, 1) := by decide +kernel
theorem d_Model_init_389 : decode b_Model_init 389 = .ok (.iinc 3 1, 3) := by decide +kernel
theorem d_Model_init_392 : decode b_Model_init 392 = .ok (.goto (-15), 3) := by decide +kernel
theorem d_Model_init_395 : decode b_Model_init 395 = .ok (.return_, 1) := by decide +kernel
theorem d_Model_thrown_0 : decode b_Model_thrown 0 = .ok (.aload_n 0, 1) := by decide +kernel
theorem d_Model_thrown_1 : decode b_Model_thrown 1 = .ok (.getfield 124, 3) := by decide +kernel
theorem d_Model_thrown_4 : decode b_Model_thrown 4 = .ok (.ireturn, 1) := by decide +kernel
theorem d_Model_fail_0 : decode b_Model_fail 0 = .ok (.aload_n 0, 1) := by decide +kernel
theorem d_Model_fail_1 : decode b_Model_fail 1 = .ok (.iload_n 1, 1) := by decide +kernel
theorem d_Model_fail_2 : decode b_Model_fail 2 = .ok (.putfield 124, 3) := by decide +kernel
theorem d_Model_fail_5 : decode b_Model_fail 5 = .ok (.iconst 0, 1) := by decide +kernel
theorem d_Model_fail_6 : decode b_Model_fail 6 = .ok (.ireturn, 1) := by decide +kernel
theorem d_Model_within_0 : decode b_Model_within 0 = .ok (.iload_n 0, 1) := by decide +kernel
theorem d_Model_within_1 : decode b_Model_within 1 = .ok (.iload_n 1, 1) := by decide +kernel
theorem d_Model_within_2 : decode b_Model_within 2 = .ok (.if_icmp .lt 12, 3) := by decide +kernel
theorem d_Model_within_5 : decode b_Model_within 5 = .ok (.iload_n 0, 1) := by decide +kernel
theorem d_Model_within_6 : decode b_Model_within 6 = .ok (.iload_n 2, 1) := by decide +kernel
theorem d_Model_within_7 : decode b_Model_within 7 = .ok (.if_icmp .gt 7, 3) := by decide +kernel
theorem d_Model_within_10 : decode b_Model_within 10 = .ok (.iconst 1, 1) := by decide +kernel
theorem d_Model_within_11 : decode b_Model_within 11 = .ok (.goto 4, 3) := by decide +kernel
theorem d_Model_within_14 : decode b_Model_within 14 = .ok (.iconst 0, 1) := by decide +kernel
theorem d_Model_within_15 : decode b_Model_within 15 = .ok (.ireturn, 1) := by decide +kernel
theorem d_Model_most_0 : decode b_Model_most 0 = .ok (.lload_n 0, 1) := by decide +kernel
theorem d_Model_most_1 : decode b_Model_most 1 = .ok (.lload_n 2, 1) := by decide +kernel
theorem d_Model_most_2 : decode b_Model_most 2 = .ok (.lcmp, 1) := by decide +kernel
theorem d_Model_most_3 : decode b_Model_most 3 = .ok (.ifCond .le 7, 3) := by decide +kernel
theorem d_Model_most_6 : decode b_Model_most 6 = .ok (.lload_n 0, 1) := by decide +kernel
theorem d_Model_most_7 : decode b_Model_most 7 = .ok (.goto 4, 3) := by decide +kernel
theorem d_Model_most_10 : decode b_Model_most 10 = .ok (.lload_n 2, 1) := by decide +kernel
theorem d_Model_most_11 : decode b_Model_most 11 = .ok (.lreturn, 1) := by decide +kernel
theorem d_Model_send_0 : decode b_Model_send 0 = .ok (.aload_n 0, 1) := by decide +kernel
theorem d_Model_send_1 : decode b_Model_send 1 = .ok (.getfield 96, 3) := by decide +kernel
theorem d_Model_send_4 : decode b_Model_send 4 = .ok (.aload_n 0, 1) := by decide +kernel
theorem d_Model_send_5 : decode b_Model_send 5 = .ok (.getfield 127, 3) := by decide +kernel
theorem d_Model_send_8 : decode b_Model_send 8 = .ok (.iload_n 1, 1) := by decide +kernel
theorem d_Model_send_9 : decode b_Model_send 9 = .ok (.iastore, 1) := by decide +kernel
theorem d_Model_send_10 : decode b_Model_send 10 = .ok (.aload_n 0, 1) := by decide +kernel
theorem d_Model_send_11 : decode b_Model_send 11 = .ok (.getfield 99, 3) := by decide +kernel
theorem d_Model_send_14 : decode b_Model_send 14 = .ok (.aload_n 0, 1) := by decide +kernel
theorem d_Model_send_15 : decode b_Model_send 15 = .ok (.getfield 127, 3) := by decide +kernel
theorem d_Model_send_18 : decode b_Model_send 18 = .ok (.iload_n 2, 1) := by decide +kernel
theorem d_Model_send_19 : decode b_Model_send 19 = .ok (.iastore, 1) := by decide +kernel
theorem d_Model_send_20 : decode b_Model_send 20 = .ok (.aload_n 0, 1) := by decide +kernel
theorem d_Model_send_21 : decode b_Model_send 21 = .ok (.getfield 102, 3) := by decide +kernel
theorem d_Model_send_24 : decode b_Model_send 24 = .ok (.aload_n 0, 1) := by decide +kernel
theorem d_Model_send_25 : decode b_Model_send 25 = .ok (.getfield 127, 3) := by decide +kernel
theorem d_Model_send_28 : decode b_Model_send 28 = .ok (.iload_n 3, 1) := by decide +kernel
theorem d_Model_send_29 : decode b_Model_send 29 = .ok (.iastore, 1) := by decide +kernel
theorem d_Model_send_30 : decode b_Model_send 30 = .ok (.aload_n 0, 1) := by decide +kernel
theorem d_Model_send_31 : decode b_Model_send 31 = .ok (.getfield 105, 3) := by decide +kernel
theorem d_Model_send_34 : decode b_Model_send 34 = .ok (.aload_n 0, 1) := by decide +kernel
theorem d_Model_send_35 : decode b_Model_send 35 = .ok (.getfield 127, 3) := by decide +kernel
theorem d_Model_send_38 : decode b_Model_send 38 = .ok (.iload 4, 2) := by decide +kernel
theorem d_Model_send_40 : decode b_Model_send 40 = .ok (.bastore, 1) := by decide +kernel
theorem d_Model_send_41 : decode b_Model_send 41 = .ok (.aload_n 0, 1) := by decide +kernel
theorem d_Model_send_42 : decode b_Model_send 42 = .ok (.getfield 108, 3) := by decide +kernel
theorem d_Model_send_45 : decode b_Model_send 45 = .ok (.aload_n 0, 1) := by decide +kernel
theorem d_Model_send_46 : decode b_Model_send 46 = .ok (.getfield 127, 3) := by decide +kernel
theorem d_Model_send_49 : decode b_Model_send 49 = .ok (.iload 5, 2) := by decide +kernel
theorem d_Model_send_51 : decode b_Model_send 51 = .ok (.iastore, 1) := by decide +kernel
theorem d_Model_send_52 : decode b_Model_send 52 = .ok (.aload_n 0, 1) := by decide +kernel
theorem d_Model_send_53 : decode b_Model_send 53 = .ok (.getfield 111, 3) := by decide +kernel
theorem d_Model_send_56 : decode b_Model_send 56 = .ok (.aload_n 0, 1) := by decide +kernel
theorem d_Model_send_57 : decode b_Model_send 57 = .ok (.getfield 127, 3) := by decide +kernel
theorem d_Model_send_60 : decode b_Model_send 60 = .ok (.lload 6, 2) := by decide +kernel
theorem d_Model_send_62 : decode b_Model_send 62 = .ok (.lastore, 1) := by decide +kernel
theorem d_Model_send_63 : decode b_Model_send 63 = .ok (.aload_n 0, 1) := by decide +kernel
theorem d_Model_send_64 : decode b_Model_send 64 = .ok (.getfield 114, 3) := by decide +kernel
theorem d_Model_send_67 : decode b_Model_send 67 = .ok (.aload_n 0, 1) := by decide +kernel
theorem d_Model_send_68 : decode b_Model_send 68 = .ok (.getfield 127, 3) := by decide +kernel
theorem d_Model_send_71 : decode b_Model_send 71 = .ok (.lload 8, 2) := by decide +kernel
theorem d_Model_send_73 : decode b_Model_send 73 = .ok (.lastore, 1) := by decide +kernel
theorem d_Model_send_74 : decode b_Model_send 74 = .ok (.aload_n 0, 1) := by decide +kernel
theorem d_Model_send_75 : decode b_Model_send 75 = .ok (.dup, 1) := by decide +kernel
theorem d_Model_send_76 : decode b_Model_send 76 = .ok (.getfield 127, 3) := by decide +kernel
theorem d_Model_send_79 : decode b_Model_send 79 = .ok (.iconst 1, 1) := by decide +kernel
theorem d_Model_send_80 : decode b_Model_send 80 = .ok (.iadd, 1) := by decide +kernel
theorem d_Model_send_81 : decode b_Model_send 81 = .ok (.putfield 127, 3) := by decide +kernel
theorem d_Model_send_84 : decode b_Model_send 84 = .ok (.return_, 1) := by decide +kernel
theorem d_Model_remove_0 : decode b_Model_remove 0 = .ok (.aload_n 0, 1) := by decide +kernel
theorem d_Model_remove_1 : decode b_Model_remove 1 = .ok (.dup, 1) := by decide +kernel
theorem d_Model_remove_2 : decode b_Model_remove 2 = .ok (.getfield 127, 3) := by decide +kernel
theorem d_Model_remove_5 : decode b_Model_remove 5 = .ok (.iconst 1, 1) := by decide +kernel
theorem d_Model_remove_6 : decode b_Model_remove 6 = .ok (.isub, 1) := by decide +kernel
theorem d_Model_remove_7 : decode b_Model_remove 7 = .ok (.putfield 127, 3) := by decide +kernel
theorem d_Model_remove_10 : decode b_Model_remove 10 = .ok (.iload_n 1, 1) := by decide +kernel
theorem d_Model_remove_11 : decode b_Model_remove 11 = .ok (.istore_n 2, 1) := by decide +kernel
theorem d_Model_remove_12 : decode b_Model_remove 12 = .ok (.iload_n 2, 1) := by decide +kernel
theorem d_Model_remove_13 : decode b_Model_remove 13 = .ok (.aload_n 0, 1) := by decide +kernel
theorem d_Model_remove_14 : decode b_Model_remove 14 = .ok (.getfield 127, 3) := by decide +kernel
theorem d_Model_remove_17 : decode b_Model_remove 17 = .ok (.if_icmp .ge 107, 3) := by decide +kernel
theorem d_Model_remove_20 : decode b_Model_remove 20 = .ok (.aload_n 0, 1) := by decide +kernel
theorem d_Model_remove_21 : decode b_Model_remove 21 = .ok (.getfield 96, 3) := by decide +kernel
theorem d_Model_remove_24 : decode b_Model_remove 24 = .ok (.iload_n 2, 1) := by decide +kernel
theorem d_Model_remove_25 : decode b_Model_remove 25 = .ok (.aload_n 0, 1) := by decide +kernel
theorem d_Model_remove_26 : decode b_Model_remove 26 = .ok (.getfield 96, 3) := by decide +kernel
theorem d_Model_remove_29 : decode b_Model_remove 29 = .ok (.iload_n 2, 1) := by decide +kernel
theorem d_Model_remove_30 : decode b_Model_remove 30 = .ok (.iconst 1, 1) := by decide +kernel
theorem d_Model_remove_31 : decode b_Model_remove 31 = .ok (.iadd, 1) := by decide +kernel
theorem d_Model_remove_32 : decode b_Model_remove 32 = .ok (.iaload, 1) := by decide +kernel
theorem d_Model_remove_33 : decode b_Model_remove 33 = .ok (.iastore, 1) := by decide +kernel
theorem d_Model_remove_34 : decode b_Model_remove 34 = .ok (.aload_n 0, 1) := by decide +kernel
theorem d_Model_remove_35 : decode b_Model_remove 35 = .ok (.getfield 99, 3) := by decide +kernel
theorem d_Model_remove_38 : decode b_Model_remove 38 = .ok (.iload_n 2, 1) := by decide +kernel
theorem d_Model_remove_39 : decode b_Model_remove 39 = .ok (.aload_n 0, 1) := by decide +kernel
theorem d_Model_remove_40 : decode b_Model_remove 40 = .ok (.getfield 99, 3) := by decide +kernel
theorem d_Model_remove_43 : decode b_Model_remove 43 = .ok (.iload_n 2, 1) := by decide +kernel
theorem d_Model_remove_44 : decode b_Model_remove 44 = .ok (.iconst 1, 1) := by decide +kernel
theorem d_Model_remove_45 : decode b_Model_remove 45 = .ok (.iadd, 1) := by decide +kernel
theorem d_Model_remove_46 : decode b_Model_remove 46 = .ok (.iaload, 1) := by decide +kernel
theorem d_Model_remove_47 : decode b_Model_remove 47 = .ok (.iastore, 1) := by decide +kernel
theorem d_Model_remove_48 : decode b_Model_remove 48 = .ok (.aload_n 0, 1) := by decide +kernel
theorem d_Model_remove_49 : decode b_Model_remove 49 = .ok (.getfield 102, 3) := by decide +kernel
theorem d_Model_remove_52 : decode b_Model_remove 52 = .ok (.iload_n 2, 1) := by decide +kernel
theorem d_Model_remove_53 : decode b_Model_remove 53 = .ok (.aload_n 0, 1) := by decide +kernel
theorem d_Model_remove_54 : decode b_Model_remove 54 = .ok (.getfield 102, 3) := by decide +kernel
theorem d_Model_remove_57 : decode b_Model_remove 57 = .ok (.iload_n 2, 1) := by decide +kernel
theorem d_Model_remove_58 : decode b_Model_remove 58 = .ok (.iconst 1, 1) := by decide +kernel
theorem d_Model_remove_59 : decode b_Model_remove 59 = .ok (.iadd, 1) := by decide +kernel
theorem d_Model_remove_60 : decode b_Model_remove 60 = .ok (.iaload, 1) := by decide +kernel
theorem d_Model_remove_61 : decode b_Model_remove 61 = .ok (.iastore, 1) := by decide +kernel
theorem d_Model_remove_62 : decode b_Model_remove 62 = .ok (.aload_n 0, 1) := by decide +kernel
theorem d_Model_remove_63 : decode b_Model_remove 63 = .ok (.getfield 105, 3) := by decide +kernel
theorem d_Model_remove_66 : decode b_Model_remove 66 = .ok (.iload_n 2, 1) := by decide +kernel
theorem d_Model_remove_67 : decode b_Model_remove 67 = .ok (.aload_n 0, 1) := by decide +kernel
theorem d_Model_remove_68 : decode b_Model_remove 68 = .ok (.getfield 105, 3) := by decide +kernel
theorem d_Model_remove_71 : decode b_Model_remove 71 = .ok (.iload_n 2, 1) := by decide +kernel
theorem d_Model_remove_72 : decode b_Model_remove 72 = .ok (.iconst 1, 1) := by decide +kernel
theorem d_Model_remove_73 : decode b_Model_remove 73 = .ok (.iadd, 1) := by decide +kernel
theorem d_Model_remove_74 : decode b_Model_remove 74 = .ok (.baload, 1) := by decide +kernel
theorem d_Model_remove_75 : decode b_Model_remove 75 = .ok (.bastore, 1) := by decide +kernel
theorem d_Model_remove_76 : decode b_Model_remove 76 = .ok (.aload_n 0, 1) := by decide +kernel
theorem d_Model_remove_77 : decode b_Model_remove 77 = .ok (.getfield 108, 3) := by decide +kernel
theorem d_Model_remove_80 : decode b_Model_remove 80 = .ok (.iload_n 2, 1) := by decide +kernel
theorem d_Model_remove_81 : decode b_Model_remove 81 = .ok (.aload_n 0, 1) := by decide +kernel
theorem d_Model_remove_82 : decode b_Model_remove 82 = .ok (.getfield 108, 3) := by decide +kernel
theorem d_Model_remove_85 : decode b_Model_remove 85 = .ok (.iload_n 2, 1) := by decide +kernel
theorem d_Model_remove_86 : decode b_Model_remove 86 = .ok (.iconst 1, 1) := by decide +kernel
theorem d_Model_remove_87 : decode b_Model_remove 87 = .ok (.iadd, 1) := by decide +kernel
theorem d_Model_remove_88 : decode b_Model_remove 88 = .ok (.iaload, 1) := by decide +kernel
theorem d_Model_remove_89 : decode b_Model_remove 89 = .ok (.iastore, 1) := by decide +kernel
theorem d_Model_remove_90 : decode b_Model_remove 90 = .ok (.aload_n 0, 1) := by decide +kernel
theorem d_Model_remove_91 : decode b_Model_remove 91 = .ok (.getfield 111, 3) := by decide +kernel
theorem d_Model_remove_94 : decode b_Model_remove 94 = .ok (.iload_n 2, 1) := by decide +kernel
theorem d_Model_remove_95 : decode b_Model_remove 95 = .ok (.aload_n 0, 1) := by decide +kernel
theorem d_Model_remove_96 : decode b_Model_remove 96 = .ok (.getfield 111, 3) := by decide +kernel
theorem d_Model_remove_99 : decode b_Model_remove 99 = .ok (.iload_n 2, 1) := by decide +kernel
theorem d_Model_remove_100 : decode b_Model_remove 100 = .ok (.iconst 1, 1) := by decide +kernel
theorem d_Model_remove_101 : decode b_Model_remove 101 = .ok (.iadd, 1) := by decide +kernel
theorem d_Model_remove_102 : decode b_Model_remove 102 = .ok (.laload, 1) := by decide +kernel
theorem d_Model_remove_103 : decode b_Model_remove 103 = .ok (.lastore, 1) := by decide +kernel
theorem d_Model_remove_104 : decode b_Model_remove 104 = .ok (.aload_n 0, 1) := by decide +kernel
theorem d_Model_remove_105 : decode b_Model_remove 105 = .ok (.getfield 114, 3) := by decide +kernel
theorem d_Model_remove_108 : decode b_Model_remove 108 = .ok (.iload_n 2, 1) := by decide +kernel
theorem d_Model_remove_109 : decode b_Model_remove 109 = .ok (.aload_n 0, 1) := by decide +kernel
theorem d_Model_remove_110 : decode b_Model_remove 110 = .ok (.getfield 114, 3) := by decide +kernel
theorem d_Model_remove_113 : decode b_Model_remove 113 = .ok (.iload_n 2, 1) := by decide +kernel
theorem d_Model_remove_114 : decode b_Model_remove 114 = .ok (.iconst 1, 1) := by decide +kernel
theorem d_Model_remove_115 : decode b_Model_remove 115 = .ok (.iadd, 1) := by decide +kernel
theorem d_Model_remove_116 : decode b_Model_remove 116 = .ok (.laload, 1) := by decide +kernel
theorem d_Model_remove_117 : decode b_Model_remove 117 = .ok (.lastore, 1) := by decide +kernel
theorem d_Model_remove_118 : decode b_Model_remove 118 = .ok (.iinc 2 1, 3) := by decide +kernel
theorem d_Model_remove_121 : decode b_Model_remove 121 = .ok (.goto (-109), 3) := by decide +kernel
theorem d_Model_remove_124 : decode b_Model_remove 124 = .ok (.return_, 1) := by decide +kernel
theorem d_Model_forget_0 : decode b_Model_forget 0 = .ok (.iconst 0, 1) := by decide +kernel
theorem d_Model_forget_1 : decode b_Model_forget 1 = .ok (.istore_n 2, 1) := by decide +kernel
theorem d_Model_forget_2 : decode b_Model_forget 2 = .ok (.iload_n 2, 1) := by decide +kernel
theorem d_Model_forget_3 : decode b_Model_forget 3 = .ok (.aload_n 0, 1) := by decide +kernel
theorem d_Model_forget_4 : decode b_Model_forget 4 = .ok (.getfield 127, 3) := by decide +kernel
theorem d_Model_forget_7 : decode b_Model_forget 7 = .ok (.if_icmp .ge 48, 3) := by decide +kernel
theorem d_Model_forget_10 : decode b_Model_forget 10 = .ok (.aload_n 0, 1) := by decide +kernel
theorem d_Model_forget_11 : decode b_Model_forget 11 = .ok (.getfield 99, 3) := by decide +kernel
theorem d_Model_forget_14 : decode b_Model_forget 14 = .ok (.iload_n 2, 1) := by decide +kernel
theorem d_Model_forget_15 : decode b_Model_forget 15 = .ok (.iaload, 1) := by decide +kernel
theorem d_Model_forget_16 : decode b_Model_forget 16 = .ok (.iload_n 1, 1) := by decide +kernel
theorem d_Model_forget_17 : decode b_Model_forget 17 = .ok (.if_icmp .ne 32, 3) := by decide +kernel
theorem d_Model_forget_20 : decode b_Model_forget 20 = .ok (.aload_n 0, 1) := by decide +kernel
theorem d_Model_forget_21 : decode b_Model_forget 21 = .ok (.getfield 96, 3) := by decide +kernel
theorem d_Model_forget_24 : decode b_Model_forget 24 = .ok (.iload_n 2, 1) := by decide +kernel
theorem d_Model_forget_25 : decode b_Model_forget 25 = .ok (.iaload, 1) := by decide +kernel
theorem d_Model_forget_26 : decode b_Model_forget 26 = .ok (.iconst 5, 1) := by decide +kernel
theorem d_Model_forget_27 : decode b_Model_forget 27 = .ok (.if_icmp .eq 14, 3) := by decide +kernel
theorem d_Model_forget_30 : decode b_Model_forget 30 = .ok (.aload_n 0, 1) := by decide +kernel
theorem d_Model_forget_31 : decode b_Model_forget 31 = .ok (.getfield 96, 3) := by decide +kernel
theorem d_Model_forget_34 : decode b_Model_forget 34 = .ok (.iload_n 2, 1) := by decide +kernel
theorem d_Model_forget_35 : decode b_Model_forget 35 = .ok (.iaload, 1) := by decide +kernel
theorem d_Model_forget_36 : decode b_Model_forget 36 = .ok (.bipush 6, 2) := by decide +kernel
theorem d_Model_forget_38 : decode b_Model_forget 38 = .ok (.if_icmp .ne 11, 3) := by decide +kernel
theorem d_Model_forget_41 : decode b_Model_forget 41 = .ok (.aload_n 0, 1) := by decide +kernel
theorem d_Model_forget_42 : decode b_Model_forget 42 = .ok (.iload_n 2, 1) := by decide +kernel
theorem d_Model_forget_43 : decode b_Model_forget 43 = .ok (.invokevirtual 130, 3) := by decide +kernel
theorem d_Model_forget_46 : decode b_Model_forget 46 = .ok (.goto (-44), 3) := by decide +kernel
theorem d_Model_forget_49 : decode b_Model_forget 49 = .ok (.iinc 2 1, 3) := by decide +kernel
theorem d_Model_forget_52 : decode b_Model_forget 52 = .ok (.goto (-50), 3) := by decide +kernel
theorem d_Model_forget_55 : decode b_Model_forget 55 = .ok (.return_, 1) := by decide +kernel
theorem d_Model_placeOf_0 : decode b_Model_placeOf 0 = .ok (.iconst 4, 1) := by decide +kernel
theorem d_Model_placeOf_1 : decode b_Model_placeOf 1 = .ok (.iload_n 1, 1) := by decide +kernel
theorem d_Model_placeOf_2 : decode b_Model_placeOf 2 = .ok (.imul, 1) := by decide +kernel
theorem d_Model_placeOf_3 : decode b_Model_placeOf 3 = .ok (.iconst 2, 1) := by decide +kernel
theorem d_Model_placeOf_4 : decode b_Model_placeOf 4 = .ok (.iload_n 2, 1) := by decide +kernel
theorem d_Model_placeOf_5 : decode b_Model_placeOf 5 = .ok (.iconst 2, 1) := by decide +kernel
theorem d_Model_placeOf_6 : decode b_Model_placeOf 6 = .ok (.irem, 1) := by decide +kernel
theorem d_Model_placeOf_7 : decode b_Model_placeOf 7 = .ok (.imul, 1) := by decide +kernel
theorem d_Model_placeOf_8 : decode b_Model_placeOf 8 = .ok (.iadd, 1) := by decide +kernel
theorem d_Model_placeOf_9 : decode b_Model_placeOf 9 = .ok (.istore_n 3, 1) := by decide +kernel
theorem d_Model_placeOf_10 : decode b_Model_placeOf 10 = .ok (.aload_n 0, 1) := by decide +kernel
theorem d_Model_placeOf_11 : decode b_Model_placeOf 11 = .ok (.getfield 42, 3) := by decide +kernel
theorem d_Model_placeOf_14 : decode b_Model_placeOf 14 = .ok (.iload_n 3, 1) := by decide +kernel
theorem d_Model_placeOf_15 : decode b_Model_placeOf 15 = .ok (.iaload, 1) := by decide +kernel
theorem d_Model_placeOf_16 : decode b_Model_placeOf 16 = .ok (.iload_n 2, 1) := by decide +kernel
theorem d_Model_placeOf_17 : decode b_Model_placeOf 17 = .ok (.if_icmp .ne 7, 3) := by decide +kernel
theorem d_Model_placeOf_20 : decode b_Model_placeOf 20 = .ok (.iload_n 3, 1) := by decide +kernel
theorem d_Model_placeOf_21 : decode b_Model_placeOf 21 = .ok (.goto 22, 3) := by decide +kernel
theorem d_Model_placeOf_24 : decode b_Model_placeOf 24 = .ok (.aload_n 0, 1) := by decide +kernel
theorem d_Model_placeOf_25 : decode b_Model_placeOf 25 = .ok (.getfield 42, 3) := by decide +kernel
theorem d_Model_placeOf_28 : decode b_Model_placeOf 28 = .ok (.iload_n 3, 1) := by decide +kernel
theorem d_Model_placeOf_29 : decode b_Model_placeOf 29 = .ok (.iconst 1, 1) := by decide +kernel
theorem d_Model_placeOf_30 : decode b_Model_placeOf 30 = .ok (.iadd, 1) := by decide +kernel
theorem d_Model_placeOf_31 : decode b_Model_placeOf 31 = .ok (.iaload, 1) := by decide +kernel
theorem d_Model_placeOf_32 : decode b_Model_placeOf 32 = .ok (.iload_n 2, 1) := by decide +kernel
theorem d_Model_placeOf_33 : decode b_Model_placeOf 33 = .ok (.if_icmp .ne 9, 3) := by decide +kernel
theorem d_Model_placeOf_36 : decode b_Model_placeOf 36 = .ok (.iload_n 3, 1) := by decide +kernel
theorem d_Model_placeOf_37 : decode b_Model_placeOf 37 = .ok (.iconst 1, 1) := by decide +kernel
theorem d_Model_placeOf_38 : decode b_Model_placeOf 38 = .ok (.iadd, 1) := by decide +kernel
theorem d_Model_placeOf_39 : decode b_Model_placeOf 39 = .ok (.goto 4, 3) := by decide +kernel
theorem d_Model_placeOf_42 : decode b_Model_placeOf 42 = .ok (.iconst (-1), 1) := by decide +kernel
theorem d_Model_placeOf_43 : decode b_Model_placeOf 43 = .ok (.ireturn, 1) := by decide +kernel
theorem d_Model_use_0 : decode b_Model_use 0 = .ok (.aload_n 0, 1) := by decide +kernel
theorem d_Model_use_1 : decode b_Model_use 1 = .ok (.getfield 57, 3) := by decide +kernel
theorem d_Model_use_4 : decode b_Model_use 4 = .ok (.iload_n 1, 1) := by decide +kernel
theorem d_Model_use_5 : decode b_Model_use 5 = .ok (.iconst 2, 1) := by decide +kernel
theorem d_Model_use_6 : decode b_Model_use 6 = .ok (.idiv, 1) := by decide +kernel
theorem d_Model_use_7 : decode b_Model_use 7 = .ok (.iload_n 1, 1) := by decide +kernel
theorem d_Model_use_8 : decode b_Model_use 8 = .ok (.iconst 2, 1) := by decide +kernel
theorem d_Model_use_9 : decode b_Model_use 9 = .ok (.irem, 1) := by decide +kernel
theorem d_Model_use_10 : decode b_Model_use 10 = .ok (.iastore, 1) := by decide +kernel
theorem d_Model_use_11 : decode b_Model_use 11 = .ok (.return_, 1) := by decide +kernel
theorem d_Model_room_0 : decode b_Model_room 0 = .ok (.aload_n 0, 1) := by decide +kernel
theorem d_Model_room_1 : decode b_Model_room 1 = .ok (.iload_n 1, 1) := by decide +kernel
theorem d_Model_room_2 : decode b_Model_room 2 = .ok (.iload_n 2, 1) := by decide +kernel
theorem d_Model_room_3 : decode b_Model_room 3 = .ok (.invokevirtual 134, 3) := by decide +kernel
theorem d_Model_room_6 : decode b_Model_room 6 = .ok (.istore_n 3, 1) := by decide +kernel
theorem d_Model_room_7 : decode b_Model_room 7 = .ok (.iload_n 3, 1) := by decide +kernel
theorem d_Model_room_8 : decode b_Model_room 8 = .ok (.ifCond .lt 5, 3) := by decide +kernel
theorem d_Model_room_11 : decode b_Model_room 11 = .ok (.iload_n 3, 1) := by decide +kernel
theorem d_Model_room_12 : decode b_Model_room 12 = .ok (.ireturn, 1) := by decide +kernel
theorem d_Model_room_13 : decode b_Model_room 13 = .ok (.iconst 4, 1) := by decide +kernel
theorem d_Model_room_14 : decode b_Model_room 14 = .ok (.iload_n 1, 1) := by decide +kernel
theorem d_Model_room_15 : decode b_Model_room 15 = .ok (.imul, 1) := by decide +kernel
theorem d_Model_room_16 : decode b_Model_room 16 = .ok (.iconst 2, 1) := by decide +kernel
theorem d_Model_room_17 : decode b_Model_room 17 = .ok (.iload_n 2, 1) := by decide +kernel
theorem d_Model_room_18 : decode b_Model_room 18 = .ok (.iconst 2, 1) := by decide +kernel
theorem d_Model_room_19 : decode b_Model_room 19 = .ok (.irem, 1) := by decide +kernel
theorem d_Model_room_20 : decode b_Model_room 20 = .ok (.imul, 1) := by decide +kernel
theorem d_Model_room_21 : decode b_Model_room 21 = .ok (.iadd, 1) := by decide +kernel
theorem d_Model_room_22 : decode b_Model_room 22 = .ok (.istore 4, 2) := by decide +kernel
theorem d_Model_room_24 : decode b_Model_room 24 = .ok (.aload_n 0, 1) := by decide +kernel
theorem d_Model_room_25 : decode b_Model_room 25 = .ok (.getfield 42, 3) := by decide +kernel
theorem d_Model_room_28 : decode b_Model_room 28 = .ok (.iload 4, 2) := by decide +kernel
theorem d_Model_room_30 : decode b_Model_room 30 = .ok (.iaload, 1) := by decide +kernel
theorem d_Model_room_31 : decode b_Model_room 31 = .ok (.iconst (-1), 1) := by decide +kernel
theorem d_Model_room_32 : decode b_Model_room 32 = .ok (.if_icmp .ne 8, 3) := by decide +kernel
theorem d_Model_room_35 : decode b_Model_room 35 = .ok (.iload 4, 2) := by decide +kernel
theorem d_Model_room_37 : decode b_Model_room 37 = .ok (.goto 37, 3) := by decide +kernel
theorem d_Model_room_40 : decode b_Model_room 40 = .ok (.aload_n 0, 1) := by decide +kernel
theorem d_Model_room_41 : decode b_Model_room 41 = .ok (.getfield 42, 3) := by decide +kernel
theorem d_Model_room_44 : decode b_Model_room 44 = .ok (.iload 4, 2) := by decide +kernel
theorem d_Model_room_46 : decode b_Model_room 46 = .ok (.iconst 1, 1) := by decide +kernel
theorem d_Model_room_47 : decode b_Model_room 47 = .ok (.iadd, 1) := by decide +kernel
theorem d_Model_room_48 : decode b_Model_room 48 = .ok (.iaload, 1) := by decide +kernel
theorem d_Model_room_49 : decode b_Model_room 49 = .ok (.iconst (-1), 1) := by decide +kernel
theorem d_Model_room_50 : decode b_Model_room 50 = .ok (.if_icmp .ne 10, 3) := by decide +kernel
theorem d_Model_room_53 : decode b_Model_room 53 = .ok (.iload 4, 2) := by decide +kernel
theorem d_Model_room_55 : decode b_Model_room 55 = .ok (.iconst 1, 1) := by decide +kernel
theorem d_Model_room_56 : decode b_Model_room 56 = .ok (.iadd, 1) := by decide +kernel
theorem d_Model_room_57 : decode b_Model_room 57 = .ok (.goto 17, 3) := by decide +kernel
theorem d_Model_room_60 : decode b_Model_room 60 = .ok (.iload 4, 2) := by decide +kernel
theorem d_Model_room_62 : decode b_Model_room 62 = .ok (.iconst 1, 1) := by decide +kernel
theorem d_Model_room_63 : decode b_Model_room 63 = .ok (.iadd, 1) := by decide +kernel
theorem d_Model_room_64 : decode b_Model_room 64 = .ok (.aload_n 0, 1) := by decide +kernel
theorem d_Model_room_65 : decode b_Model_room 65 = .ok (.getfield 57, 3) := by decide +kernel
theorem d_Model_room_68 : decode b_Model_room 68 = .ok (.iload 4, 2) := by decide +kernel
theorem d_Model_room_70 : decode b_Model_room 70 = .ok (.iconst 2, 1) := by decide +kernel
theorem d_Model_room_71 : decode b_Model_room 71 = .ok (.idiv, 1) := by decide +kernel
theorem d_Model_room_72 : decode b_Model_room 72 = .ok (.iaload, 1) := by decide +kernel
theorem d_Model_room_73 : decode b_Model_room 73 = .ok (.isub, 1) := by decide +kernel
theorem d_Model_room_74 : decode b_Model_room 74 = .ok (.istore_n 3, 1) := by decide +kernel
theorem d_Model_room_75 : decode b_Model_room 75 = .ok (.aload_n 0, 1) := by decide +kernel
theorem d_Model_room_76 : decode b_Model_room 76 = .ok (.getfield 42, 3) := by decide +kernel
theorem d_Model_room_79 : decode b_Model_room 79 = .ok (.iload_n 3, 1) := by decide +kernel
theorem d_Model_room_80 : decode b_Model_room 80 = .ok (.iaload, 1) := by decide +kernel
theorem d_Model_room_81 : decode b_Model_room 81 = .ok (.ifCond .lt 44, 3) := by decide +kernel
theorem d_Model_room_84 : decode b_Model_room 84 = .ok (.aload_n 0, 1) := by decide +kernel
theorem d_Model_room_85 : decode b_Model_room 85 = .ok (.getfield 45, 3) := by decide +kernel
theorem d_Model_room_88 : decode b_Model_room 88 = .ok (.iload_n 3, 1) := by decide +kernel
theorem d_Model_room_89 : decode b_Model_room 89 = .ok (.baload, 1) := by decide +kernel
theorem d_Model_room_90 : decode b_Model_room 90 = .ok (.ifCond .eq 35, 3) := by decide +kernel
theorem d_Model_room_93 : decode b_Model_room 93 = .ok (.aload_n 0, 1) := by decide +kernel
theorem d_Model_room_94 : decode b_Model_room 94 = .ok (.bipush 7, 2) := by decide +kernel
theorem d_Model_room_96 : decode b_Model_room 96 = .ok (.aload_n 0, 1) := by decide +kernel
theorem d_Model_room_97 : decode b_Model_room 97 = .ok (.getfield 42, 3) := by decide +kernel
theorem d_Model_room_100 : decode b_Model_room 100 = .ok (.iload_n 3, 1) := by decide +kernel
theorem d_Model_room_101 : decode b_Model_room 101 = .ok (.iaload, 1) := by decide +kernel
theorem d_Model_room_102 : decode b_Model_room 102 = .ok (.iload_n 1, 1) := by decide +kernel
theorem d_Model_room_103 : decode b_Model_room 103 = .ok (.iconst 1, 1) := by decide +kernel
theorem d_Model_room_104 : decode b_Model_room 104 = .ok (.aload_n 0, 1) := by decide +kernel
theorem d_Model_room_105 : decode b_Model_room 105 = .ok (.getfield 48, 3) := by decide +kernel
theorem d_Model_room_108 : decode b_Model_room 108 = .ok (.iload_n 3, 1) := by decide +kernel
theorem d_Model_room_109 : decode b_Model_room 109 = .ok (.iaload, 1) := by decide +kernel
theorem d_Model_room_110 : decode b_Model_room 110 = .ok (.aload_n 0, 1) := by decide +kernel
theorem d_Model_room_111 : decode b_Model_room 111 = .ok (.getfield 54, 3) := by decide +kernel
theorem d_Model_room_114 : decode b_Model_room 114 = .ok (.iload_n 3, 1) := by decide +kernel
theorem d_Model_room_115 : decode b_Model_room 115 = .ok (.laload, 1) := by decide +kernel
theorem d_Model_room_116 : decode b_Model_room 116 = .ok (.aload_n 0, 1) := by decide +kernel
theorem d_Model_room_117 : decode b_Model_room 117 = .ok (.getfield 51, 3) := by decide +kernel
theorem d_Model_room_120 : decode b_Model_room 120 = .ok (.iload_n 3, 1) := by decide +kernel
theorem d_Model_room_121 : decode b_Model_room 121 = .ok (.laload, 1) := by decide +kernel
theorem d_Model_room_122 : decode b_Model_room 122 = .ok (.invokevirtual 138, 3) := by decide +kernel
theorem d_Model_room_125 : decode b_Model_room 125 = .ok (.aload_n 0, 1) := by decide +kernel
theorem d_Model_room_126 : decode b_Model_room 126 = .ok (.getfield 42, 3) := by decide +kernel
theorem d_Model_room_129 : decode b_Model_room 129 = .ok (.iload_n 3, 1) := by decide +kernel
theorem d_Model_room_130 : decode b_Model_room 130 = .ok (.iload_n 2, 1) := by decide +kernel
theorem d_Model_room_131 : decode b_Model_room 131 = .ok (.iastore, 1) := by decide +kernel
theorem d_Model_room_132 : decode b_Model_room 132 = .ok (.iload_n 3, 1) := by decide +kernel
theorem d_Model_room_133 : decode b_Model_room 133 = .ok (.ireturn, 1) := by decide +kernel
theorem d_Model_can_0 : decode b_Model_can 0 = .ok (.iload_n 2, 1) := by decide +kernel
theorem d_Model_can_1 : decode b_Model_can 1 = .ok (.ifCond .ge 5, 3) := by decide +kernel
theorem d_Model_can_4 : decode b_Model_can 4 = .ok (.iconst 0, 1) := by decide +kernel
theorem d_Model_can_5 : decode b_Model_can 5 = .ok (.ireturn, 1) := by decide +kernel
theorem d_Model_can_6 : decode b_Model_can 6 = .ok (.aload_n 0, 1) := by decide +kernel
theorem d_Model_can_7 : decode b_Model_can 7 = .ok (.getfield 45, 3) := by decide +kernel
theorem d_Model_can_10 : decode b_Model_can 10 = .ok (.iload_n 2, 1) := by decide +kernel
theorem d_Model_can_11 : decode b_Model_can 11 = .ok (.baload, 1) := by decide +kernel
theorem d_Model_can_12 : decode b_Model_can 12 = .ok (.ifCond .ne 28, 3) := by decide +kernel
theorem d_Model_can_15 : decode b_Model_can 15 = .ok (.aload_n 0, 1) := by decide +kernel
theorem d_Model_can_16 : decode b_Model_can 16 = .ok (.getfield 17, 3) := by decide +kernel
theorem d_Model_can_19 : decode b_Model_can 19 = .ok (.iload_n 1, 1) := by decide +kernel
theorem d_Model_can_20 : decode b_Model_can 20 = .ok (.iaload, 1) := by decide +kernel
theorem d_Model_can_21 : decode b_Model_can 21 = .ok (.ifCond .ne 23, 3) := by decide +kernel
theorem d_Model_can_24 : decode b_Model_can 24 = .ok (.aload_n 0, 1) := by decide +kernel
theorem d_Model_can_25 : decode b_Model_can 25 = .ok (.getfield 7, 3) := by decide +kernel
theorem d_Model_can_28 : decode b_Model_can 28 = .ok (.iload_n 1, 1) := by decide +kernel
theorem d_Model_can_29 : decode b_Model_can 29 = .ok (.laload, 1) := by decide +kernel
theorem d_Model_can_30 : decode b_Model_can 30 = .ok (.aload_n 0, 1) := by decide +kernel
theorem d_Model_can_31 : decode b_Model_can 31 = .ok (.getfield 54, 3) := by decide +kernel
theorem d_Model_can_34 : decode b_Model_can 34 = .ok (.iload_n 2, 1) := by decide +kernel
theorem d_Model_can_35 : decode b_Model_can 35 = .ok (.laload, 1) := by decide +kernel
theorem d_Model_can_36 : decode b_Model_can 36 = .ok (.lcmp, 1) := by decide +kernel
theorem d_Model_can_37 : decode b_Model_can 37 = .ok (.ifCond .gt 7, 3) := by decide +kernel
theorem d_Model_can_40 : decode b_Model_can 40 = .ok (.iconst 1, 1) := by decide +kernel
theorem d_Model_can_41 : decode b_Model_can 41 = .ok (.goto 4, 3) := by decide +kernel
theorem d_Model_can_44 : decode b_Model_can 44 = .ok (.iconst 0, 1) := by decide +kernel
theorem d_Model_can_45 : decode b_Model_can 45 = .ok (.ireturn, 1) := by decide +kernel
theorem d_Model_does_0 : decode b_Model_does 0 = .ok (.aload_n 0, 1) := by decide +kernel
theorem d_Model_does_1 : decode b_Model_does 1 = .ok (.getfield 17, 3) := by decide +kernel
theorem d_Model_does_4 : decode b_Model_does 4 = .ok (.iload_n 1, 1) := by decide +kernel
theorem d_Model_does_5 : decode b_Model_does 5 = .ok (.iaload, 1) := by decide +kernel
theorem d_Model_does_6 : decode b_Model_does 6 = .ok (.iconst 1, 1) := by decide +kernel
theorem d_Model_does_7 : decode b_Model_does 7 = .ok (.if_icmp .eq 28, 3) := by decide +kernel
theorem d_Model_does_10 : decode b_Model_does 10 = .ok (.aload_n 0, 1) := by decide +kernel
theorem d_Model_does_11 : decode b_Model_does 11 = .ok (.getfield 17, 3) := by decide +kernel
theorem d_Model_does_14 : decode b_Model_does 14 = .ok (.iload_n 1, 1) := by decide +kernel
theorem d_Model_does_15 : decode b_Model_does 15 = .ok (.iaload, 1) := by decide +kernel
theorem d_Model_does_16 : decode b_Model_does 16 = .ok (.iconst 1, 1) := by decide +kernel
theorem d_Model_does_17 : decode b_Model_does 17 = .ok (.if_icmp .le 22, 3) := by decide +kernel
theorem d_Model_does_20 : decode b_Model_does 20 = .ok (.aload_n 0, 1) := by decide +kernel
theorem d_Model_does_21 : decode b_Model_does 21 = .ok (.getfield 48, 3) := by decide +kernel
theorem d_Model_does_24 : decode b_Model_does 24 = .ok (.iload_n 2, 1) := by decide +kernel
theorem d_Model_does_25 : decode b_Model_does 25 = .ok (.iaload, 1) := by decide +kernel
theorem d_Model_does_26 : decode b_Model_does 26 = .ok (.aload_n 0, 1) := by decide +kernel
theorem d_Model_does_27 : decode b_Model_does 27 = .ok (.getfield 27, 3) := by decide +kernel
theorem d_Model_does_30 : decode b_Model_does 30 = .ok (.iload_n 1, 1) := by decide +kernel
theorem d_Model_does_31 : decode b_Model_does 31 = .ok (.iaload, 1) := by decide +kernel
theorem d_Model_does_32 : decode b_Model_does 32 = .ok (.if_icmp .ne 7, 3) := by decide +kernel
theorem d_Model_does_35 : decode b_Model_does 35 = .ok (.iconst 1, 1) := by decide +kernel
theorem d_Model_does_36 : decode b_Model_does 36 = .ok (.goto 4, 3) := by decide +kernel
theorem d_Model_does_39 : decode b_Model_does 39 = .ok (.iconst 0, 1) := by decide +kernel
theorem d_Model_does_40 : decode b_Model_does 40 = .ok (.istore_n 3, 1) := by decide +kernel
theorem d_Model_does_41 : decode b_Model_does 41 = .ok (.aload_n 0, 1) := by decide +kernel
theorem d_Model_does_42 : decode b_Model_does 42 = .ok (.getfield 36, 3) := by decide +kernel
theorem d_Model_does_45 : decode b_Model_does 45 = .ok (.iload_n 1, 1) := by decide +kernel
theorem d_Model_does_46 : decode b_Model_does 46 = .ok (.aload_n 0, 1) := by decide +kernel
theorem d_Model_does_47 : decode b_Model_does 47 = .ok (.getfield 17, 3) := by decide +kernel
theorem d_Model_does_50 : decode b_Model_does 50 = .ok (.iload_n 1, 1) := by decide +kernel
theorem d_Model_does_51 : decode b_Model_does 51 = .ok (.iaload, 1) := by decide +kernel
theorem d_Model_does_52 : decode b_Model_does 52 = .ok (.iconst 1, 1) := by decide +kernel
theorem d_Model_does_53 : decode b_Model_does 53 = .ok (.if_icmp .ne 7, 3) := by decide +kernel
theorem d_Model_does_56 : decode b_Model_does 56 = .ok (.iconst 0, 1) := by decide +kernel
theorem d_Model_does_57 : decode b_Model_does 57 = .ok (.goto 9, 3) := by decide +kernel
theorem d_Model_does_60 : decode b_Model_does 60 = .ok (.aload_n 0, 1) := by decide +kernel
theorem d_Model_does_61 : decode b_Model_does 61 = .ok (.getfield 48, 3) := by decide +kernel
theorem d_Model_does_64 : decode b_Model_does 64 = .ok (.iload_n 2, 1) := by decide +kernel
theorem d_Model_does_65 : decode b_Model_does 65 = .ok (.iaload, 1) := by decide +kernel
theorem d_Model_does_66 : decode b_Model_does 66 = .ok (.iastore, 1) := by decide +kernel
theorem d_Model_does_67 : decode b_Model_does 67 = .ok (.iload_n 3, 1) := by decide +kernel
theorem d_Model_does_68 : decode b_Model_does 68 = .ok (.ifCond .eq 65, 3) := by decide +kernel
theorem d_Model_does_71 : decode b_Model_does 71 = .ok (.aload_n 0, 1) := by decide +kernel
theorem d_Model_does_72 : decode b_Model_does 72 = .ok (.getfield 7, 3) := by decide +kernel
theorem d_Model_does_75 : decode b_Model_does 75 = .ok (.iload_n 1, 1) := by decide +kernel
theorem d_Model_does_76 : decode b_Model_does 76 = .ok (.aload_n 0, 1) := by decide +kernel
theorem d_Model_does_77 : decode b_Model_does 77 = .ok (.getfield 7, 3) := by decide +kernel
theorem d_Model_does_80 : decode b_Model_does 80 = .ok (.iload_n 1, 1) := by decide +kernel
theorem d_Model_does_81 : decode b_Model_does 81 = .ok (.laload, 1) := by decide +kernel
theorem d_Model_does_82 : decode b_Model_does 82 = .ok (.aload_n 0, 1) := by decide +kernel
theorem d_Model_does_83 : decode b_Model_does 83 = .ok (.getfield 54, 3) := by decide +kernel
theorem d_Model_does_86 : decode b_Model_does 86 = .ok (.iload_n 2, 1) := by decide +kernel
theorem d_Model_does_87 : decode b_Model_does 87 = .ok (.laload, 1) := by decide +kernel
theorem d_Model_does_88 : decode b_Model_does 88 = .ok (.lconst 1, 1) := by decide +kernel
theorem d_Model_does_89 : decode b_Model_does 89 = .ok (.ladd, 1) := by decide +kernel
theorem d_Model_does_90 : decode b_Model_does 90 = .ok (.invokestatic 142, 3) := by decide +kernel
theorem d_Model_does_93 : decode b_Model_does 93 = .ok (.lastore, 1) := by decide +kernel
theorem d_Model_does_94 : decode b_Model_does 94 = .ok (.aload_n 0, 1) := by decide +kernel
theorem d_Model_does_95 : decode b_Model_does 95 = .ok (.getfield 51, 3) := by decide +kernel
theorem d_Model_does_98 : decode b_Model_does 98 = .ok (.iload_n 2, 1) := by decide +kernel
theorem d_Model_does_99 : decode b_Model_does 99 = .ok (.aload_n 0, 1) := by decide +kernel
theorem d_Model_does_100 : decode b_Model_does 100 = .ok (.getfield 7, 3) := by decide +kernel
theorem d_Model_does_103 : decode b_Model_does 103 = .ok (.iload_n 1, 1) := by decide +kernel
theorem d_Model_does_104 : decode b_Model_does 104 = .ok (.laload, 1) := by decide +kernel
theorem d_Model_does_105 : decode b_Model_does 105 = .ok (.lastore, 1) := by decide +kernel
theorem d_Model_does_106 : decode b_Model_does 106 = .ok (.aload_n 0, 1) := by decide +kernel
theorem d_Model_does_107 : decode b_Model_does 107 = .ok (.getfield 54, 3) := by decide +kernel
theorem d_Model_does_110 : decode b_Model_does 110 = .ok (.iload_n 2, 1) := by decide +kernel
theorem d_Model_does_111 : decode b_Model_does 111 = .ok (.aload_n 0, 1) := by decide +kernel
theorem d_Model_does_112 : decode b_Model_does 112 = .ok (.getfield 7, 3) := by decide +kernel
theorem d_Model_does_115 : decode b_Model_does 115 = .ok (.iload_n 1, 1) := by decide +kernel
theorem d_Model_does_116 : decode b_Model_does 116 = .ok (.laload, 1) := by decide +kernel
theorem d_Model_does_117 : decode b_Model_does 117 = .ok (.lastore, 1) := by decide +kernel
theorem d_Model_does_118 : decode b_Model_does 118 = .ok (.aload_n 0, 1) := by decide +kernel
theorem d_Model_does_119 : decode b_Model_does 119 = .ok (.getfield 48, 3) := by decide +kernel
theorem d_Model_does_122 : decode b_Model_does 122 = .ok (.iload_n 2, 1) := by decide +kernel
theorem d_Model_does_123 : decode b_Model_does 123 = .ok (.aload_n 0, 1) := by decide +kernel
theorem d_Model_does_124 : decode b_Model_does 124 = .ok (.getfield 24, 3) := by decide +kernel
theorem d_Model_does_127 : decode b_Model_does 127 = .ok (.iload_n 1, 1) := by decide +kernel
theorem d_Model_does_128 : decode b_Model_does 128 = .ok (.iaload, 1) := by decide +kernel
theorem d_Model_does_129 : decode b_Model_does 129 = .ok (.iastore, 1) := by decide +kernel
theorem d_Model_does_130 : decode b_Model_does 130 = .ok (.goto 54, 3) := by decide +kernel
theorem d_Model_does_133 : decode b_Model_does 133 = .ok (.aload_n 0, 1) := by decide +kernel
theorem d_Model_does_134 : decode b_Model_does 134 = .ok (.getfield 7, 3) := by decide +kernel
theorem d_Model_does_137 : decode b_Model_does 137 = .ok (.iload_n 1, 1) := by decide +kernel
theorem d_Model_does_138 : decode b_Model_does 138 = .ok (.aload_n 0, 1) := by decide +kernel
theorem d_Model_does_139 : decode b_Model_does 139 = .ok (.getfield 7, 3) := by decide +kernel
theorem d_Model_does_142 : decode b_Model_does 142 = .ok (.iload_n 1, 1) := by decide +kernel
theorem d_Model_does_143 : decode b_Model_does 143 = .ok (.laload, 1) := by decide +kernel
theorem d_Model_does_144 : decode b_Model_does 144 = .ok (.aload_n 0, 1) := by decide +kernel
theorem d_Model_does_145 : decode b_Model_does 145 = .ok (.getfield 51, 3) := by decide +kernel
theorem d_Model_does_148 : decode b_Model_does 148 = .ok (.iload_n 2, 1) := by decide +kernel
theorem d_Model_does_149 : decode b_Model_does 149 = .ok (.laload, 1) := by decide +kernel
theorem d_Model_does_150 : decode b_Model_does 150 = .ok (.invokestatic 142, 3) := by decide +kernel
theorem d_Model_does_153 : decode b_Model_does 153 = .ok (.lastore, 1) := by decide +kernel
theorem d_Model_does_154 : decode b_Model_does 154 = .ok (.aload_n 0, 1) := by decide +kernel
theorem d_Model_does_155 : decode b_Model_does 155 = .ok (.getfield 45, 3) := by decide +kernel
theorem d_Model_does_158 : decode b_Model_does 158 = .ok (.iload_n 2, 1) := by decide +kernel
theorem d_Model_does_159 : decode b_Model_does 159 = .ok (.baload, 1) := by decide +kernel
theorem d_Model_does_160 : decode b_Model_does 160 = .ok (.ifCond .eq 24, 3) := by decide +kernel
theorem d_Model_does_163 : decode b_Model_does 163 = .ok (.aload_n 0, 1) := by decide +kernel
theorem d_Model_does_164 : decode b_Model_does 164 = .ok (.getfield 54, 3) := by decide +kernel
theorem d_Model_does_167 : decode b_Model_does 167 = .ok (.iload_n 2, 1) := by decide +kernel
theorem d_Model_does_168 : decode b_Model_does 168 = .ok (.aload_n 0, 1) := by decide +kernel
theorem d_Model_does_169 : decode b_Model_does 169 = .ok (.getfield 54, 3) := by decide +kernel
theorem d_Model_does_172 : decode b_Model_does 172 = .ok (.iload_n 2, 1) := by decide +kernel
theorem d_Model_does_173 : decode b_Model_does 173 = .ok (.laload, 1) := by decide +kernel
theorem d_Model_does_174 : decode b_Model_does 174 = .ok (.aload_n 0, 1) := by decide +kernel
theorem d_Model_does_175 : decode b_Model_does 175 = .ok (.getfield 7, 3) := by decide +kernel
theorem d_Model_does_178 : decode b_Model_does 178 = .ok (.iload_n 1, 1) := by decide +kernel
theorem d_Model_does_179 : decode b_Model_does 179 = .ok (.laload, 1) := by decide +kernel
theorem d_Model_does_180 : decode b_Model_does 180 = .ok (.invokestatic 142, 3) := by decide +kernel
theorem d_Model_does_183 : decode b_Model_does 183 = .ok (.lastore, 1) := by decide +kernel
theorem d_Model_does_184 : decode b_Model_does 184 = .ok (.aload_n 0, 1) := by decide +kernel
theorem d_Model_does_185 : decode b_Model_does 185 = .ok (.iload_n 2, 1) := by decide +kernel
theorem d_Model_does_186 : decode b_Model_does 186 = .ok (.invokevirtual 146, 3) := by decide +kernel
theorem d_Model_does_189 : decode b_Model_does 189 = .ok (.aload_n 0, 1) := by decide +kernel
theorem d_Model_does_190 : decode b_Model_does 190 = .ok (.getfield 13, 3) := by decide +kernel
theorem d_Model_does_193 : decode b_Model_does 193 = .ok (.iload_n 1, 1) := by decide +kernel
theorem d_Model_does_194 : decode b_Model_does 194 = .ok (.iconst 0, 1) := by decide +kernel
theorem d_Model_does_195 : decode b_Model_does 195 = .ok (.bastore, 1) := by decide +kernel
theorem d_Model_does_196 : decode b_Model_does 196 = .ok (.aload_n 0, 1) := by decide +kernel
theorem d_Model_does_197 : decode b_Model_does 197 = .ok (.getfield 33, 3) := by decide +kernel
theorem d_Model_does_200 : decode b_Model_does 200 = .ok (.iload_n 1, 1) := by decide +kernel
theorem d_Model_does_201 : decode b_Model_does 201 = .ok (.dup2, 1) := by decide +kernel
theorem d_Model_does_202 : decode b_Model_does 202 = .ok (.iaload, 1) := by decide +kernel
theorem d_Model_does_203 : decode b_Model_does 203 = .ok (.iconst 1, 1) := by decide +kernel
theorem d_Model_does_204 : decode b_Model_does 204 = .ok (.iadd, 1) := by decide +kernel
theorem d_Model_does_205 : decode b_Model_does 205 = .ok (.iastore, 1) := by decide +kernel
theorem d_Model_does_206 : decode b_Model_does 206 = .ok (.aload_n 0, 1) := by decide +kernel
theorem d_Model_does_207 : decode b_Model_does 207 = .ok (.getfield 39, 3) := by decide +kernel
theorem d_Model_does_210 : decode b_Model_does 210 = .ok (.iload_n 1, 1) := by decide +kernel
theorem d_Model_does_211 : decode b_Model_does 211 = .ok (.aload_n 0, 1) := by decide +kernel
theorem d_Model_does_212 : decode b_Model_does 212 = .ok (.getfield 17, 3) := by decide +kernel
theorem d_Model_does_215 : decode b_Model_does 215 = .ok (.iload_n 1, 1) := by decide +kernel
theorem d_Model_does_216 : decode b_Model_does 216 = .ok (.iaload, 1) := by decide +kernel
theorem d_Model_does_217 : decode b_Model_does 217 = .ok (.iastore, 1) := by decide +kernel
theorem d_Model_does_218 : decode b_Model_does 218 = .ok (.return_, 1) := by decide +kernel
theorem d_Model_operate_0 : decode b_Model_operate 0 = .ok (.aload_n 0, 1) := by decide +kernel
theorem d_Model_operate_1 : decode b_Model_operate 1 = .ok (.iconst 0, 1) := by decide +kernel
theorem d_Model_operate_2 : decode b_Model_operate 2 = .ok (.putfield 124, 3) := by decide +kernel
theorem d_Model_operate_5 : decode b_Model_operate 5 = .ok (.iload_n 1, 1) := by decide +kernel
theorem d_Model_operate_6 : decode b_Model_operate 6 = .ok (.iconst 0, 1) := by decide +kernel
theorem d_Model_operate_7 : decode b_Model_operate 7 = .ok (.iconst 2, 1) := by decide +kernel
theorem d_Model_operate_8 : decode b_Model_operate 8 = .ok (.invokestatic 149, 3) := by decide +kernel
theorem d_Model_operate_11 : decode b_Model_operate 11 = .ok (.ifCond .eq 22, 3) := by decide +kernel
theorem d_Model_operate_14 : decode b_Model_operate 14 = .ok (.iload_n 2, 1) := by decide +kernel
theorem d_Model_operate_15 : decode b_Model_operate 15 = .ok (.iconst 0, 1) := by decide +kernel
theorem d_Model_operate_16 : decode b_Model_operate 16 = .ok (.iconst 2, 1) := by decide +kernel
theorem d_Model_operate_17 : decode b_Model_operate 17 = .ok (.invokestatic 149, 3) := by decide +kernel
theorem d_Model_operate_20 : decode b_Model_operate 20 = .ok (.ifCond .eq 13, 3) := by decide +kernel
theorem d_Model_operate_23 : decode b_Model_operate 23 = .ok (.iload_n 3, 1) := by decide +kernel
theorem d_Model_operate_24 : decode b_Model_operate 24 = .ok (.iconst 0, 1) := by decide +kernel
theorem d_Model_operate_25 : decode b_Model_operate 25 = .ok (.bipush 11, 2) := by decide +kernel
theorem d_Model_operate_27 : decode b_Model_operate 27 = .ok (.invokestatic 149, 3) := by decide +kernel
theorem d_Model_operate_30 : decode b_Model_operate 30 = .ok (.ifCond .ne 17, 3) := by decide +kernel
theorem d_Model_operate_33 : decode b_Model_operate 33 = .ok (.aload_n 0, 1) := by decide +kernel
theorem d_Model_operate_34 : decode b_Model_operate 34 = .ok (.iconst 1, 1) := by decide +kernel
theorem d_Model_operate_35 : decode b_Model_operate 35 = .ok (.invokevirtual 153, 3) := by decide +kernel
theorem d_Model_operate_38 : decode b_Model_operate 38 = .ok (.ifCond .le 7, 3) := by decide +kernel
theorem d_Model_operate_41 : decode b_Model_operate 41 = .ok (.iconst 1, 1) := by decide +kernel
theorem d_Model_operate_42 : decode b_Model_operate 42 = .ok (.goto 4, 3) := by decide +kernel
theorem d_Model_operate_45 : decode b_Model_operate 45 = .ok (.iconst 0, 1) := by decide +kernel
theorem d_Model_operate_46 : decode b_Model_operate 46 = .ok (.ireturn, 1) := by decide +kernel
theorem d_Model_operate_47 : decode b_Model_operate 47 = .ok (.aload_n 0, 1) := by decide +kernel
theorem d_Model_operate_48 : decode b_Model_operate 48 = .ok (.getfield 13, 3) := by decide +kernel
theorem d_Model_operate_51 : decode b_Model_operate 51 = .ok (.iload_n 1, 1) := by decide +kernel
theorem d_Model_operate_52 : decode b_Model_operate 52 = .ok (.baload, 1) := by decide +kernel
theorem d_Model_operate_53 : decode b_Model_operate 53 = .ok (.ifCond .eq 17, 3) := by decide +kernel
theorem d_Model_operate_56 : decode b_Model_operate 56 = .ok (.aload_n 0, 1) := by decide +kernel
theorem d_Model_operate_57 : decode b_Model_operate 57 = .ok (.iconst 2, 1) := by decide +kernel
theorem d_Model_operate_58 : decode b_Model_operate 58 = .ok (.invokevirtual 153, 3) := by decide +kernel
theorem d_Model_operate_61 : decode b_Model_operate 61 = .ok (.ifCond .le 7, 3) := by decide +kernel
theorem d_Model_operate_64 : decode b_Model_operate 64 = .ok (.iconst 1, 1) := by decide +kernel
theorem d_Model_operate_65 : decode b_Model_operate 65 = .ok (.goto 4, 3) := by decide +kernel
theorem d_Model_operate_68 : decode b_Model_operate 68 = .ok (.iconst 0, 1) := by decide +kernel
theorem d_Model_operate_69 : decode b_Model_operate 69 = .ok (.ireturn, 1) := by decide +kernel
theorem d_Model_operate_70 : decode b_Model_operate 70 = .ok (.aload_n 0, 1) := by decide +kernel
theorem d_Model_operate_71 : decode b_Model_operate 71 = .ok (.getfield 17, 3) := by decide +kernel
theorem d_Model_operate_74 : decode b_Model_operate 74 = .ok (.iload_n 1, 1) := by decide +kernel
theorem d_Model_operate_75 : decode b_Model_operate 75 = .ok (.iload_n 2, 1) := by decide +kernel
theorem d_Model_operate_76 : decode b_Model_operate 76 = .ok (.iastore, 1) := by decide +kernel
theorem d_Model_operate_77 : decode b_Model_operate 77 = .ok (.aload_n 0, 1) := by decide +kernel
theorem d_Model_operate_78 : decode b_Model_operate 78 = .ok (.getfield 21, 3) := by decide +kernel
theorem d_Model_operate_81 : decode b_Model_operate 81 = .ok (.iload_n 1, 1) := by decide +kernel
theorem d_Model_operate_82 : decode b_Model_operate 82 = .ok (.iload_n 3, 1) := by decide +kernel
theorem d_Model_operate_83 : decode b_Model_operate 83 = .ok (.iastore, 1) := by decide +kernel
theorem d_Model_operate_84 : decode b_Model_operate 84 = .ok (.aload_n 0, 1) := by decide +kernel
theorem d_Model_operate_85 : decode b_Model_operate 85 = .ok (.getfield 24, 3) := by decide +kernel
theorem d_Model_operate_88 : decode b_Model_operate 88 = .ok (.iload_n 1, 1) := by decide +kernel
theorem d_Model_operate_89 : decode b_Model_operate 89 = .ok (.iload 4, 2) := by decide +kernel
theorem d_Model_operate_91 : decode b_Model_operate 91 = .ok (.iastore, 1) := by decide +kernel
theorem d_Model_operate_92 : decode b_Model_operate 92 = .ok (.aload_n 0, 1) := by decide +kernel
theorem d_Model_operate_93 : decode b_Model_operate 93 = .ok (.getfield 27, 3) := by decide +kernel
theorem d_Model_operate_96 : decode b_Model_operate 96 = .ok (.iload_n 1, 1) := by decide +kernel
theorem d_Model_operate_97 : decode b_Model_operate 97 = .ok (.iload 5, 2) := by decide +kernel
theorem d_Model_operate_99 : decode b_Model_operate 99 = .ok (.iastore, 1) := by decide +kernel
theorem d_Model_operate_100 : decode b_Model_operate 100 = .ok (.aload_n 0, 1) := by decide +kernel
theorem d_Model_operate_101 : decode b_Model_operate 101 = .ok (.getfield 30, 3) := by decide +kernel
theorem d_Model_operate_104 : decode b_Model_operate 104 = .ok (.iload_n 1, 1) := by decide +kernel
theorem d_Model_operate_105 : decode b_Model_operate 105 = .ok (.dup2, 1) := by decide +kernel
theorem d_Model_operate_106 : decode b_Model_operate 106 = .ok (.iaload, 1) := by decide +kernel
theorem d_Model_operate_107 : decode b_Model_operate 107 = .ok (.iconst 1, 1) := by decide +kernel
theorem d_Model_operate_108 : decode b_Model_operate 108 = .ok (.iadd, 1) := by decide +kernel
theorem d_Model_operate_109 : decode b_Model_operate 109 = .ok (.iastore, 1) := by decide +kernel
theorem d_Model_operate_110 : decode b_Model_operate 110 = .ok (.aload_n 0, 1) := by decide +kernel
theorem d_Model_operate_111 : decode b_Model_operate 111 = .ok (.getfield 30, 3) := by decide +kernel
theorem d_Model_operate_114 : decode b_Model_operate 114 = .ok (.iload_n 1, 1) := by decide +kernel
theorem d_Model_operate_115 : decode b_Model_operate 115 = .ok (.iaload, 1) := by decide +kernel
theorem d_Model_operate_116 : decode b_Model_operate 116 = .ok (.aload_n 0, 1) := by decide +kernel
theorem d_Model_operate_117 : decode b_Model_operate 117 = .ok (.getfield 121, 3) := by decide +kernel
theorem d_Model_operate_120 : decode b_Model_operate 120 = .ok (.irem, 1) := by decide +kernel
theorem d_Model_operate_121 : decode b_Model_operate 121 = .ok (.ifCond .ne 13, 3) := by decide +kernel
theorem d_Model_operate_124 : decode b_Model_operate 124 = .ok (.aload_n 0, 1) := by decide +kernel
theorem d_Model_operate_125 : decode b_Model_operate 125 = .ok (.getfield 7, 3) := by decide +kernel
theorem d_Model_operate_128 : decode b_Model_operate 128 = .ok (.iload_n 1, 1) := by decide +kernel
theorem d_Model_operate_129 : decode b_Model_operate 129 = .ok (.dup2, 1) := by decide +kernel
theorem d_Model_operate_130 : decode b_Model_operate 130 = .ok (.laload, 1) := by decide +kernel
theorem d_Model_operate_131 : decode b_Model_operate 131 = .ok (.lconst 1, 1) := by decide +kernel
theorem d_Model_operate_132 : decode b_Model_operate 132 = .ok (.ladd, 1) := by decide +kernel
theorem d_Model_operate_133 : decode b_Model_operate 133 = .ok (.lastore, 1) := by decide +kernel
theorem d_Model_operate_134 : decode b_Model_operate 134 = .ok (.aload_n 0, 1) := by decide +kernel
theorem d_Model_operate_135 : decode b_Model_operate 135 = .ok (.iload_n 1, 1) := by decide +kernel
theorem d_Model_operate_136 : decode b_Model_operate 136 = .ok (.iload_n 3, 1) := by decide +kernel
theorem d_Model_operate_137 : decode b_Model_operate 137 = .ok (.invokevirtual 134, 3) := by decide +kernel
theorem d_Model_operate_140 : decode b_Model_operate 140 = .ok (.istore 6, 2) := by decide +kernel
theorem d_Model_operate_142 : decode b_Model_operate 142 = .ok (.aload_n 0, 1) := by decide +kernel
theorem d_Model_operate_143 : decode b_Model_operate 143 = .ok (.iload_n 1, 1) := by decide +kernel
theorem d_Model_operate_144 : decode b_Model_operate 144 = .ok (.iload 6, 2) := by decide +kernel
theorem d_Model_operate_146 : decode b_Model_operate 146 = .ok (.invokevirtual 157, 3) := by decide +kernel
theorem d_Model_operate_149 : decode b_Model_operate 149 = .ok (.ifCond .eq 12, 3) := by decide +kernel
theorem d_Model_operate_152 : decode b_Model_operate 152 = .ok (.aload_n 0, 1) := by decide +kernel
theorem d_Model_operate_153 : decode b_Model_operate 153 = .ok (.iload_n 1, 1) := by decide +kernel
theorem d_Model_operate_154 : decode b_Model_operate 154 = .ok (.iload 6, 2) := by decide +kernel
theorem d_Model_operate_156 : decode b_Model_operate 156 = .ok (.invokevirtual 161, 3) := by decide +kernel
theorem d_Model_operate_159 : decode b_Model_operate 159 = .ok (.iconst 1, 1) := by decide +kernel
theorem d_Model_operate_160 : decode b_Model_operate 160 = .ok (.ireturn, 1) := by decide +kernel
theorem d_Model_operate_161 : decode b_Model_operate 161 = .ok (.aload_n 0, 1) := by decide +kernel
theorem d_Model_operate_162 : decode b_Model_operate 162 = .ok (.getfield 13, 3) := by decide +kernel
theorem d_Model_operate_165 : decode b_Model_operate 165 = .ok (.iload_n 1, 1) := by decide +kernel
theorem d_Model_operate_166 : decode b_Model_operate 166 = .ok (.iconst 1, 1) := by decide +kernel
theorem d_Model_operate_167 : decode b_Model_operate 167 = .ok (.bastore, 1) := by decide +kernel
theorem d_Model_operate_168 : decode b_Model_operate 168 = .ok (.aload_n 0, 1) := by decide +kernel
theorem d_Model_operate_169 : decode b_Model_operate 169 = .ok (.iload_n 2, 1) := by decide +kernel
theorem d_Model_operate_170 : decode b_Model_operate 170 = .ok (.ifCond .ne 7, 3) := by decide +kernel
theorem d_Model_operate_173 : decode b_Model_operate 173 = .ok (.iconst 1, 1) := by decide +kernel
theorem d_Model_operate_174 : decode b_Model_operate 174 = .ok (.goto 4, 3) := by decide +kernel
theorem d_Model_operate_177 : decode b_Model_operate 177 = .ok (.iconst 2, 1) := by decide +kernel
theorem d_Model_operate_178 : decode b_Model_operate 178 = .ok (.iload_n 3, 1) := by decide +kernel
theorem d_Model_operate_179 : decode b_Model_operate 179 = .ok (.iload_n 1, 1) := by decide +kernel
theorem d_Model_operate_180 : decode b_Model_operate 180 = .ok (.iconst 1, 1) := by decide +kernel
theorem d_Model_operate_181 : decode b_Model_operate 181 = .ok (.iconst 0, 1) := by decide +kernel
theorem d_Model_operate_182 : decode b_Model_operate 182 = .ok (.aload_n 0, 1) := by decide +kernel
theorem d_Model_operate_183 : decode b_Model_operate 183 = .ok (.getfield 7, 3) := by decide +kernel
theorem d_Model_operate_186 : decode b_Model_operate 186 = .ok (.iload_n 1, 1) := by decide +kernel
theorem d_Model_operate_187 : decode b_Model_operate 187 = .ok (.laload, 1) := by decide +kernel
theorem d_Model_operate_188 : decode b_Model_operate 188 = .ok (.iload 6, 2) := by decide +kernel
theorem d_Model_operate_190 : decode b_Model_operate 190 = .ok (.ifCond .ge 9, 3) := by decide +kernel
theorem d_Model_operate_193 : decode b_Model_operate 193 = .ok (.ldc2_w 165, 3) := by decide +kernel
theorem d_Model_operate_196 : decode b_Model_operate 196 = .ok (.goto 10, 3) := by decide +kernel
theorem d_Model_operate_199 : decode b_Model_operate 199 = .ok (.aload_n 0, 1) := by decide +kernel
theorem d_Model_operate_200 : decode b_Model_operate 200 = .ok (.getfield 51, 3) := by decide +kernel
theorem d_Model_operate_203 : decode b_Model_operate 203 = .ok (.iload 6, 2) := by decide +kernel
theorem d_Model_operate_205 : decode b_Model_operate 205 = .ok (.laload, 1) := by decide +kernel
theorem d_Model_operate_206 : decode b_Model_operate 206 = .ok (.invokevirtual 138, 3) := by decide +kernel
theorem d_Model_operate_209 : decode b_Model_operate 209 = .ok (.iconst 0, 1) := by decide +kernel
theorem d_Model_operate_210 : decode b_Model_operate 210 = .ok (.ireturn, 1) := by decide +kernel
theorem d_Model_entryOf_0 : decode b_Model_entryOf 0 = .ok (.iconst (-1), 1) := by decide +kernel
theorem d_Model_entryOf_1 : decode b_Model_entryOf 1 = .ok (.istore_n 2, 1) := by decide +kernel
theorem d_Model_entryOf_2 : decode b_Model_entryOf 2 = .ok (.iconst 0, 1) := by decide +kernel
theorem d_Model_entryOf_3 : decode b_Model_entryOf 3 = .ok (.istore_n 3, 1) := by decide +kernel
theorem d_Model_entryOf_4 : decode b_Model_entryOf 4 = .ok (.iload_n 3, 1) := by decide +kernel
theorem d_Model_entryOf_5 : decode b_Model_entryOf 5 = .ok (.bipush 6, 2) := by decide +kernel
theorem d_Model_entryOf_7 : decode b_Model_entryOf 7 = .ok (.if_icmp .ge 25, 3) := by decide +kernel
theorem d_Model_entryOf_10 : decode b_Model_entryOf 10 = .ok (.aload_n 0, 1) := by decide +kernel
theorem d_Model_entryOf_11 : decode b_Model_entryOf 11 = .ok (.getfield 60, 3) := by decide +kernel
theorem d_Model_entryOf_14 : decode b_Model_entryOf 14 = .ok (.iload_n 3, 1) := by decide +kernel
theorem d_Model_entryOf_15 : decode b_Model_entryOf 15 = .ok (.iaload, 1) := by decide +kernel
theorem d_Model_entryOf_16 : decode b_Model_entryOf 16 = .ok (.iload_n 1, 1) := by decide +kernel
theorem d_Model_entryOf_17 : decode b_Model_entryOf 17 = .ok (.if_icmp .ne 7, 3) := by decide +kernel
theorem d_Model_entryOf_20 : decode b_Model_entryOf 20 = .ok (.iload_n 3, 1) := by decide +kernel
theorem d_Model_entryOf_21 : decode b_Model_entryOf 21 = .ok (.goto 4, 3) := by decide +kernel
theorem d_Model_entryOf_24 : decode b_Model_entryOf 24 = .ok (.iload_n 2, 1) := by decide +kernel
theorem d_Model_entryOf_25 : decode b_Model_entryOf 25 = .ok (.istore_n 2, 1) := by decide +kernel
theorem d_Model_entryOf_26 : decode b_Model_entryOf 26 = .ok (.iinc 3 1, 3) := by decide +kernel
theorem d_Model_entryOf_29 : decode b_Model_entryOf 29 = .ok (.goto (-25), 3) := by decide +kernel
theorem d_Model_entryOf_32 : decode b_Model_entryOf 32 = .ok (.iload_n 2, 1) := by decide +kernel
theorem d_Model_entryOf_33 : decode b_Model_entryOf 33 = .ok (.ireturn, 1) := by decide +kernel
theorem d_Model_least_0 : decode b_Model_least 0 = .ok (.iconst (-1), 1) := by decide +kernel
theorem d_Model_least_1 : decode b_Model_least 1 = .ok (.istore_n 2, 1) := by decide +kernel
theorem d_Model_least_2 : decode b_Model_least 2 = .ok (.iconst 0, 1) := by decide +kernel
theorem d_Model_least_3 : decode b_Model_least 3 = .ok (.istore_n 3, 1) := by decide +kernel
theorem d_Model_least_4 : decode b_Model_least 4 = .ok (.iload_n 3, 1) := by decide +kernel
theorem d_Model_least_5 : decode b_Model_least 5 = .ok (.bipush 6, 2) := by decide +kernel
theorem d_Model_least_7 : decode b_Model_least 7 = .ok (.if_icmp .ge 77, 3) := by decide +kernel
theorem d_Model_least_10 : decode b_Model_least 10 = .ok (.iload_n 1, 1) := by decide +kernel
theorem d_Model_least_11 : decode b_Model_least 11 = .ok (.ifCond .eq 20, 3) := by decide +kernel
theorem d_Model_least_14 : decode b_Model_least 14 = .ok (.aload_n 0, 1) := by decide +kernel
theorem d_Model_least_15 : decode b_Model_least 15 = .ok (.getfield 72, 3) := by decide +kernel
theorem d_Model_least_18 : decode b_Model_least 18 = .ok (.iload_n 3, 1) := by decide +kernel
theorem d_Model_least_19 : decode b_Model_least 19 = .ok (.iaload, 1) := by decide +kernel
theorem d_Model_least_20 : decode b_Model_least 20 = .ok (.ifCond .ge 7, 3) := by decide +kernel
theorem d_Model_least_23 : decode b_Model_least 23 = .ok (.iconst 1, 1) := by decide +kernel
theorem d_Model_least_24 : decode b_Model_least 24 = .ok (.goto 21, 3) := by decide +kernel
theorem d_Model_least_27 : decode b_Model_least 27 = .ok (.iconst 0, 1) := by decide +kernel
theorem d_Model_least_28 : decode b_Model_least 28 = .ok (.goto 17, 3) := by decide +kernel
theorem d_Model_least_31 : decode b_Model_least 31 = .ok (.aload_n 0, 1) := by decide +kernel
theorem d_Model_least_32 : decode b_Model_least 32 = .ok (.getfield 78, 3) := by decide +kernel
theorem d_Model_least_35 : decode b_Model_least 35 = .ok (.iload_n 3, 1) := by decide +kernel
theorem d_Model_least_36 : decode b_Model_least 36 = .ok (.iaload, 1) := by decide +kernel
theorem d_Model_least_37 : decode b_Model_least 37 = .ok (.ifCond .ne 7, 3) := by decide +kernel
theorem d_Model_least_40 : decode b_Model_least 40 = .ok (.iconst 1, 1) := by decide +kernel
theorem d_Model_least_41 : decode b_Model_least 41 = .ok (.goto 4, 3) := by decide +kernel
theorem d_Model_least_44 : decode b_Model_least 44 = .ok (.iconst 0, 1) := by decide +kernel
theorem d_Model_least_45 : decode b_Model_least 45 = .ok (.istore 4, 2) := by decide +kernel
theorem d_Model_least_47 : decode b_Model_least 47 = .ok (.iload 4, 2) := by decide +kernel
theorem d_Model_least_49 : decode b_Model_least 49 = .ok (.ifCond .eq 27, 3) := by decide +kernel
theorem d_Model_least_52 : decode b_Model_least 52 = .ok (.iload_n 2, 1) := by decide +kernel
theorem d_Model_least_53 : decode b_Model_least 53 = .ok (.ifCond .lt 19, 3) := by decide +kernel
theorem d_Model_least_56 : decode b_Model_least 56 = .ok (.aload_n 0, 1) := by decide +kernel
theorem d_Model_least_57 : decode b_Model_least 57 = .ok (.getfield 69, 3) := by decide +kernel
theorem d_Model_least_60 : decode b_Model_least 60 = .ok (.iload_n 3, 1) := by decide +kernel
theorem d_Model_least_61 : decode b_Model_least 61 = .ok (.laload, 1) := by decide +kernel
theorem d_Model_least_62 : decode b_Model_least 62 = .ok (.aload_n 0, 1) := by decide +kernel
theorem d_Model_least_63 : decode b_Model_least 63 = .ok (.getfield 69, 3) := by decide +kernel
theorem d_Model_least_66 : decode b_Model_least 66 = .ok (.iload_n 2, 1) := by decide +kernel
theorem d_Model_least_67 : decode b_Model_least 67 = .ok (.laload, 1) := by decide +kernel
theorem d_Model_least_68 : decode b_Model_least 68 = .ok (.lcmp, 1) := by decide +kernel
theorem d_Model_least_69 : decode b_Model_least 69 = .ok (.ifCond .ge 7, 3) := by decide +kernel
theorem d_Model_least_72 : decode b_Model_least 72 = .ok (.iload_n 3, 1) := by decide +kernel
theorem d_Model_least_73 : decode b_Model_least 73 = .ok (.goto 4, 3) := by decide +kernel
theorem d_Model_least_76 : decode b_Model_least 76 = .ok (.iload_n 2, 1) := by decide +kernel
theorem d_Model_least_77 : decode b_Model_least 77 = .ok (.istore_n 2, 1) := by decide +kernel
theorem d_Model_least_78 : decode b_Model_least 78 = .ok (.iinc 3 1, 3) := by decide +kernel
theorem d_Model_least_81 : decode b_Model_least 81 = .ok (.goto (-77), 3) := by decide +kernel
theorem d_Model_least_84 : decode b_Model_least 84 = .ok (.iload_n 2, 1) := by decide +kernel
theorem d_Model_least_85 : decode b_Model_least 85 = .ok (.ireturn, 1) := by decide +kernel
theorem d_Model_open_0 : decode b_Model_open 0 = .ok (.aload_n 0, 1) := by decide +kernel
theorem d_Model_open_1 : decode b_Model_open 1 = .ok (.iconst (-1), 1) := by decide +kernel
theorem d_Model_open_2 : decode b_Model_open 2 = .ok (.invokevirtual 167, 3) := by decide +kernel
theorem d_Model_open_5 : decode b_Model_open 5 = .ok (.istore_n 2, 1) := by decide +kernel
theorem d_Model_open_6 : decode b_Model_open 6 = .ok (.iconst 5, 1) := by decide +kernel
theorem d_Model_open_7 : decode b_Model_open 7 = .ok (.istore_n 3, 1) := by decide +kernel
theorem d_Model_open_8 : decode b_Model_open 8 = .ok (.iload_n 3, 1) := by decide +kernel
theorem d_Model_open_9 : decode b_Model_open 9 = .ok (.ifCond .lt 25, 3) := by decide +kernel
theorem d_Model_open_12 : decode b_Model_open 12 = .ok (.aload_n 0, 1) := by decide +kernel
theorem d_Model_open_13 : decode b_Model_open 13 = .ok (.getfield 60, 3) := by decide +kernel
theorem d_Model_open_16 : decode b_Model_open 16 = .ok (.iload_n 3, 1) := by decide +kernel
theorem d_Model_open_17 : decode b_Model_open 17 = .ok (.iaload, 1) := by decide +kernel
theorem d_Model_open_18 : decode b_Model_open 18 = .ok (.iconst (-1), 1) := by decide +kernel
theorem d_Model_open_19 : decode b_Model_open 19 = .ok (.if_icmp .ne 7, 3) := by decide +kernel
theorem d_Model_open_22 : decode b_Model_open 22 = .ok (.iload_n 3, 1) := by decide +kernel
theorem d_Model_open_23 : decode b_Model_open 23 = .ok (.goto 4, 3) := by decide +kernel
theorem d_Model_open_26 : decode b_Model_open 26 = .ok (.iload_n 2, 1) := by decide +kernel
theorem d_Model_open_27 : decode b_Model_open 27 = .ok (.istore_n 2, 1) := by decide +kernel
theorem d_Model_open_28 : decode b_Model_open 28 = .ok (.iinc 3 (-1), 3) := by decide +kernel
theorem d_Model_open_31 : decode b_Model_open 31 = .ok (.goto (-23), 3) := by decide +kernel
theorem d_Model_open_34 : decode b_Model_open 34 = .ok (.iload_n 2, 1) := by decide +kernel
theorem d_Model_open_35 : decode b_Model_open 35 = .ok (.ifCond .ge 49, 3) := by decide +kernel
theorem d_Model_open_38 : decode b_Model_open 38 = .ok (.aload_n 0, 1) := by decide +kernel
theorem d_Model_open_39 : decode b_Model_open 39 = .ok (.iconst 1, 1) := by decide +kernel
theorem d_Model_open_40 : decode b_Model_open 40 = .ok (.invokevirtual 170, 3) := by decide +kernel
theorem d_Model_open_43 : decode b_Model_open 43 = .ok (.istore_n 2, 1) := by decide +kernel
theorem d_Model_open_44 : decode b_Model_open 44 = .ok (.iload_n 2, 1) := by decide +kernel
theorem d_Model_open_45 : decode b_Model_open 45 = .ok (.ifCond .ge 5, 3) := by decide +kernel
theorem d_Model_open_48 : decode b_Model_open 48 = .ok (.iconst (-1), 1) := by decide +kernel
theorem d_Model_open_49 : decode b_Model_open 49 = .ok (.ireturn, 1) := by decide +kernel
theorem d_Model_open_50 : decode b_Model_open 50 = .ok (.aload_n 0, 1) := by decide +kernel
theorem d_Model_open_51 : decode b_Model_open 51 = .ok (.getfield 93, 3) := by decide +kernel
theorem d_Model_open_54 : decode b_Model_open 54 = .ok (.aload_n 0, 1) := by decide +kernel
theorem d_Model_open_55 : decode b_Model_open 55 = .ok (.getfield 60, 3) := by decide +kernel
theorem d_Model_open_58 : decode b_Model_open 58 = .ok (.iload_n 2, 1) := by decide +kernel
theorem d_Model_open_59 : decode b_Model_open 59 = .ok (.iaload, 1) := by decide +kernel
theorem d_Model_open_60 : decode b_Model_open 60 = .ok (.aload_n 0, 1) := by decide +kernel
theorem d_Model_open_61 : decode b_Model_open 61 = .ok (.getfield 63, 3) := by decide +kernel
theorem d_Model_open_64 : decode b_Model_open 64 = .ok (.iload_n 2, 1) := by decide +kernel
theorem d_Model_open_65 : decode b_Model_open 65 = .ok (.iaload, 1) := by decide +kernel
theorem d_Model_open_66 : decode b_Model_open 66 = .ok (.iastore, 1) := by decide +kernel
theorem d_Model_open_67 : decode b_Model_open 67 = .ok (.aload_n 0, 1) := by decide +kernel
theorem d_Model_open_68 : decode b_Model_open 68 = .ok (.aload_n 0, 1) := by decide +kernel
theorem d_Model_open_69 : decode b_Model_open 69 = .ok (.getfield 174, 3) := by decide +kernel
theorem d_Model_open_72 : decode b_Model_open 72 = .ok (.aload_n 0, 1) := by decide +kernel
theorem d_Model_open_73 : decode b_Model_open 73 = .ok (.getfield 69, 3) := by decide +kernel
theorem d_Model_open_76 : decode b_Model_open 76 = .ok (.iload_n 2, 1) := by decide +kernel
theorem d_Model_open_77 : decode b_Model_open 77 = .ok (.laload, 1) := by decide +kernel
theorem d_Model_open_78 : decode b_Model_open 78 = .ok (.invokestatic 142, 3) := by decide +kernel
theorem d_Model_open_81 : decode b_Model_open 81 = .ok (.putfield 174, 3) := by decide +kernel
theorem d_Model_open_84 : decode b_Model_open 84 = .ok (.aload_n 0, 1) := by decide +kernel
theorem d_Model_open_85 : decode b_Model_open 85 = .ok (.getfield 60, 3) := by decide +kernel
theorem d_Model_open_88 : decode b_Model_open 88 = .ok (.iload_n 2, 1) := by decide +kernel
theorem d_Model_open_89 : decode b_Model_open 89 = .ok (.iload_n 1, 1) := by decide +kernel
theorem d_Model_open_90 : decode b_Model_open 90 = .ok (.iastore, 1) := by decide +kernel
theorem d_Model_open_91 : decode b_Model_open 91 = .ok (.aload_n 0, 1) := by decide +kernel
theorem d_Model_open_92 : decode b_Model_open 92 = .ok (.getfield 63, 3) := by decide +kernel
theorem d_Model_open_95 : decode b_Model_open 95 = .ok (.iload_n 2, 1) := by decide +kernel
theorem d_Model_open_96 : decode b_Model_open 96 = .ok (.aload_n 0, 1) := by decide +kernel
theorem d_Model_open_97 : decode b_Model_open 97 = .ok (.getfield 93, 3) := by decide +kernel
theorem d_Model_open_100 : decode b_Model_open 100 = .ok (.iload_n 1, 1) := by decide +kernel
theorem d_Model_open_101 : decode b_Model_open 101 = .ok (.iaload, 1) := by decide +kernel
theorem d_Model_open_102 : decode b_Model_open 102 = .ok (.iastore, 1) := by decide +kernel
theorem d_Model_open_103 : decode b_Model_open 103 = .ok (.aload_n 0, 1) := by decide +kernel
theorem d_Model_open_104 : decode b_Model_open 104 = .ok (.getfield 66, 3) := by decide +kernel
theorem d_Model_open_107 : decode b_Model_open 107 = .ok (.iload_n 2, 1) := by decide +kernel
theorem d_Model_open_108 : decode b_Model_open 108 = .ok (.aload_n 0, 1) := by decide +kernel
theorem d_Model_open_109 : decode b_Model_open 109 = .ok (.getfield 174, 3) := by decide +kernel
theorem d_Model_open_112 : decode b_Model_open 112 = .ok (.lastore, 1) := by decide +kernel
theorem d_Model_open_113 : decode b_Model_open 113 = .ok (.aload_n 0, 1) := by decide +kernel
theorem d_Model_open_114 : decode b_Model_open 114 = .ok (.getfield 69, 3) := by decide +kernel
theorem d_Model_open_117 : decode b_Model_open 117 = .ok (.iload_n 2, 1) := by decide +kernel
theorem d_Model_open_118 : decode b_Model_open 118 = .ok (.aload_n 0, 1) := by decide +kernel
theorem d_Model_open_119 : decode b_Model_open 119 = .ok (.getfield 174, 3) := by decide +kernel
theorem d_Model_open_122 : decode b_Model_open 122 = .ok (.lastore, 1) := by decide +kernel
theorem d_Model_open_123 : decode b_Model_open 123 = .ok (.aload_n 0, 1) := by decide +kernel
theorem d_Model_open_124 : decode b_Model_open 124 = .ok (.getfield 72, 3) := by decide +kernel
theorem d_Model_open_127 : decode b_Model_open 127 = .ok (.iload_n 2, 1) := by decide +kernel
theorem d_Model_open_128 : decode b_Model_open 128 = .ok (.iconst (-1), 1) := by decide +kernel
theorem d_Model_open_129 : decode b_Model_open 129 = .ok (.iastore, 1) := by decide +kernel
theorem d_Model_open_130 : decode b_Model_open 130 = .ok (.aload_n 0, 1) := by decide +kernel
theorem d_Model_open_131 : decode b_Model_open 131 = .ok (.getfield 75, 3) := by decide +kernel
theorem d_Model_open_134 : decode b_Model_open 134 = .ok (.iload_n 2, 1) := by decide +kernel
theorem d_Model_open_135 : decode b_Model_open 135 = .ok (.iconst 0, 1) := by decide +kernel
theorem d_Model_open_136 : decode b_Model_open 136 = .ok (.bastore, 1) := by decide +kernel
theorem d_Model_open_137 : decode b_Model_open 137 = .ok (.aload_n 0, 1) := by decide +kernel
theorem d_Model_open_138 : decode b_Model_open 138 = .ok (.getfield 78, 3) := by decide +kernel
theorem d_Model_open_141 : decode b_Model_open 141 = .ok (.iload_n 2, 1) := by decide +kernel
theorem d_Model_open_142 : decode b_Model_open 142 = .ok (.iconst 0, 1) := by decide +kernel
theorem d_Model_open_143 : decode b_Model_open 143 = .ok (.iastore, 1) := by decide +kernel
theorem d_Model_open_144 : decode b_Model_open 144 = .ok (.iload_n 2, 1) := by decide +kernel
theorem d_Model_open_145 : decode b_Model_open 145 = .ok (.ireturn, 1) := by decide +kernel
theorem d_Model_call_0 : decode b_Model_call 0 = .ok (.iconst 0, 1) := by decide +kernel
theorem d_Model_call_1 : decode b_Model_call 1 = .ok (.istore_n 1, 1) := by decide +kernel
theorem d_Model_call_2 : decode b_Model_call 2 = .ok (.iconst 0, 1) := by decide +kernel
theorem d_Model_call_3 : decode b_Model_call 3 = .ok (.istore_n 2, 1) := by decide +kernel
theorem d_Model_call_4 : decode b_Model_call 4 = .ok (.iload_n 2, 1) := by decide +kernel
theorem d_Model_call_5 : decode b_Model_call 5 = .ok (.bipush 6, 2) := by decide +kernel
theorem d_Model_call_7 : decode b_Model_call 7 = .ok (.if_icmp .ge 28, 3) := by decide +kernel
theorem d_Model_call_10 : decode b_Model_call 10 = .ok (.iload_n 1, 1) := by decide +kernel
theorem d_Model_call_11 : decode b_Model_call 11 = .ok (.ifCond .ne 12, 3) := by decide +kernel
theorem d_Model_call_14 : decode b_Model_call 14 = .ok (.aload_n 0, 1) := by decide +kernel
theorem d_Model_call_15 : decode b_Model_call 15 = .ok (.getfield 75, 3) := by decide +kernel
theorem d_Model_call_18 : decode b_Model_call 18 = .ok (.iload_n 2, 1) := by decide +kernel
theorem d_Model_call_19 : decode b_Model_call 19 = .ok (.baload, 1) := by decide +kernel
theorem d_Model_call_20 : decode b_Model_call 20 = .ok (.ifCond .eq 7, 3) := by decide +kernel
theorem d_Model_call_23 : decode b_Model_call 23 = .ok (.iconst 1, 1) := by decide +kernel
theorem d_Model_call_24 : decode b_Model_call 24 = .ok (.goto 4, 3) := by decide +kernel
theorem d_Model_call_27 : decode b_Model_call 27 = .ok (.iconst 0, 1) := by decide +kernel
theorem d_Model_call_28 : decode b_Model_call 28 = .ok (.istore_n 1, 1) := by decide +kernel
theorem d_Model_call_29 : decode b_Model_call 29 = .ok (.iinc 2 1, 3) := by decide +kernel
theorem d_Model_call_32 : decode b_Model_call 32 = .ok (.goto (-28), 3) := by decide +kernel
theorem d_Model_call_35 : decode b_Model_call 35 = .ok (.iload_n 1, 1) := by decide +kernel
theorem d_Model_call_36 : decode b_Model_call 36 = .ok (.ifCond .eq 7, 3) := by decide +kernel
theorem d_Model_call_39 : decode b_Model_call 39 = .ok (.iconst (-1), 1) := by decide +kernel
theorem d_Model_call_40 : decode b_Model_call 40 = .ok (.goto 8, 3) := by decide +kernel
theorem d_Model_call_43 : decode b_Model_call 43 = .ok (.aload_n 0, 1) := by decide +kernel
theorem d_Model_call_44 : decode b_Model_call 44 = .ok (.iconst 0, 1) := by decide +kernel
theorem d_Model_call_45 : decode b_Model_call 45 = .ok (.invokevirtual 170, 3) := by decide +kernel
theorem d_Model_call_48 : decode b_Model_call 48 = .ok (.istore_n 2, 1) := by decide +kernel
theorem d_Model_call_49 : decode b_Model_call 49 = .ok (.iload_n 2, 1) := by decide +kernel
theorem d_Model_call_50 : decode b_Model_call 50 = .ok (.ifCond .ge 4, 3) := by decide +kernel
theorem d_Model_call_53 : decode b_Model_call 53 = .ok (.return_, 1) := by decide +kernel
theorem d_Model_call_54 : decode b_Model_call 54 = .ok (.aload_n 0, 1) := by decide +kernel
theorem d_Model_call_55 : decode b_Model_call 55 = .ok (.getfield 75, 3) := by decide +kernel
theorem d_Model_call_58 : decode b_Model_call 58 = .ok (.iload_n 2, 1) := by decide +kernel
theorem d_Model_call_59 : decode b_Model_call 59 = .ok (.iconst 1, 1) := by decide +kernel
theorem d_Model_call_60 : decode b_Model_call 60 = .ok (.bastore, 1) := by decide +kernel
theorem d_Model_call_61 : decode b_Model_call 61 = .ok (.aload_n 0, 1) := by decide +kernel
theorem d_Model_call_62 : decode b_Model_call 62 = .ok (.bipush 6, 2) := by decide +kernel
theorem d_Model_call_64 : decode b_Model_call 64 = .ok (.aload_n 0, 1) := by decide +kernel
theorem d_Model_call_65 : decode b_Model_call 65 = .ok (.getfield 60, 3) := by decide +kernel
theorem d_Model_call_68 : decode b_Model_call 68 = .ok (.iload_n 2, 1) := by decide +kernel
theorem d_Model_call_69 : decode b_Model_call 69 = .ok (.iaload, 1) := by decide +kernel
theorem d_Model_call_70 : decode b_Model_call 70 = .ok (.aload_n 0, 1) := by decide +kernel
theorem d_Model_call_71 : decode b_Model_call 71 = .ok (.getfield 72, 3) := by decide +kernel
theorem d_Model_call_74 : decode b_Model_call 74 = .ok (.iload_n 2, 1) := by decide +kernel
theorem d_Model_call_75 : decode b_Model_call 75 = .ok (.iaload, 1) := by decide +kernel
theorem d_Model_call_76 : decode b_Model_call 76 = .ok (.iconst 0, 1) := by decide +kernel
theorem d_Model_call_77 : decode b_Model_call 77 = .ok (.iconst 0, 1) := by decide +kernel
theorem d_Model_call_78 : decode b_Model_call 78 = .ok (.lconst 0, 1) := by decide +kernel
theorem d_Model_call_79 : decode b_Model_call 79 = .ok (.lconst 0, 1) := by decide +kernel
theorem d_Model_call_80 : decode b_Model_call 80 = .ok (.invokevirtual 138, 3) := by decide +kernel
theorem d_Model_call_83 : decode b_Model_call 83 = .ok (.return_, 1) := by decide +kernel
theorem d_Model_serves_0 : decode b_Model_serves 0 = .ok (.iconst 3, 1) := by decide +kernel
theorem d_Model_serves_1 : decode b_Model_serves 1 = .ok (.iload_n 1, 1) := by decide +kernel
theorem d_Model_serves_2 : decode b_Model_serves 2 = .ok (.imul, 1) := by decide +kernel
theorem d_Model_serves_3 : decode b_Model_serves 3 = .ok (.istore_n 2, 1) := by decide +kernel
theorem d_Model_serves_4 : decode b_Model_serves 4 = .ok (.aload_n 0, 1) := by decide +kernel
theorem d_Model_serves_5 : decode b_Model_serves 5 = .ok (.getfield 81, 3) := by decide +kernel
theorem d_Model_serves_8 : decode b_Model_serves 8 = .ok (.iload_n 2, 1) := by decide +kernel
theorem d_Model_serves_9 : decode b_Model_serves 9 = .ok (.iaload, 1) := by decide +kernel
theorem d_Model_serves_10 : decode b_Model_serves 10 = .ok (.istore_n 3, 1) := by decide +kernel
theorem d_Model_serves_11 : decode b_Model_serves 11 = .ok (.aload_n 0, 1) := by decide +kernel
theorem d_Model_serves_12 : decode b_Model_serves 12 = .ok (.getfield 84, 3) := by decide +kernel
theorem d_Model_serves_15 : decode b_Model_serves 15 = .ok (.iload_n 2, 1) := by decide +kernel
theorem d_Model_serves_16 : decode b_Model_serves 16 = .ok (.iaload, 1) := by decide +kernel
theorem d_Model_serves_17 : decode b_Model_serves 17 = .ok (.iconst 1, 1) := by decide +kernel
theorem d_Model_serves_18 : decode b_Model_serves 18 = .ok (.if_icmp .ne 7, 3) := by decide +kernel
theorem d_Model_serves_21 : decode b_Model_serves 21 = .ok (.iconst 1, 1) := by decide +kernel
theorem d_Model_serves_22 : decode b_Model_serves 22 = .ok (.goto 4, 3) := by decide +kernel
theorem d_Model_serves_25 : decode b_Model_serves 25 = .ok (.iconst 0, 1) := by decide +kernel
theorem d_Model_serves_26 : decode b_Model_serves 26 = .ok (.istore 4, 2) := by decide +kernel
theorem d_Model_serves_28 : decode b_Model_serves 28 = .ok (.aload_n 0, 1) := by decide +kernel
theorem d_Model_serves_29 : decode b_Model_serves 29 = .ok (.getfield 87, 3) := by decide +kernel
theorem d_Model_serves_32 : decode b_Model_serves 32 = .ok (.iload_n 2, 1) := by decide +kernel
theorem d_Model_serves_33 : decode b_Model_serves 33 = .ok (.laload, 1) := by decide +kernel
theorem d_Model_serves_34 : decode b_Model_serves 34 = .ok (.aload_n 0, 1) := by decide +kernel
theorem d_Model_serves_35 : decode b_Model_serves 35 = .ok (.getfield 117, 3) := by decide +kernel
theorem d_Model_serves_38 : decode b_Model_serves 38 = .ok (.i2l, 1) := by decide +kernel
theorem d_Model_serves_39 : decode b_Model_serves 39 = .ok (.ladd, 1) := by decide +kernel
theorem d_Model_serves_40 : decode b_Model_serves 40 = .ok (.lstore 5, 2) := by decide +kernel
theorem d_Model_serves_42 : decode b_Model_serves 42 = .ok (.aload_n 0, 1) := by decide +kernel
theorem d_Model_serves_43 : decode b_Model_serves 43 = .ok (.getfield 72, 3) := by decide +kernel
theorem d_Model_serves_46 : decode b_Model_serves 46 = .ok (.iload_n 1, 1) := by decide +kernel
theorem d_Model_serves_47 : decode b_Model_serves 47 = .ok (.iaload, 1) := by decide +kernel
theorem d_Model_serves_48 : decode b_Model_serves 48 = .ok (.ifCond .lt 46, 3) := by decide +kernel
theorem d_Model_serves_51 : decode b_Model_serves 51 = .ok (.aload_n 0, 1) := by decide +kernel
theorem d_Model_serves_52 : decode b_Model_serves 52 = .ok (.getfield 75, 3) := by decide +kernel
theorem d_Model_serves_55 : decode b_Model_serves 55 = .ok (.iload_n 1, 1) := by decide +kernel
theorem d_Model_serves_56 : decode b_Model_serves 56 = .ok (.baload, 1) := by decide +kernel
theorem d_Model_serves_57 : decode b_Model_serves 57 = .ok (.ifCond .ne 35, 3) := by decide +kernel
theorem d_Model_serves_60 : decode b_Model_serves 60 = .ok (.aload_n 0, 1) := by decide +kernel
theorem d_Model_serves_61 : decode b_Model_serves 61 = .ok (.iload 4, 2) := by decide +kernel
theorem d_Model_serves_63 : decode b_Model_serves 63 = .ok (.ifCond .eq 7, 3) := by decide +kernel
theorem d_Model_serves_66 : decode b_Model_serves 66 = .ok (.iconst 5, 1) := by decide +kernel
theorem d_Model_serves_67 : decode b_Model_serves 67 = .ok (.goto 5, 3) := by decide +kernel
theorem d_Model_serves_70 : decode b_Model_serves 70 = .ok (.bipush 6, 2) := by decide +kernel
theorem d_Model_serves_72 : decode b_Model_serves 72 = .ok (.aload_n 0, 1) := by decide +kernel
theorem d_Model_serves_73 : decode b_Model_serves 73 = .ok (.getfield 60, 3) := by decide +kernel
theorem d_Model_serves_76 : decode b_Model_serves 76 = .ok (.iload_n 1, 1) := by decide +kernel
theorem d_Model_serves_77 : decode b_Model_serves 77 = .ok (.iaload, 1) := by decide +kernel
theorem d_Model_serves_78 : decode b_Model_serves 78 = .ok (.aload_n 0, 1) := by decide +kernel
theorem d_Model_serves_79 : decode b_Model_serves 79 = .ok (.getfield 72, 3) := by decide +kernel
theorem d_Model_serves_82 : decode b_Model_serves 82 = .ok (.iload_n 1, 1) := by decide +kernel
theorem d_Model_serves_83 : decode b_Model_serves 83 = .ok (.iaload, 1) := by decide +kernel
theorem d_Model_serves_84 : decode b_Model_serves 84 = .ok (.iconst 0, 1) := by decide +kernel
theorem d_Model_serves_85 : decode b_Model_serves 85 = .ok (.iconst 0, 1) := by decide +kernel
theorem d_Model_serves_86 : decode b_Model_serves 86 = .ok (.lload 5, 2) := by decide +kernel
theorem d_Model_serves_88 : decode b_Model_serves 88 = .ok (.lconst 0, 1) := by decide +kernel
theorem d_Model_serves_89 : decode b_Model_serves 89 = .ok (.invokevirtual 138, 3) := by decide +kernel
theorem d_Model_serves_92 : decode b_Model_serves 92 = .ok (.iconst 0, 1) := by decide +kernel
theorem d_Model_serves_93 : decode b_Model_serves 93 = .ok (.ireturn, 1) := by decide +kernel
theorem d_Model_serves_94 : decode b_Model_serves 94 = .ok (.iload 4, 2) := by decide +kernel
theorem d_Model_serves_96 : decode b_Model_serves 96 = .ok (.ifCond .eq 38, 3) := by decide +kernel
theorem d_Model_serves_99 : decode b_Model_serves 99 = .ok (.aload_n 0, 1) := by decide +kernel
theorem d_Model_serves_100 : decode b_Model_serves 100 = .ok (.getfield 69, 3) := by decide +kernel
theorem d_Model_serves_103 : decode b_Model_serves 103 = .ok (.iload_n 1, 1) := by decide +kernel
theorem d_Model_serves_104 : decode b_Model_serves 104 = .ok (.aload_n 0, 1) := by decide +kernel
theorem d_Model_serves_105 : decode b_Model_serves 105 = .ok (.getfield 69, 3) := by decide +kernel
theorem d_Model_serves_108 : decode b_Model_serves 108 = .ok (.iload_n 1, 1) := by decide +kernel
theorem d_Model_serves_109 : decode b_Model_serves 109 = .ok (.laload, 1) := by decide +kernel
theorem d_Model_serves_110 : decode b_Model_serves 110 = .ok (.aload_n 0, 1) := by decide +kernel
theorem d_Model_serves_111 : decode b_Model_serves 111 = .ok (.getfield 66, 3) := by decide +kernel
theorem d_Model_serves_114 : decode b_Model_serves 114 = .ok (.iload_n 1, 1) := by decide +kernel
theorem d_Model_serves_115 : decode b_Model_serves 115 = .ok (.laload, 1) := by decide +kernel
theorem d_Model_serves_116 : decode b_Model_serves 116 = .ok (.aload_n 0, 1) := by decide +kernel
theorem d_Model_serves_117 : decode b_Model_serves 117 = .ok (.getfield 117, 3) := by decide +kernel
theorem d_Model_serves_120 : decode b_Model_serves 120 = .ok (.i2l, 1) := by decide +kernel
theorem d_Model_serves_121 : decode b_Model_serves 121 = .ok (.ladd, 1) := by decide +kernel
theorem d_Model_serves_122 : decode b_Model_serves 122 = .ok (.lload 5, 2) := by decide +kernel
theorem d_Model_serves_124 : decode b_Model_serves 124 = .ok (.invokestatic 142, 3) := by decide +kernel
theorem d_Model_serves_127 : decode b_Model_serves 127 = .ok (.invokestatic 142, 3) := by decide +kernel
theorem d_Model_serves_130 : decode b_Model_serves 130 = .ok (.lastore, 1) := by decide +kernel
theorem d_Model_serves_131 : decode b_Model_serves 131 = .ok (.goto 10, 3) := by decide +kernel
theorem d_Model_serves_134 : decode b_Model_serves 134 = .ok (.aload_n 0, 1) := by decide +kernel
theorem d_Model_serves_135 : decode b_Model_serves 135 = .ok (.getfield 72, 3) := by decide +kernel
theorem d_Model_serves_138 : decode b_Model_serves 138 = .ok (.iload_n 1, 1) := by decide +kernel
theorem d_Model_serves_139 : decode b_Model_serves 139 = .ok (.iload_n 3, 1) := by decide +kernel
theorem d_Model_serves_140 : decode b_Model_serves 140 = .ok (.iastore, 1) := by decide +kernel
theorem d_Model_serves_141 : decode b_Model_serves 141 = .ok (.aload_n 0, 1) := by decide +kernel
theorem d_Model_serves_142 : decode b_Model_serves 142 = .ok (.getfield 90, 3) := by decide +kernel
theorem d_Model_serves_145 : decode b_Model_serves 145 = .ok (.iload_n 2, 1) := by decide +kernel
theorem d_Model_serves_146 : decode b_Model_serves 146 = .ok (.laload, 1) := by decide +kernel
theorem d_Model_serves_147 : decode b_Model_serves 147 = .ok (.aload_n 0, 1) := by decide +kernel
theorem d_Model_serves_148 : decode b_Model_serves 148 = .ok (.getfield 66, 3) := by decide +kernel
theorem d_Model_serves_151 : decode b_Model_serves 151 = .ok (.iload_n 1, 1) := by decide +kernel
theorem d_Model_serves_152 : decode b_Model_serves 152 = .ok (.laload, 1) := by decide +kernel
theorem d_Model_serves_153 : decode b_Model_serves 153 = .ok (.lcmp, 1) := by decide +kernel
theorem d_Model_serves_154 : decode b_Model_serves 154 = .ok (.ifCond .ne 7, 3) := by decide +kernel
theorem d_Model_serves_157 : decode b_Model_serves 157 = .ok (.iconst 1, 1) := by decide +kernel
theorem d_Model_serves_158 : decode b_Model_serves 158 = .ok (.goto 4, 3) := by decide +kernel
theorem d_Model_serves_161 : decode b_Model_serves 161 = .ok (.iconst 0, 1) := by decide +kernel
theorem d_Model_serves_162 : decode b_Model_serves 162 = .ok (.istore 7, 2) := by decide +kernel
theorem d_Model_serves_164 : decode b_Model_serves 164 = .ok (.aload_n 0, 1) := by decide +kernel
theorem d_Model_serves_165 : decode b_Model_serves 165 = .ok (.iload 7, 2) := by decide +kernel
theorem d_Model_serves_167 : decode b_Model_serves 167 = .ok (.ifCond .eq 7, 3) := by decide +kernel
theorem d_Model_serves_170 : decode b_Model_serves 170 = .ok (.iconst 4, 1) := by decide +kernel
theorem d_Model_serves_171 : decode b_Model_serves 171 = .ok (.goto 4, 3) := by decide +kernel
theorem d_Model_serves_174 : decode b_Model_serves 174 = .ok (.iconst 3, 1) := by decide +kernel
theorem d_Model_serves_175 : decode b_Model_serves 175 = .ok (.aload_n 0, 1) := by decide +kernel
theorem d_Model_serves_176 : decode b_Model_serves 176 = .ok (.getfield 60, 3) := by decide +kernel
theorem d_Model_serves_179 : decode b_Model_serves 179 = .ok (.iload_n 1, 1) := by decide +kernel
theorem d_Model_serves_180 : decode b_Model_serves 180 = .ok (.iaload, 1) := by decide +kernel
theorem d_Model_serves_181 : decode b_Model_serves 181 = .ok (.iload_n 3, 1) := by decide +kernel
theorem d_Model_serves_182 : decode b_Model_serves 182 = .ok (.iconst 0, 1) := by decide +kernel
theorem d_Model_serves_183 : decode b_Model_serves 183 = .ok (.aload_n 0, 1) := by decide +kernel
theorem d_Model_serves_184 : decode b_Model_serves 184 = .ok (.getfield 63, 3) := by decide +kernel
theorem d_Model_serves_187 : decode b_Model_serves 187 = .ok (.iload_n 1, 1) := by decide +kernel
theorem d_Model_serves_188 : decode b_Model_serves 188 = .ok (.iaload, 1) := by decide +kernel
theorem d_Model_serves_189 : decode b_Model_serves 189 = .ok (.aload_n 0, 1) := by decide +kernel
theorem d_Model_serves_190 : decode b_Model_serves 190 = .ok (.getfield 69, 3) := by decide +kernel
theorem d_Model_serves_193 : decode b_Model_serves 193 = .ok (.iload_n 1, 1) := by decide +kernel
theorem d_Model_serves_194 : decode b_Model_serves 194 = .ok (.laload, 1) := by decide +kernel
theorem d_Model_serves_195 : decode b_Model_serves 195 = .ok (.aload_n 0, 1) := by decide +kernel
theorem d_Model_serves_196 : decode b_Model_serves 196 = .ok (.getfield 66, 3) := by decide +kernel
theorem d_Model_serves_199 : decode b_Model_serves 199 = .ok (.iload_n 1, 1) := by decide +kernel
theorem d_Model_serves_200 : decode b_Model_serves 200 = .ok (.laload, 1) := by decide +kernel
theorem d_Model_serves_201 : decode b_Model_serves 201 = .ok (.invokevirtual 138, 3) := by decide +kernel
theorem d_Model_serves_204 : decode b_Model_serves 204 = .ok (.iload_n 2, 1) := by decide +kernel
theorem d_Model_serves_205 : decode b_Model_serves 205 = .ok (.istore 8, 2) := by decide +kernel
theorem d_Model_serves_207 : decode b_Model_serves 207 = .ok (.iload 8, 2) := by decide +kernel
theorem d_Model_serves_209 : decode b_Model_serves 209 = .ok (.iload_n 2, 1) := by decide +kernel
theorem d_Model_serves_210 : decode b_Model_serves 210 = .ok (.iconst 2, 1) := by decide +kernel
theorem d_Model_serves_211 : decode b_Model_serves 211 = .ok (.iadd, 1) := by decide +kernel
theorem d_Model_serves_212 : decode b_Model_serves 212 = .ok (.if_icmp .ge 73, 3) := by decide +kernel
theorem d_Model_serves_215 : decode b_Model_serves 215 = .ok (.aload_n 0, 1) := by decide +kernel
theorem d_Model_serves_216 : decode b_Model_serves 216 = .ok (.getfield 81, 3) := by decide +kernel
theorem d_Model_serves_219 : decode b_Model_serves 219 = .ok (.iload 8, 2) := by decide +kernel
theorem d_Model_serves_221 : decode b_Model_serves 221 = .ok (.aload_n 0, 1) := by decide +kernel
theorem d_Model_serves_222 : decode b_Model_serves 222 = .ok (.getfield 81, 3) := by decide +kernel
theorem d_Model_serves_225 : decode b_Model_serves 225 = .ok (.iload 8, 2) := by decide +kernel
theorem d_Model_serves_227 : decode b_Model_serves 227 = .ok (.iconst 1, 1) := by decide +kernel
theorem d_Model_serves_228 : decode b_Model_serves 228 = .ok (.iadd, 1) := by decide +kernel
theorem d_Model_serves_229 : decode b_Model_serves 229 = .ok (.iaload, 1) := by decide +kernel
theorem d_Model_serves_230 : decode b_Model_serves 230 = .ok (.iastore, 1) := by decide +kernel
theorem d_Model_serves_231 : decode b_Model_serves 231 = .ok (.aload_n 0, 1) := by decide +kernel
theorem d_Model_serves_232 : decode b_Model_serves 232 = .ok (.getfield 84, 3) := by decide +kernel
theorem d_Model_serves_235 : decode b_Model_serves 235 = .ok (.iload 8, 2) := by decide +kernel
theorem d_Model_serves_237 : decode b_Model_serves 237 = .ok (.aload_n 0, 1) := by decide +kernel
theorem d_Model_serves_238 : decode b_Model_serves 238 = .ok (.getfield 84, 3) := by decide +kernel
theorem d_Model_serves_241 : decode b_Model_serves 241 = .ok (.iload 8, 2) := by decide +kernel
theorem d_Model_serves_243 : decode b_Model_serves 243 = .ok (.iconst 1, 1) := by decide +kernel
theorem d_Model_serves_244 : decode b_Model_serves 244 = .ok (.iadd, 1) := by decide +kernel
theorem d_Model_serves_245 : decode b_Model_serves 245 = .ok (.iaload, 1) := by decide +kernel
theorem d_Model_serves_246 : decode b_Model_serves 246 = .ok (.iastore, 1) := by decide +kernel
theorem d_Model_serves_247 : decode b_Model_serves 247 = .ok (.aload_n 0, 1) := by decide +kernel
theorem d_Model_serves_248 : decode b_Model_serves 248 = .ok (.getfield 87, 3) := by decide +kernel
theorem d_Model_serves_251 : decode b_Model_serves 251 = .ok (.iload 8, 2) := by decide +kernel
theorem d_Model_serves_253 : decode b_Model_serves 253 = .ok (.aload_n 0, 1) := by decide +kernel
theorem d_Model_serves_254 : decode b_Model_serves 254 = .ok (.getfield 87, 3) := by decide +kernel
theorem d_Model_serves_257 : decode b_Model_serves 257 = .ok (.iload 8, 2) := by decide +kernel
theorem d_Model_serves_259 : decode b_Model_serves 259 = .ok (.iconst 1, 1) := by decide +kernel
theorem d_Model_serves_260 : decode b_Model_serves 260 = .ok (.iadd, 1) := by decide +kernel
theorem d_Model_serves_261 : decode b_Model_serves 261 = .ok (.laload, 1) := by decide +kernel
theorem d_Model_serves_262 : decode b_Model_serves 262 = .ok (.lastore, 1) := by decide +kernel
theorem d_Model_serves_263 : decode b_Model_serves 263 = .ok (.aload_n 0, 1) := by decide +kernel
theorem d_Model_serves_264 : decode b_Model_serves 264 = .ok (.getfield 90, 3) := by decide +kernel
theorem d_Model_serves_267 : decode b_Model_serves 267 = .ok (.iload 8, 2) := by decide +kernel
theorem d_Model_serves_269 : decode b_Model_serves 269 = .ok (.aload_n 0, 1) := by decide +kernel
theorem d_Model_serves_270 : decode b_Model_serves 270 = .ok (.getfield 90, 3) := by decide +kernel
theorem d_Model_serves_273 : decode b_Model_serves 273 = .ok (.iload 8, 2) := by decide +kernel
theorem d_Model_serves_275 : decode b_Model_serves 275 = .ok (.iconst 1, 1) := by decide +kernel
theorem d_Model_serves_276 : decode b_Model_serves 276 = .ok (.iadd, 1) := by decide +kernel
theorem d_Model_serves_277 : decode b_Model_serves 277 = .ok (.laload, 1) := by decide +kernel
theorem d_Model_serves_278 : decode b_Model_serves 278 = .ok (.lastore, 1) := by decide +kernel
theorem d_Model_serves_279 : decode b_Model_serves 279 = .ok (.iinc 8 1, 3) := by decide +kernel
theorem d_Model_serves_282 : decode b_Model_serves 282 = .ok (.goto (-75), 3) := by decide +kernel
theorem d_Model_serves_285 : decode b_Model_serves 285 = .ok (.aload_n 0, 1) := by decide +kernel
theorem d_Model_serves_286 : decode b_Model_serves 286 = .ok (.getfield 78, 3) := by decide +kernel
theorem d_Model_serves_289 : decode b_Model_serves 289 = .ok (.iload_n 1, 1) := by decide +kernel
theorem d_Model_serves_290 : decode b_Model_serves 290 = .ok (.dup2, 1) := by decide +kernel
theorem d_Model_serves_291 : decode b_Model_serves 291 = .ok (.iaload, 1) := by decide +kernel
theorem d_Model_serves_292 : decode b_Model_serves 292 = .ok (.iconst 1, 1) := by decide +kernel
theorem d_Model_serves_293 : decode b_Model_serves 293 = .ok (.isub, 1) := by decide +kernel
theorem d_Model_serves_294 : decode b_Model_serves 294 = .ok (.iastore, 1) := by decide +kernel
theorem d_Model_serves_295 : decode b_Model_serves 295 = .ok (.iconst 1, 1) := by decide +kernel
theorem d_Model_serves_296 : decode b_Model_serves 296 = .ok (.ireturn, 1) := by decide +kernel
theorem d_Model_takesRequest_0 : decode b_Model_takesRequest 0 = .ok (.aload_n 0, 1) := by decide +kernel
theorem d_Model_takesRequest_1 : decode b_Model_takesRequest 1 = .ok (.aload_n 0, 1) := by decide +kernel
theorem d_Model_takesRequest_2 : decode b_Model_takesRequest 2 = .ok (.getfield 99, 3) := by decide +kernel
theorem d_Model_takesRequest_5 : decode b_Model_takesRequest 5 = .ok (.iload_n 1, 1) := by decide +kernel
theorem d_Model_takesRequest_6 : decode b_Model_takesRequest 6 = .ok (.iaload, 1) := by decide +kernel
theorem d_Model_takesRequest_7 : decode b_Model_takesRequest 7 = .ok (.invokevirtual 167, 3) := by decide +kernel
theorem d_Model_takesRequest_10 : decode b_Model_takesRequest 10 = .ok (.istore_n 2, 1) := by decide +kernel
theorem d_Model_takesRequest_11 : decode b_Model_takesRequest 11 = .ok (.iload_n 2, 1) := by decide +kernel
theorem d_Model_takesRequest_12 : decode b_Model_takesRequest 12 = .ok (.ifCond .ge 14, 3) := by decide +kernel
theorem d_Model_takesRequest_15 : decode b_Model_takesRequest 15 = .ok (.aload_n 0, 1) := by decide +kernel
theorem d_Model_takesRequest_16 : decode b_Model_takesRequest 16 = .ok (.aload_n 0, 1) := by decide +kernel
theorem d_Model_takesRequest_17 : decode b_Model_takesRequest 17 = .ok (.getfield 99, 3) := by decide +kernel
theorem d_Model_takesRequest_20 : decode b_Model_takesRequest 20 = .ok (.iload_n 1, 1) := by decide +kernel
theorem d_Model_takesRequest_21 : decode b_Model_takesRequest 21 = .ok (.iaload, 1) := by decide +kernel
theorem d_Model_takesRequest_22 : decode b_Model_takesRequest 22 = .ok (.invokevirtual 178, 3) := by decide +kernel
theorem d_Model_takesRequest_25 : decode b_Model_takesRequest 25 = .ok (.istore_n 2, 1) := by decide +kernel
theorem d_Model_takesRequest_26 : decode b_Model_takesRequest 26 = .ok (.iload_n 2, 1) := by decide +kernel
theorem d_Model_takesRequest_27 : decode b_Model_takesRequest 27 = .ok (.ifCond .ge 9, 3) := by decide +kernel
theorem d_Model_takesRequest_30 : decode b_Model_takesRequest 30 = .ok (.aload_n 0, 1) := by decide +kernel
theorem d_Model_takesRequest_31 : decode b_Model_takesRequest 31 = .ok (.invokevirtual 181, 3) := by decide +kernel
theorem d_Model_takesRequest_34 : decode b_Model_takesRequest 34 = .ok (.iconst 0, 1) := by decide +kernel
theorem d_Model_takesRequest_35 : decode b_Model_takesRequest 35 = .ok (.ireturn, 1) := by decide +kernel
theorem d_Model_takesRequest_36 : decode b_Model_takesRequest 36 = .ok (.iconst 3, 1) := by decide +kernel
theorem d_Model_takesRequest_37 : decode b_Model_takesRequest 37 = .ok (.iload_n 2, 1) := by decide +kernel
theorem d_Model_takesRequest_38 : decode b_Model_takesRequest 38 = .ok (.imul, 1) := by decide +kernel
theorem d_Model_takesRequest_39 : decode b_Model_takesRequest 39 = .ok (.aload_n 0, 1) := by decide +kernel
theorem d_Model_takesRequest_40 : decode b_Model_takesRequest 40 = .ok (.getfield 78, 3) := by decide +kernel
theorem d_Model_takesRequest_43 : decode b_Model_takesRequest 43 = .ok (.iload_n 2, 1) := by decide +kernel
theorem d_Model_takesRequest_44 : decode b_Model_takesRequest 44 = .ok (.iaload, 1) := by decide +kernel
theorem d_Model_takesRequest_45 : decode b_Model_takesRequest 45 = .ok (.iadd, 1) := by decide +kernel
theorem d_Model_takesRequest_46 : decode b_Model_takesRequest 46 = .ok (.istore_n 3, 1) := by decide +kernel
theorem d_Model_takesRequest_47 : decode b_Model_takesRequest 47 = .ok (.aload_n 0, 1) := by decide +kernel
theorem d_Model_takesRequest_48 : decode b_Model_takesRequest 48 = .ok (.getfield 81, 3) := by decide +kernel
theorem d_Model_takesRequest_51 : decode b_Model_takesRequest 51 = .ok (.iload_n 3, 1) := by decide +kernel
theorem d_Model_takesRequest_52 : decode b_Model_takesRequest 52 = .ok (.aload_n 0, 1) := by decide +kernel
theorem d_Model_takesRequest_53 : decode b_Model_takesRequest 53 = .ok (.getfield 102, 3) := by decide +kernel
theorem d_Model_takesRequest_56 : decode b_Model_takesRequest 56 = .ok (.iload_n 1, 1) := by decide +kernel
theorem d_Model_takesRequest_57 : decode b_Model_takesRequest 57 = .ok (.iaload, 1) := by decide +kernel
theorem d_Model_takesRequest_58 : decode b_Model_takesRequest 58 = .ok (.iastore, 1) := by decide +kernel
theorem d_Model_takesRequest_59 : decode b_Model_takesRequest 59 = .ok (.aload_n 0, 1) := by decide +kernel
theorem d_Model_takesRequest_60 : decode b_Model_takesRequest 60 = .ok (.getfield 84, 3) := by decide +kernel
theorem d_Model_takesRequest_63 : decode b_Model_takesRequest 63 = .ok (.iload_n 3, 1) := by decide +kernel
theorem d_Model_takesRequest_64 : decode b_Model_takesRequest 64 = .ok (.aload_n 0, 1) := by decide +kernel
theorem d_Model_takesRequest_65 : decode b_Model_takesRequest 65 = .ok (.getfield 96, 3) := by decide +kernel
theorem d_Model_takesRequest_68 : decode b_Model_takesRequest 68 = .ok (.iload_n 1, 1) := by decide +kernel
theorem d_Model_takesRequest_69 : decode b_Model_takesRequest 69 = .ok (.iaload, 1) := by decide +kernel
theorem d_Model_takesRequest_70 : decode b_Model_takesRequest 70 = .ok (.iastore, 1) := by decide +kernel
theorem d_Model_takesRequest_71 : decode b_Model_takesRequest 71 = .ok (.aload_n 0, 1) := by decide +kernel
theorem d_Model_takesRequest_72 : decode b_Model_takesRequest 72 = .ok (.getfield 87, 3) := by decide +kernel
theorem d_Model_takesRequest_75 : decode b_Model_takesRequest 75 = .ok (.iload_n 3, 1) := by decide +kernel
theorem d_Model_takesRequest_76 : decode b_Model_takesRequest 76 = .ok (.aload_n 0, 1) := by decide +kernel
theorem d_Model_takesRequest_77 : decode b_Model_takesRequest 77 = .ok (.getfield 111, 3) := by decide +kernel
theorem d_Model_takesRequest_80 : decode b_Model_takesRequest 80 = .ok (.iload_n 1, 1) := by decide +kernel
theorem d_Model_takesRequest_81 : decode b_Model_takesRequest 81 = .ok (.laload, 1) := by decide +kernel
theorem d_Model_takesRequest_82 : decode b_Model_takesRequest 82 = .ok (.lastore, 1) := by decide +kernel
theorem d_Model_takesRequest_83 : decode b_Model_takesRequest 83 = .ok (.aload_n 0, 1) := by decide +kernel
theorem d_Model_takesRequest_84 : decode b_Model_takesRequest 84 = .ok (.getfield 90, 3) := by decide +kernel
theorem d_Model_takesRequest_87 : decode b_Model_takesRequest 87 = .ok (.iload_n 3, 1) := by decide +kernel
theorem d_Model_takesRequest_88 : decode b_Model_takesRequest 88 = .ok (.aload_n 0, 1) := by decide +kernel
theorem d_Model_takesRequest_89 : decode b_Model_takesRequest 89 = .ok (.getfield 114, 3) := by decide +kernel
theorem d_Model_takesRequest_92 : decode b_Model_takesRequest 92 = .ok (.iload_n 1, 1) := by decide +kernel
theorem d_Model_takesRequest_93 : decode b_Model_takesRequest 93 = .ok (.laload, 1) := by decide +kernel
theorem d_Model_takesRequest_94 : decode b_Model_takesRequest 94 = .ok (.lastore, 1) := by decide +kernel
theorem d_Model_takesRequest_95 : decode b_Model_takesRequest 95 = .ok (.aload_n 0, 1) := by decide +kernel
theorem d_Model_takesRequest_96 : decode b_Model_takesRequest 96 = .ok (.getfield 78, 3) := by decide +kernel
theorem d_Model_takesRequest_99 : decode b_Model_takesRequest 99 = .ok (.iload_n 2, 1) := by decide +kernel
theorem d_Model_takesRequest_100 : decode b_Model_takesRequest 100 = .ok (.dup2, 1) := by decide +kernel
theorem d_Model_takesRequest_101 : decode b_Model_takesRequest 101 = .ok (.iaload, 1) := by decide +kernel
theorem d_Model_takesRequest_102 : decode b_Model_takesRequest 102 = .ok (.iconst 1, 1) := by decide +kernel
theorem d_Model_takesRequest_103 : decode b_Model_takesRequest 103 = .ok (.iadd, 1) := by decide +kernel
theorem d_Model_takesRequest_104 : decode b_Model_takesRequest 104 = .ok (.iastore, 1) := by decide +kernel
theorem d_Model_takesRequest_105 : decode b_Model_takesRequest 105 = .ok (.aload_n 0, 1) := by decide +kernel
theorem d_Model_takesRequest_106 : decode b_Model_takesRequest 106 = .ok (.iload_n 1, 1) := by decide +kernel
theorem d_Model_takesRequest_107 : decode b_Model_takesRequest 107 = .ok (.invokevirtual 130, 3) := by decide +kernel
theorem d_Model_takesRequest_110 : decode b_Model_takesRequest 110 = .ok (.aload_n 0, 1) := by decide +kernel
theorem d_Model_takesRequest_111 : decode b_Model_takesRequest 111 = .ok (.getfield 78, 3) := by decide +kernel
theorem d_Model_takesRequest_114 : decode b_Model_takesRequest 114 = .ok (.iload_n 2, 1) := by decide +kernel
theorem d_Model_takesRequest_115 : decode b_Model_takesRequest 115 = .ok (.iaload, 1) := by decide +kernel
theorem d_Model_takesRequest_116 : decode b_Model_takesRequest 116 = .ok (.iconst 1, 1) := by decide +kernel
theorem d_Model_takesRequest_117 : decode b_Model_takesRequest 117 = .ok (.if_icmp .ne 9, 3) := by decide +kernel
theorem d_Model_takesRequest_120 : decode b_Model_takesRequest 120 = .ok (.aload_n 0, 1) := by decide +kernel
theorem d_Model_takesRequest_121 : decode b_Model_takesRequest 121 = .ok (.iload_n 2, 1) := by decide +kernel
theorem d_Model_takesRequest_122 : decode b_Model_takesRequest 122 = .ok (.invokevirtual 184, 3) := by decide +kernel
theorem d_Model_takesRequest_125 : decode b_Model_takesRequest 125 = .ok (.pop, 1) := by decide +kernel
theorem d_Model_takesRequest_126 : decode b_Model_takesRequest 126 = .ok (.iconst 1, 1) := by decide +kernel
theorem d_Model_takesRequest_127 : decode b_Model_takesRequest 127 = .ok (.ireturn, 1) := by decide +kernel
theorem d_Model_takesBack_0 : decode b_Model_takesBack 0 = .ok (.aload_n 0, 1) := by decide +kernel
theorem d_Model_takesBack_1 : decode b_Model_takesBack 1 = .ok (.getfield 99, 3) := by decide +kernel
theorem d_Model_takesBack_4 : decode b_Model_takesBack 4 = .ok (.iload_n 1, 1) := by decide +kernel
theorem d_Model_takesBack_5 : decode b_Model_takesBack 5 = .ok (.iaload, 1) := by decide +kernel
theorem d_Model_takesBack_6 : decode b_Model_takesBack 6 = .ok (.istore_n 2, 1) := by decide +kernel
theorem d_Model_takesBack_7 : decode b_Model_takesBack 7 = .ok (.aload_n 0, 1) := by decide +kernel
theorem d_Model_takesBack_8 : decode b_Model_takesBack 8 = .ok (.iload_n 2, 1) := by decide +kernel
theorem d_Model_takesBack_9 : decode b_Model_takesBack 9 = .ok (.invokevirtual 167, 3) := by decide +kernel
theorem d_Model_takesBack_12 : decode b_Model_takesBack 12 = .ok (.istore_n 3, 1) := by decide +kernel
theorem d_Model_takesBack_13 : decode b_Model_takesBack 13 = .ok (.aload_n 0, 1) := by decide +kernel
theorem d_Model_takesBack_14 : decode b_Model_takesBack 14 = .ok (.getfield 63, 3) := by decide +kernel
theorem d_Model_takesBack_17 : decode b_Model_takesBack 17 = .ok (.iload_n 3, 1) := by decide +kernel
theorem d_Model_takesBack_18 : decode b_Model_takesBack 18 = .ok (.aload_n 0, 1) := by decide +kernel
theorem d_Model_takesBack_19 : decode b_Model_takesBack 19 = .ok (.getfield 108, 3) := by decide +kernel
theorem d_Model_takesBack_22 : decode b_Model_takesBack 22 = .ok (.iload_n 1, 1) := by decide +kernel
theorem d_Model_takesBack_23 : decode b_Model_takesBack 23 = .ok (.iaload, 1) := by decide +kernel
theorem d_Model_takesBack_24 : decode b_Model_takesBack 24 = .ok (.iastore, 1) := by decide +kernel
theorem d_Model_takesBack_25 : decode b_Model_takesBack 25 = .ok (.aload_n 0, 1) := by decide +kernel
theorem d_Model_takesBack_26 : decode b_Model_takesBack 26 = .ok (.getfield 66, 3) := by decide +kernel
theorem d_Model_takesBack_29 : decode b_Model_takesBack 29 = .ok (.iload_n 3, 1) := by decide +kernel
theorem d_Model_takesBack_30 : decode b_Model_takesBack 30 = .ok (.aload_n 0, 1) := by decide +kernel
theorem d_Model_takesBack_31 : decode b_Model_takesBack 31 = .ok (.getfield 114, 3) := by decide +kernel
theorem d_Model_takesBack_34 : decode b_Model_takesBack 34 = .ok (.iload_n 1, 1) := by decide +kernel
theorem d_Model_takesBack_35 : decode b_Model_takesBack 35 = .ok (.laload, 1) := by decide +kernel
theorem d_Model_takesBack_36 : decode b_Model_takesBack 36 = .ok (.lastore, 1) := by decide +kernel
theorem d_Model_takesBack_37 : decode b_Model_takesBack 37 = .ok (.aload_n 0, 1) := by decide +kernel
theorem d_Model_takesBack_38 : decode b_Model_takesBack 38 = .ok (.getfield 69, 3) := by decide +kernel
theorem d_Model_takesBack_41 : decode b_Model_takesBack 41 = .ok (.iload_n 3, 1) := by decide +kernel
theorem d_Model_takesBack_42 : decode b_Model_takesBack 42 = .ok (.aload_n 0, 1) := by decide +kernel
theorem d_Model_takesBack_43 : decode b_Model_takesBack 43 = .ok (.getfield 111, 3) := by decide +kernel
theorem d_Model_takesBack_46 : decode b_Model_takesBack 46 = .ok (.iload_n 1, 1) := by decide +kernel
theorem d_Model_takesBack_47 : decode b_Model_takesBack 47 = .ok (.laload, 1) := by decide +kernel
theorem d_Model_takesBack_48 : decode b_Model_takesBack 48 = .ok (.lastore, 1) := by decide +kernel
theorem d_Model_takesBack_49 : decode b_Model_takesBack 49 = .ok (.aload_n 0, 1) := by decide +kernel
theorem d_Model_takesBack_50 : decode b_Model_takesBack 50 = .ok (.getfield 72, 3) := by decide +kernel
theorem d_Model_takesBack_53 : decode b_Model_takesBack 53 = .ok (.iload_n 3, 1) := by decide +kernel
theorem d_Model_takesBack_54 : decode b_Model_takesBack 54 = .ok (.iconst (-1), 1) := by decide +kernel
theorem d_Model_takesBack_55 : decode b_Model_takesBack 55 = .ok (.iastore, 1) := by decide +kernel
theorem d_Model_takesBack_56 : decode b_Model_takesBack 56 = .ok (.aload_n 0, 1) := by decide +kernel
theorem d_Model_takesBack_57 : decode b_Model_takesBack 57 = .ok (.getfield 75, 3) := by decide +kernel
theorem d_Model_takesBack_60 : decode b_Model_takesBack 60 = .ok (.iload_n 3, 1) := by decide +kernel
theorem d_Model_takesBack_61 : decode b_Model_takesBack 61 = .ok (.iconst 0, 1) := by decide +kernel
theorem d_Model_takesBack_62 : decode b_Model_takesBack 62 = .ok (.bastore, 1) := by decide +kernel
theorem d_Model_takesBack_63 : decode b_Model_takesBack 63 = .ok (.aload_n 0, 1) := by decide +kernel
theorem d_Model_takesBack_64 : decode b_Model_takesBack 64 = .ok (.iload_n 1, 1) := by decide +kernel
theorem d_Model_takesBack_65 : decode b_Model_takesBack 65 = .ok (.invokevirtual 130, 3) := by decide +kernel
theorem d_Model_takesBack_68 : decode b_Model_takesBack 68 = .ok (.aload_n 0, 1) := by decide +kernel
theorem d_Model_takesBack_69 : decode b_Model_takesBack 69 = .ok (.iload_n 2, 1) := by decide +kernel
theorem d_Model_takesBack_70 : decode b_Model_takesBack 70 = .ok (.invokevirtual 188, 3) := by decide +kernel
theorem d_Model_takesBack_73 : decode b_Model_takesBack 73 = .ok (.iconst 1, 1) := by decide +kernel
theorem d_Model_takesBack_74 : decode b_Model_takesBack 74 = .ok (.istore 4, 2) := by decide +kernel
theorem d_Model_takesBack_76 : decode b_Model_takesBack 76 = .ok (.iload 4, 2) := by decide +kernel
theorem d_Model_takesBack_78 : decode b_Model_takesBack 78 = .ok (.ifCond .eq 22, 3) := by decide +kernel
theorem d_Model_takesBack_81 : decode b_Model_takesBack 81 = .ok (.aload_n 0, 1) := by decide +kernel
theorem d_Model_takesBack_82 : decode b_Model_takesBack 82 = .ok (.getfield 78, 3) := by decide +kernel
theorem d_Model_takesBack_85 : decode b_Model_takesBack 85 = .ok (.iload_n 3, 1) := by decide +kernel
theorem d_Model_takesBack_86 : decode b_Model_takesBack 86 = .ok (.iaload, 1) := by decide +kernel
theorem d_Model_takesBack_87 : decode b_Model_takesBack 87 = .ok (.ifCond .le 13, 3) := by decide +kernel
theorem d_Model_takesBack_90 : decode b_Model_takesBack 90 = .ok (.aload_n 0, 1) := by decide +kernel
theorem d_Model_takesBack_91 : decode b_Model_takesBack 91 = .ok (.iload_n 3, 1) := by decide +kernel
theorem d_Model_takesBack_92 : decode b_Model_takesBack 92 = .ok (.invokevirtual 184, 3) := by decide +kernel
theorem d_Model_takesBack_95 : decode b_Model_takesBack 95 = .ok (.istore 4, 2) := by decide +kernel
theorem d_Model_takesBack_97 : decode b_Model_takesBack 97 = .ok (.goto (-21), 3) := by decide +kernel
theorem d_Model_takesBack_100 : decode b_Model_takesBack 100 = .ok (.return_, 1) := by decide +kernel
theorem d_Model_answered_0 : decode b_Model_answered 0 = .ok (.aload_n 0, 1) := by decide +kernel
theorem d_Model_answered_1 : decode b_Model_answered 1 = .ok (.getfield 102, 3) := by decide +kernel
theorem d_Model_answered_4 : decode b_Model_answered 4 = .ok (.iload_n 1, 1) := by decide +kernel
theorem d_Model_answered_5 : decode b_Model_answered 5 = .ok (.iaload, 1) := by decide +kernel
theorem d_Model_answered_6 : decode b_Model_answered 6 = .ok (.istore_n 2, 1) := by decide +kernel
theorem d_Model_answered_7 : decode b_Model_answered 7 = .ok (.aload_n 0, 1) := by decide +kernel
theorem d_Model_answered_8 : decode b_Model_answered 8 = .ok (.iload_n 2, 1) := by decide +kernel
theorem d_Model_answered_9 : decode b_Model_answered 9 = .ok (.aload_n 0, 1) := by decide +kernel
theorem d_Model_answered_10 : decode b_Model_answered 10 = .ok (.getfield 99, 3) := by decide +kernel
theorem d_Model_answered_13 : decode b_Model_answered 13 = .ok (.iload_n 1, 1) := by decide +kernel
theorem d_Model_answered_14 : decode b_Model_answered 14 = .ok (.iaload, 1) := by decide +kernel
theorem d_Model_answered_15 : decode b_Model_answered 15 = .ok (.invokevirtual 191, 3) := by decide +kernel
theorem d_Model_answered_18 : decode b_Model_answered 18 = .ok (.istore_n 3, 1) := by decide +kernel
theorem d_Model_answered_19 : decode b_Model_answered 19 = .ok (.aload_n 0, 1) := by decide +kernel
theorem d_Model_answered_20 : decode b_Model_answered 20 = .ok (.getfield 96, 3) := by decide +kernel
theorem d_Model_answered_23 : decode b_Model_answered 23 = .ok (.iload_n 1, 1) := by decide +kernel
theorem d_Model_answered_24 : decode b_Model_answered 24 = .ok (.iaload, 1) := by decide +kernel
theorem d_Model_answered_25 : decode b_Model_answered 25 = .ok (.iconst 4, 1) := by decide +kernel
theorem d_Model_answered_26 : decode b_Model_answered 26 = .ok (.if_icmp .ne 7, 3) := by decide +kernel
theorem d_Model_answered_29 : decode b_Model_answered 29 = .ok (.iconst 1, 1) := by decide +kernel
theorem d_Model_answered_30 : decode b_Model_answered 30 = .ok (.goto 4, 3) := by decide +kernel
theorem d_Model_answered_33 : decode b_Model_answered 33 = .ok (.iconst 0, 1) := by decide +kernel
theorem d_Model_answered_34 : decode b_Model_answered 34 = .ok (.istore 4, 2) := by decide +kernel
theorem d_Model_answered_36 : decode b_Model_answered 36 = .ok (.aload_n 0, 1) := by decide +kernel
theorem d_Model_answered_37 : decode b_Model_answered 37 = .ok (.getfield 45, 3) := by decide +kernel
theorem d_Model_answered_40 : decode b_Model_answered 40 = .ok (.iload_n 3, 1) := by decide +kernel
theorem d_Model_answered_41 : decode b_Model_answered 41 = .ok (.aload_n 0, 1) := by decide +kernel
theorem d_Model_answered_42 : decode b_Model_answered 42 = .ok (.getfield 17, 3) := by decide +kernel
theorem d_Model_answered_45 : decode b_Model_answered 45 = .ok (.iload_n 2, 1) := by decide +kernel
theorem d_Model_answered_46 : decode b_Model_answered 46 = .ok (.iaload, 1) := by decide +kernel
theorem d_Model_answered_47 : decode b_Model_answered 47 = .ok (.ifCond .eq 7, 3) := by decide +kernel
theorem d_Model_answered_50 : decode b_Model_answered 50 = .ok (.iconst 1, 1) := by decide +kernel
theorem d_Model_answered_51 : decode b_Model_answered 51 = .ok (.goto 4, 3) := by decide +kernel
theorem d_Model_answered_54 : decode b_Model_answered 54 = .ok (.iconst 0, 1) := by decide +kernel
theorem d_Model_answered_55 : decode b_Model_answered 55 = .ok (.bastore, 1) := by decide +kernel
theorem d_Model_answered_56 : decode b_Model_answered 56 = .ok (.aload_n 0, 1) := by decide +kernel
theorem d_Model_answered_57 : decode b_Model_answered 57 = .ok (.getfield 54, 3) := by decide +kernel
theorem d_Model_answered_60 : decode b_Model_answered 60 = .ok (.iload_n 3, 1) := by decide +kernel
theorem d_Model_answered_61 : decode b_Model_answered 61 = .ok (.aload_n 0, 1) := by decide +kernel
theorem d_Model_answered_62 : decode b_Model_answered 62 = .ok (.getfield 111, 3) := by decide +kernel
theorem d_Model_answered_65 : decode b_Model_answered 65 = .ok (.iload_n 1, 1) := by decide +kernel
theorem d_Model_answered_66 : decode b_Model_answered 66 = .ok (.laload, 1) := by decide +kernel
theorem d_Model_answered_67 : decode b_Model_answered 67 = .ok (.lastore, 1) := by decide +kernel
theorem d_Model_answered_68 : decode b_Model_answered 68 = .ok (.aload_n 0, 1) := by decide +kernel
theorem d_Model_answered_69 : decode b_Model_answered 69 = .ok (.getfield 48, 3) := by decide +kernel
theorem d_Model_answered_72 : decode b_Model_answered 72 = .ok (.iload_n 3, 1) := by decide +kernel
theorem d_Model_answered_73 : decode b_Model_answered 73 = .ok (.iload 4, 2) := by decide +kernel
theorem d_Model_answered_75 : decode b_Model_answered 75 = .ok (.ifCond .eq 12, 3) := by decide +kernel
theorem d_Model_answered_78 : decode b_Model_answered 78 = .ok (.aload_n 0, 1) := by decide +kernel
theorem d_Model_answered_79 : decode b_Model_answered 79 = .ok (.getfield 48, 3) := by decide +kernel
theorem d_Model_answered_82 : decode b_Model_answered 82 = .ok (.iload_n 3, 1) := by decide +kernel
theorem d_Model_answered_83 : decode b_Model_answered 83 = .ok (.iaload, 1) := by decide +kernel
theorem d_Model_answered_84 : decode b_Model_answered 84 = .ok (.goto 9, 3) := by decide +kernel
theorem d_Model_answered_87 : decode b_Model_answered 87 = .ok (.aload_n 0, 1) := by decide +kernel
theorem d_Model_answered_88 : decode b_Model_answered 88 = .ok (.getfield 108, 3) := by decide +kernel
theorem d_Model_answered_91 : decode b_Model_answered 91 = .ok (.iload_n 1, 1) := by decide +kernel
theorem d_Model_answered_92 : decode b_Model_answered 92 = .ok (.iaload, 1) := by decide +kernel
theorem d_Model_answered_93 : decode b_Model_answered 93 = .ok (.iastore, 1) := by decide +kernel
theorem d_Model_answered_94 : decode b_Model_answered 94 = .ok (.aload_n 0, 1) := by decide +kernel
theorem d_Model_answered_95 : decode b_Model_answered 95 = .ok (.getfield 51, 3) := by decide +kernel
theorem d_Model_answered_98 : decode b_Model_answered 98 = .ok (.iload_n 3, 1) := by decide +kernel
theorem d_Model_answered_99 : decode b_Model_answered 99 = .ok (.iload 4, 2) := by decide +kernel
theorem d_Model_answered_101 : decode b_Model_answered 101 = .ok (.ifCond .eq 12, 3) := by decide +kernel
theorem d_Model_answered_104 : decode b_Model_answered 104 = .ok (.aload_n 0, 1) := by decide +kernel
theorem d_Model_answered_105 : decode b_Model_answered 105 = .ok (.getfield 51, 3) := by decide +kernel
theorem d_Model_answered_108 : decode b_Model_answered 108 = .ok (.iload_n 3, 1) := by decide +kernel
theorem d_Model_answered_109 : decode b_Model_answered 109 = .ok (.laload, 1) := by decide +kernel
theorem d_Model_answered_110 : decode b_Model_answered 110 = .ok (.goto 9, 3) := by decide +kernel
theorem d_Model_answered_113 : decode b_Model_answered 113 = .ok (.aload_n 0, 1) := by decide +kernel
theorem d_Model_answered_114 : decode b_Model_answered 114 = .ok (.getfield 114, 3) := by decide +kernel
theorem d_Model_answered_117 : decode b_Model_answered 117 = .ok (.iload_n 1, 1) := by decide +kernel
theorem d_Model_answered_118 : decode b_Model_answered 118 = .ok (.laload, 1) := by decide +kernel
theorem d_Model_answered_119 : decode b_Model_answered 119 = .ok (.lastore, 1) := by decide +kernel
theorem d_Model_answered_120 : decode b_Model_answered 120 = .ok (.aload_n 0, 1) := by decide +kernel
theorem d_Model_answered_121 : decode b_Model_answered 121 = .ok (.iload_n 2, 1) := by decide +kernel
theorem d_Model_answered_122 : decode b_Model_answered 122 = .ok (.iload_n 3, 1) := by decide +kernel
theorem d_Model_answered_123 : decode b_Model_answered 123 = .ok (.invokevirtual 161, 3) := by decide +kernel
theorem d_Model_answered_126 : decode b_Model_answered 126 = .ok (.return_, 1) := by decide +kernel
theorem d_Model_gives_0 : decode b_Model_gives 0 = .ok (.aload_n 0, 1) := by decide +kernel
theorem d_Model_gives_1 : decode b_Model_gives 1 = .ok (.getfield 102, 3) := by decide +kernel
theorem d_Model_gives_4 : decode b_Model_gives 4 = .ok (.iload_n 1, 1) := by decide +kernel
theorem d_Model_gives_5 : decode b_Model_gives 5 = .ok (.iaload, 1) := by decide +kernel
theorem d_Model_gives_6 : decode b_Model_gives 6 = .ok (.istore_n 2, 1) := by decide +kernel
theorem d_Model_gives_7 : decode b_Model_gives 7 = .ok (.aload_n 0, 1) := by decide +kernel
theorem d_Model_gives_8 : decode b_Model_gives 8 = .ok (.getfield 99, 3) := by decide +kernel
theorem d_Model_gives_11 : decode b_Model_gives 11 = .ok (.iload_n 1, 1) := by decide +kernel
theorem d_Model_gives_12 : decode b_Model_gives 12 = .ok (.iaload, 1) := by decide +kernel
theorem d_Model_gives_13 : decode b_Model_gives 13 = .ok (.istore_n 3, 1) := by decide +kernel
theorem d_Model_gives_14 : decode b_Model_gives 14 = .ok (.aload_n 0, 1) := by decide +kernel
theorem d_Model_gives_15 : decode b_Model_gives 15 = .ok (.iload_n 2, 1) := by decide +kernel
theorem d_Model_gives_16 : decode b_Model_gives 16 = .ok (.iload_n 3, 1) := by decide +kernel
theorem d_Model_gives_17 : decode b_Model_gives 17 = .ok (.invokevirtual 134, 3) := by decide +kernel
theorem d_Model_gives_20 : decode b_Model_gives 20 = .ok (.istore 4, 2) := by decide +kernel
theorem d_Model_gives_22 : decode b_Model_gives 22 = .ok (.iload 4, 2) := by decide +kernel
theorem d_Model_gives_24 : decode b_Model_gives 24 = .ok (.ifCond .lt 17, 3) := by decide +kernel
theorem d_Model_gives_27 : decode b_Model_gives 27 = .ok (.aload_n 0, 1) := by decide +kernel
theorem d_Model_gives_28 : decode b_Model_gives 28 = .ok (.getfield 45, 3) := by decide +kernel
theorem d_Model_gives_31 : decode b_Model_gives 31 = .ok (.iload 4, 2) := by decide +kernel
theorem d_Model_gives_33 : decode b_Model_gives 33 = .ok (.baload, 1) := by decide +kernel
theorem d_Model_gives_34 : decode b_Model_gives 34 = .ok (.ifCond .eq 7, 3) := by decide +kernel
theorem d_Model_gives_37 : decode b_Model_gives 37 = .ok (.iconst 1, 1) := by decide +kernel
theorem d_Model_gives_38 : decode b_Model_gives 38 = .ok (.goto 4, 3) := by decide +kernel
theorem d_Model_gives_41 : decode b_Model_gives 41 = .ok (.iconst 0, 1) := by decide +kernel
theorem d_Model_gives_42 : decode b_Model_gives 42 = .ok (.istore 5, 2) := by decide +kernel
theorem d_Model_gives_44 : decode b_Model_gives 44 = .ok (.iload 5, 2) := by decide +kernel
theorem d_Model_gives_46 : decode b_Model_gives 46 = .ok (.ifCond .ne 24, 3) := by decide +kernel
theorem d_Model_gives_49 : decode b_Model_gives 49 = .ok (.aload_n 0, 1) := by decide +kernel
theorem d_Model_gives_50 : decode b_Model_gives 50 = .ok (.getfield 13, 3) := by decide +kernel
theorem d_Model_gives_53 : decode b_Model_gives 53 = .ok (.iload_n 2, 1) := by decide +kernel
theorem d_Model_gives_54 : decode b_Model_gives 54 = .ok (.baload, 1) := by decide +kernel
theorem d_Model_gives_55 : decode b_Model_gives 55 = .ok (.ifCond .eq 15, 3) := by decide +kernel
theorem d_Model_gives_58 : decode b_Model_gives 58 = .ok (.aload_n 0, 1) := by decide +kernel
theorem d_Model_gives_59 : decode b_Model_gives 59 = .ok (.getfield 21, 3) := by decide +kernel
theorem d_Model_gives_62 : decode b_Model_gives 62 = .ok (.iload_n 2, 1) := by decide +kernel
theorem d_Model_gives_63 : decode b_Model_gives 63 = .ok (.iaload, 1) := by decide +kernel
theorem d_Model_gives_64 : decode b_Model_gives 64 = .ok (.iload_n 3, 1) := by decide +kernel
theorem d_Model_gives_65 : decode b_Model_gives 65 = .ok (.if_icmp .ne 5, 3) := by decide +kernel
theorem d_Model_gives_68 : decode b_Model_gives 68 = .ok (.iconst 0, 1) := by decide +kernel
theorem d_Model_gives_69 : decode b_Model_gives 69 = .ok (.ireturn, 1) := by decide +kernel
theorem d_Model_gives_70 : decode b_Model_gives 70 = .ok (.aload_n 0, 1) := by decide +kernel
theorem d_Model_gives_71 : decode b_Model_gives 71 = .ok (.getfield 96, 3) := by decide +kernel
theorem d_Model_gives_74 : decode b_Model_gives 74 = .ok (.iload_n 1, 1) := by decide +kernel
theorem d_Model_gives_75 : decode b_Model_gives 75 = .ok (.iaload, 1) := by decide +kernel
theorem d_Model_gives_76 : decode b_Model_gives 76 = .ok (.iconst 5, 1) := by decide +kernel
theorem d_Model_gives_77 : decode b_Model_gives 77 = .ok (.if_icmp .ne 7, 3) := by decide +kernel
theorem d_Model_gives_80 : decode b_Model_gives 80 = .ok (.iconst 1, 1) := by decide +kernel
theorem d_Model_gives_81 : decode b_Model_gives 81 = .ok (.goto 4, 3) := by decide +kernel
theorem d_Model_gives_84 : decode b_Model_gives 84 = .ok (.iconst 0, 1) := by decide +kernel
theorem d_Model_gives_85 : decode b_Model_gives 85 = .ok (.istore 6, 2) := by decide +kernel
theorem d_Model_gives_87 : decode b_Model_gives 87 = .ok (.aload_n 0, 1) := by decide +kernel
theorem d_Model_gives_88 : decode b_Model_gives 88 = .ok (.getfield 111, 3) := by decide +kernel
theorem d_Model_gives_91 : decode b_Model_gives 91 = .ok (.iload_n 1, 1) := by decide +kernel
theorem d_Model_gives_92 : decode b_Model_gives 92 = .ok (.laload, 1) := by decide +kernel
theorem d_Model_gives_93 : decode b_Model_gives 93 = .ok (.lstore 7, 2) := by decide +kernel
theorem d_Model_gives_95 : decode b_Model_gives 95 = .ok (.aload_n 0, 1) := by decide +kernel
theorem d_Model_gives_96 : decode b_Model_gives 96 = .ok (.iload_n 1, 1) := by decide +kernel
theorem d_Model_gives_97 : decode b_Model_gives 97 = .ok (.invokevirtual 130, 3) := by decide +kernel
theorem d_Model_gives_100 : decode b_Model_gives 100 = .ok (.iload 5, 2) := by decide +kernel
theorem d_Model_gives_102 : decode b_Model_gives 102 = .ok (.ifCond .ne 5, 3) := by decide +kernel
theorem d_Model_gives_105 : decode b_Model_gives 105 = .ok (.iconst 1, 1) := by decide +kernel
theorem d_Model_gives_106 : decode b_Model_gives 106 = .ok (.ireturn, 1) := by decide +kernel
theorem d_Model_gives_107 : decode b_Model_gives 107 = .ok (.iload 6, 2) := by decide +kernel
theorem d_Model_gives_109 : decode b_Model_gives 109 = .ok (.ifCond .eq 49, 3) := by decide +kernel
theorem d_Model_gives_112 : decode b_Model_gives 112 = .ok (.aload_n 0, 1) := by decide +kernel
theorem d_Model_gives_113 : decode b_Model_gives 113 = .ok (.getfield 54, 3) := by decide +kernel
theorem d_Model_gives_116 : decode b_Model_gives 116 = .ok (.iload 4, 2) := by decide +kernel
theorem d_Model_gives_118 : decode b_Model_gives 118 = .ok (.aload_n 0, 1) := by decide +kernel
theorem d_Model_gives_119 : decode b_Model_gives 119 = .ok (.getfield 54, 3) := by decide +kernel
theorem d_Model_gives_122 : decode b_Model_gives 122 = .ok (.iload 4, 2) := by decide +kernel
theorem d_Model_gives_124 : decode b_Model_gives 124 = .ok (.laload, 1) := by decide +kernel
theorem d_Model_gives_125 : decode b_Model_gives 125 = .ok (.aload_n 0, 1) := by decide +kernel
theorem d_Model_gives_126 : decode b_Model_gives 126 = .ok (.getfield 51, 3) := by decide +kernel
theorem d_Model_gives_129 : decode b_Model_gives 129 = .ok (.iload 4, 2) := by decide +kernel
theorem d_Model_gives_131 : decode b_Model_gives 131 = .ok (.laload, 1) := by decide +kernel
theorem d_Model_gives_132 : decode b_Model_gives 132 = .ok (.aload_n 0, 1) := by decide +kernel
theorem d_Model_gives_133 : decode b_Model_gives 133 = .ok (.getfield 117, 3) := by decide +kernel
theorem d_Model_gives_136 : decode b_Model_gives 136 = .ok (.i2l, 1) := by decide +kernel
theorem d_Model_gives_137 : decode b_Model_gives 137 = .ok (.ladd, 1) := by decide +kernel
theorem d_Model_gives_138 : decode b_Model_gives 138 = .ok (.lload 7, 2) := by decide +kernel
theorem d_Model_gives_140 : decode b_Model_gives 140 = .ok (.invokestatic 142, 3) := by decide +kernel
theorem d_Model_gives_143 : decode b_Model_gives 143 = .ok (.invokestatic 142, 3) := by decide +kernel
theorem d_Model_gives_146 : decode b_Model_gives 146 = .ok (.lastore, 1) := by decide +kernel
theorem d_Model_gives_147 : decode b_Model_gives 147 = .ok (.aload_n 0, 1) := by decide +kernel
theorem d_Model_gives_148 : decode b_Model_gives 148 = .ok (.getfield 45, 3) := by decide +kernel
theorem d_Model_gives_151 : decode b_Model_gives 151 = .ok (.iload 4, 2) := by decide +kernel
theorem d_Model_gives_153 : decode b_Model_gives 153 = .ok (.iconst 0, 1) := by decide +kernel
theorem d_Model_gives_154 : decode b_Model_gives 154 = .ok (.bastore, 1) := by decide +kernel
theorem d_Model_gives_155 : decode b_Model_gives 155 = .ok (.goto 11, 3) := by decide +kernel
theorem d_Model_gives_158 : decode b_Model_gives 158 = .ok (.aload_n 0, 1) := by decide +kernel
theorem d_Model_gives_159 : decode b_Model_gives 159 = .ok (.getfield 42, 3) := by decide +kernel
theorem d_Model_gives_162 : decode b_Model_gives 162 = .ok (.iload 4, 2) := by decide +kernel
theorem d_Model_gives_164 : decode b_Model_gives 164 = .ok (.iconst (-1), 1) := by decide +kernel
theorem d_Model_gives_165 : decode b_Model_gives 165 = .ok (.iastore, 1) := by decide +kernel
theorem d_Model_gives_166 : decode b_Model_gives 166 = .ok (.aload_n 0, 1) := by decide +kernel
theorem d_Model_gives_167 : decode b_Model_gives 167 = .ok (.iload 6, 2) := by decide +kernel
theorem d_Model_gives_169 : decode b_Model_gives 169 = .ok (.ifCond .eq 8, 3) := by decide +kernel
theorem d_Model_gives_172 : decode b_Model_gives 172 = .ok (.bipush 8, 2) := by decide +kernel
theorem d_Model_gives_174 : decode b_Model_gives 174 = .ok (.goto 5, 3) := by decide +kernel
theorem d_Model_gives_177 : decode b_Model_gives 177 = .ok (.bipush 7, 2) := by decide +kernel
theorem d_Model_gives_179 : decode b_Model_gives 179 = .ok (.iload_n 3, 1) := by decide +kernel
theorem d_Model_gives_180 : decode b_Model_gives 180 = .ok (.iload_n 2, 1) := by decide +kernel
theorem d_Model_gives_181 : decode b_Model_gives 181 = .ok (.iconst 1, 1) := by decide +kernel
theorem d_Model_gives_182 : decode b_Model_gives 182 = .ok (.aload_n 0, 1) := by decide +kernel
theorem d_Model_gives_183 : decode b_Model_gives 183 = .ok (.getfield 48, 3) := by decide +kernel
theorem d_Model_gives_186 : decode b_Model_gives 186 = .ok (.iload 4, 2) := by decide +kernel
theorem d_Model_gives_188 : decode b_Model_gives 188 = .ok (.iaload, 1) := by decide +kernel
theorem d_Model_gives_189 : decode b_Model_gives 189 = .ok (.aload_n 0, 1) := by decide +kernel
theorem d_Model_gives_190 : decode b_Model_gives 190 = .ok (.getfield 54, 3) := by decide +kernel
theorem d_Model_gives_193 : decode b_Model_gives 193 = .ok (.iload 4, 2) := by decide +kernel
theorem d_Model_gives_195 : decode b_Model_gives 195 = .ok (.laload, 1) := by decide +kernel
theorem d_Model_gives_196 : decode b_Model_gives 196 = .ok (.aload_n 0, 1) := by decide +kernel
theorem d_Model_gives_197 : decode b_Model_gives 197 = .ok (.getfield 51, 3) := by decide +kernel
theorem d_Model_gives_200 : decode b_Model_gives 200 = .ok (.iload 4, 2) := by decide +kernel
theorem d_Model_gives_202 : decode b_Model_gives 202 = .ok (.laload, 1) := by decide +kernel
theorem d_Model_gives_203 : decode b_Model_gives 203 = .ok (.invokevirtual 138, 3) := by decide +kernel
theorem d_Model_gives_206 : decode b_Model_gives 206 = .ok (.iconst 1, 1) := by decide +kernel
theorem d_Model_gives_207 : decode b_Model_gives 207 = .ok (.ireturn, 1) := by decide +kernel
theorem d_Model_deliver_0 : decode b_Model_deliver 0 = .ok (.aload_n 0, 1) := by decide +kernel
theorem d_Model_deliver_1 : decode b_Model_deliver 1 = .ok (.iconst 0, 1) := by decide +kernel
theorem d_Model_deliver_2 : decode b_Model_deliver 2 = .ok (.putfield 124, 3) := by decide +kernel
theorem d_Model_deliver_5 : decode b_Model_deliver 5 = .ok (.iload_n 1, 1) := by decide +kernel
theorem d_Model_deliver_6 : decode b_Model_deliver 6 = .ok (.iconst 0, 1) := by decide +kernel
theorem d_Model_deliver_7 : decode b_Model_deliver 7 = .ok (.aload_n 0, 1) := by decide +kernel
theorem d_Model_deliver_8 : decode b_Model_deliver 8 = .ok (.getfield 127, 3) := by decide +kernel
theorem d_Model_deliver_11 : decode b_Model_deliver 11 = .ok (.iconst 1, 1) := by decide +kernel
theorem d_Model_deliver_12 : decode b_Model_deliver 12 = .ok (.isub, 1) := by decide +kernel
theorem d_Model_deliver_13 : decode b_Model_deliver 13 = .ok (.invokestatic 149, 3) := by decide +kernel
theorem d_Model_deliver_16 : decode b_Model_deliver 16 = .ok (.ifCond .ne 17, 3) := by decide +kernel
theorem d_Model_deliver_19 : decode b_Model_deliver 19 = .ok (.aload_n 0, 1) := by decide +kernel
theorem d_Model_deliver_20 : decode b_Model_deliver 20 = .ok (.iconst 1, 1) := by decide +kernel
theorem d_Model_deliver_21 : decode b_Model_deliver 21 = .ok (.invokevirtual 153, 3) := by decide +kernel
theorem d_Model_deliver_24 : decode b_Model_deliver 24 = .ok (.ifCond .le 7, 3) := by decide +kernel
theorem d_Model_deliver_27 : decode b_Model_deliver 27 = .ok (.iconst 1, 1) := by decide +kernel
theorem d_Model_deliver_28 : decode b_Model_deliver 28 = .ok (.goto 4, 3) := by decide +kernel
theorem d_Model_deliver_31 : decode b_Model_deliver 31 = .ok (.iconst 0, 1) := by decide +kernel
theorem d_Model_deliver_32 : decode b_Model_deliver 32 = .ok (.ireturn, 1) := by decide +kernel
theorem d_Model_deliver_33 : decode b_Model_deliver 33 = .ok (.aload_n 0, 1) := by decide +kernel
theorem d_Model_deliver_34 : decode b_Model_deliver 34 = .ok (.getfield 96, 3) := by decide +kernel
theorem d_Model_deliver_37 : decode b_Model_deliver 37 = .ok (.iload_n 1, 1) := by decide +kernel
theorem d_Model_deliver_38 : decode b_Model_deliver 38 = .ok (.iaload, 1) := by decide +kernel
theorem d_Model_deliver_39 : decode b_Model_deliver 39 = .ok (.iconst 3, 1) := by decide +kernel
theorem d_Model_deliver_40 : decode b_Model_deliver 40 = .ok (.if_icmp .ge 9, 3) := by decide +kernel
theorem d_Model_deliver_43 : decode b_Model_deliver 43 = .ok (.aload_n 0, 1) := by decide +kernel
theorem d_Model_deliver_44 : decode b_Model_deliver 44 = .ok (.iload_n 1, 1) := by decide +kernel
theorem d_Model_deliver_45 : decode b_Model_deliver 45 = .ok (.invokevirtual 194, 3) := by decide +kernel
theorem d_Model_deliver_48 : decode b_Model_deliver 48 = .ok (.ireturn, 1) := by decide +kernel
theorem d_Model_deliver_49 : decode b_Model_deliver 49 = .ok (.aload_n 0, 1) := by decide +kernel
theorem d_Model_deliver_50 : decode b_Model_deliver 50 = .ok (.getfield 96, 3) := by decide +kernel
theorem d_Model_deliver_53 : decode b_Model_deliver 53 = .ok (.iload_n 1, 1) := by decide +kernel
theorem d_Model_deliver_54 : decode b_Model_deliver 54 = .ok (.iaload, 1) := by decide +kernel
theorem d_Model_deliver_55 : decode b_Model_deliver 55 = .ok (.bipush 6, 2) := by decide +kernel
theorem d_Model_deliver_57 : decode b_Model_deliver 57 = .ok (.if_icmp .le 10, 3) := by decide +kernel
theorem d_Model_deliver_60 : decode b_Model_deliver 60 = .ok (.aload_n 0, 1) := by decide +kernel
theorem d_Model_deliver_61 : decode b_Model_deliver 61 = .ok (.iload_n 1, 1) := by decide +kernel
theorem d_Model_deliver_62 : decode b_Model_deliver 62 = .ok (.invokevirtual 197, 3) := by decide +kernel
theorem d_Model_deliver_65 : decode b_Model_deliver 65 = .ok (.iconst 1, 1) := by decide +kernel
theorem d_Model_deliver_66 : decode b_Model_deliver 66 = .ok (.ireturn, 1) := by decide +kernel
theorem d_Model_deliver_67 : decode b_Model_deliver 67 = .ok (.aload_n 0, 1) := by decide +kernel
theorem d_Model_deliver_68 : decode b_Model_deliver 68 = .ok (.getfield 96, 3) := by decide +kernel
theorem d_Model_deliver_71 : decode b_Model_deliver 71 = .ok (.iload_n 1, 1) := by decide +kernel
theorem d_Model_deliver_72 : decode b_Model_deliver 72 = .ok (.iaload, 1) := by decide +kernel
theorem d_Model_deliver_73 : decode b_Model_deliver 73 = .ok (.iconst 4, 1) := by decide +kernel
theorem d_Model_deliver_74 : decode b_Model_deliver 74 = .ok (.if_icmp .le 9, 3) := by decide +kernel
theorem d_Model_deliver_77 : decode b_Model_deliver 77 = .ok (.aload_n 0, 1) := by decide +kernel
theorem d_Model_deliver_78 : decode b_Model_deliver 78 = .ok (.iload_n 1, 1) := by decide +kernel
theorem d_Model_deliver_79 : decode b_Model_deliver 79 = .ok (.invokevirtual 200, 3) := by decide +kernel
theorem d_Model_deliver_82 : decode b_Model_deliver 82 = .ok (.ireturn, 1) := by decide +kernel
theorem d_Model_deliver_83 : decode b_Model_deliver 83 = .ok (.aload_n 0, 1) := by decide +kernel
theorem d_Model_deliver_84 : decode b_Model_deliver 84 = .ok (.iload_n 1, 1) := by decide +kernel
theorem d_Model_deliver_85 : decode b_Model_deliver 85 = .ok (.invokevirtual 203, 3) := by decide +kernel
theorem d_Model_deliver_88 : decode b_Model_deliver 88 = .ok (.aload_n 0, 1) := by decide +kernel
theorem d_Model_deliver_89 : decode b_Model_deliver 89 = .ok (.iload_n 1, 1) := by decide +kernel
theorem d_Model_deliver_90 : decode b_Model_deliver 90 = .ok (.invokevirtual 130, 3) := by decide +kernel
theorem d_Model_deliver_93 : decode b_Model_deliver 93 = .ok (.iconst 1, 1) := by decide +kernel
theorem d_Model_deliver_94 : decode b_Model_deliver 94 = .ok (.ireturn, 1) := by decide +kernel
theorem d_Model_messages_0 : decode b_Model_messages 0 = .ok (.aload_n 0, 1) := by decide +kernel
theorem d_Model_messages_1 : decode b_Model_messages 1 = .ok (.iconst 0, 1) := by decide +kernel
theorem d_Model_messages_2 : decode b_Model_messages 2 = .ok (.putfield 124, 3) := by decide +kernel
theorem d_Model_messages_5 : decode b_Model_messages 5 = .ok (.aload_n 0, 1) := by decide +kernel
theorem d_Model_messages_6 : decode b_Model_messages 6 = .ok (.getfield 127, 3) := by decide +kernel
theorem d_Model_messages_9 : decode b_Model_messages 9 = .ok (.ireturn, 1) := by decide +kernel
theorem d_Model_message_0 : decode b_Model_message 0 = .ok (.aload_n 0, 1) := by decide +kernel
theorem d_Model_message_1 : decode b_Model_message 1 = .ok (.iconst 0, 1) := by decide +kernel
theorem d_Model_message_2 : decode b_Model_message 2 = .ok (.putfield 124, 3) := by decide +kernel
theorem d_Model_message_5 : decode b_Model_message 5 = .ok (.iload_n 1, 1) := by decide +kernel
theorem d_Model_message_6 : decode b_Model_message 6 = .ok (.iconst 0, 1) := by decide +kernel
theorem d_Model_message_7 : decode b_Model_message 7 = .ok (.aload_n 0, 1) := by decide +kernel
theorem d_Model_message_8 : decode b_Model_message 8 = .ok (.getfield 127, 3) := by decide +kernel
theorem d_Model_message_11 : decode b_Model_message 11 = .ok (.iconst 1, 1) := by decide +kernel
theorem d_Model_message_12 : decode b_Model_message 12 = .ok (.isub, 1) := by decide +kernel
theorem d_Model_message_13 : decode b_Model_message 13 = .ok (.invokestatic 149, 3) := by decide +kernel
theorem d_Model_message_16 : decode b_Model_message 16 = .ok (.ifCond .ne 9, 3) := by decide +kernel
theorem d_Model_message_19 : decode b_Model_message 19 = .ok (.aload_n 0, 1) := by decide +kernel
theorem d_Model_message_20 : decode b_Model_message 20 = .ok (.iconst 1, 1) := by decide +kernel
theorem d_Model_message_21 : decode b_Model_message 21 = .ok (.invokevirtual 153, 3) := by decide +kernel
theorem d_Model_message_24 : decode b_Model_message 24 = .ok (.ireturn, 1) := by decide +kernel
theorem d_Model_message_25 : decode b_Model_message 25 = .ok (.iload_n 2, 1) := by decide +kernel
theorem d_Model_message_26 : decode b_Model_message 26 = .ok (.iconst 0, 1) := by decide +kernel
theorem d_Model_message_27 : decode b_Model_message 27 = .ok (.iconst 3, 1) := by decide +kernel
theorem d_Model_message_28 : decode b_Model_message 28 = .ok (.invokestatic 149, 3) := by decide +kernel
theorem d_Model_message_31 : decode b_Model_message 31 = .ok (.ifCond .ne 9, 3) := by decide +kernel
theorem d_Model_message_34 : decode b_Model_message 34 = .ok (.aload_n 0, 1) := by decide +kernel
theorem d_Model_message_35 : decode b_Model_message 35 = .ok (.iconst 2, 1) := by decide +kernel
theorem d_Model_message_36 : decode b_Model_message 36 = .ok (.invokevirtual 153, 3) := by decide +kernel
theorem d_Model_message_39 : decode b_Model_message 39 = .ok (.ireturn, 1) := by decide +kernel
theorem d_Model_message_40 : decode b_Model_message 40 = .ok (.iload_n 2, 1) := by decide +kernel
theorem d_Model_message_41 : decode b_Model_message 41 = .ok (.ifCond .ne 12, 3) := by decide +kernel
theorem d_Model_message_44 : decode b_Model_message 44 = .ok (.aload_n 0, 1) := by decide +kernel
theorem d_Model_message_45 : decode b_Model_message 45 = .ok (.getfield 96, 3) := by decide +kernel
theorem d_Model_message_48 : decode b_Model_message 48 = .ok (.iload_n 1, 1) := by decide +kernel
theorem d_Model_message_49 : decode b_Model_message 49 = .ok (.iaload, 1) := by decide +kernel
theorem d_Model_message_50 : decode b_Model_message 50 = .ok (.goto 45, 3) := by decide +kernel
theorem d_Model_message_53 : decode b_Model_message 53 = .ok (.iload_n 2, 1) := by decide +kernel
theorem d_Model_message_54 : decode b_Model_message 54 = .ok (.iconst 1, 1) := by decide +kernel
theorem d_Model_message_55 : decode b_Model_message 55 = .ok (.if_icmp .ne 12, 3) := by decide +kernel
theorem d_Model_message_58 : decode b_Model_message 58 = .ok (.aload_n 0, 1) := by decide +kernel
theorem d_Model_message_59 : decode b_Model_message 59 = .ok (.getfield 99, 3) := by decide +kernel
theorem d_Model_message_62 : decode b_Model_message 62 = .ok (.iload_n 1, 1) := by decide +kernel
theorem d_Model_message_63 : decode b_Model_message 63 = .ok (.iaload, 1) := by decide +kernel
theorem d_Model_message_64 : decode b_Model_message 64 = .ok (.goto 31, 3) := by decide +kernel
theorem d_Model_message_67 : decode b_Model_message 67 = .ok (.iload_n 2, 1) := by decide +kernel
theorem d_Model_message_68 : decode b_Model_message 68 = .ok (.iconst 2, 1) := by decide +kernel
theorem d_Model_message_69 : decode b_Model_message 69 = .ok (.if_icmp .ne 12, 3) := by decide +kernel
theorem d_Model_message_72 : decode b_Model_message 72 = .ok (.aload_n 0, 1) := by decide +kernel
theorem d_Model_message_73 : decode b_Model_message 73 = .ok (.getfield 102, 3) := by decide +kernel
theorem d_Model_message_76 : decode b_Model_message 76 = .ok (.iload_n 1, 1) := by decide +kernel
theorem d_Model_message_77 : decode b_Model_message 77 = .ok (.iaload, 1) := by decide +kernel
theorem d_Model_message_78 : decode b_Model_message 78 = .ok (.goto 17, 3) := by decide +kernel
theorem d_Model_message_81 : decode b_Model_message 81 = .ok (.aload_n 0, 1) := by decide +kernel
theorem d_Model_message_82 : decode b_Model_message 82 = .ok (.getfield 105, 3) := by decide +kernel
theorem d_Model_message_85 : decode b_Model_message 85 = .ok (.iload_n 1, 1) := by decide +kernel
theorem d_Model_message_86 : decode b_Model_message 86 = .ok (.baload, 1) := by decide +kernel
theorem d_Model_message_87 : decode b_Model_message 87 = .ok (.ifCond .eq 7, 3) := by decide +kernel
theorem d_Model_message_90 : decode b_Model_message 90 = .ok (.iconst 1, 1) := by decide +kernel
theorem d_Model_message_91 : decode b_Model_message 91 = .ok (.goto 4, 3) := by decide +kernel
theorem d_Model_message_94 : decode b_Model_message 94 = .ok (.iconst 0, 1) := by decide +kernel
theorem d_Model_message_95 : decode b_Model_message 95 = .ok (.ireturn, 1) := by decide +kernel
theorem d_Model_core_0 : decode b_Model_core 0 = .ok (.aload_n 0, 1) := by decide +kernel
theorem d_Model_core_1 : decode b_Model_core 1 = .ok (.iconst 0, 1) := by decide +kernel
theorem d_Model_core_2 : decode b_Model_core 2 = .ok (.putfield 124, 3) := by decide +kernel
theorem d_Model_core_5 : decode b_Model_core 5 = .ok (.iload_n 1, 1) := by decide +kernel
theorem d_Model_core_6 : decode b_Model_core 6 = .ok (.iconst 0, 1) := by decide +kernel
theorem d_Model_core_7 : decode b_Model_core 7 = .ok (.iconst 2, 1) := by decide +kernel
theorem d_Model_core_8 : decode b_Model_core 8 = .ok (.invokestatic 149, 3) := by decide +kernel
theorem d_Model_core_11 : decode b_Model_core 11 = .ok (.ifCond .eq 12, 3) := by decide +kernel
theorem d_Model_core_14 : decode b_Model_core 14 = .ok (.iload_n 2, 1) := by decide +kernel
theorem d_Model_core_15 : decode b_Model_core 15 = .ok (.iconst 0, 1) := by decide +kernel
theorem d_Model_core_16 : decode b_Model_core 16 = .ok (.iconst 4, 1) := by decide +kernel
theorem d_Model_core_17 : decode b_Model_core 17 = .ok (.invokestatic 149, 3) := by decide +kernel
theorem d_Model_core_20 : decode b_Model_core 20 = .ok (.ifCond .ne 9, 3) := by decide +kernel
theorem d_Model_core_23 : decode b_Model_core 23 = .ok (.aload_n 0, 1) := by decide +kernel
theorem d_Model_core_24 : decode b_Model_core 24 = .ok (.iconst 1, 1) := by decide +kernel
theorem d_Model_core_25 : decode b_Model_core 25 = .ok (.invokevirtual 153, 3) := by decide +kernel
theorem d_Model_core_28 : decode b_Model_core 28 = .ok (.ireturn, 1) := by decide +kernel
theorem d_Model_core_29 : decode b_Model_core 29 = .ok (.iload_n 2, 1) := by decide +kernel
theorem d_Model_core_30 : decode b_Model_core 30 = .ok (.iconst 3, 1) := by decide +kernel
theorem d_Model_core_31 : decode b_Model_core 31 = .ok (.if_icmp .ge 45, 3) := by decide +kernel
theorem d_Model_core_34 : decode b_Model_core 34 = .ok (.iload_n 2, 1) := by decide +kernel
theorem d_Model_core_35 : decode b_Model_core 35 = .ok (.ifCond .ne 20, 3) := by decide +kernel
theorem d_Model_core_38 : decode b_Model_core 38 = .ok (.aload_n 0, 1) := by decide +kernel
theorem d_Model_core_39 : decode b_Model_core 39 = .ok (.getfield 13, 3) := by decide +kernel
theorem d_Model_core_42 : decode b_Model_core 42 = .ok (.iload_n 1, 1) := by decide +kernel
theorem d_Model_core_43 : decode b_Model_core 43 = .ok (.baload, 1) := by decide +kernel
theorem d_Model_core_44 : decode b_Model_core 44 = .ok (.ifCond .eq 7, 3) := by decide +kernel
theorem d_Model_core_47 : decode b_Model_core 47 = .ok (.iconst 1, 1) := by decide +kernel
theorem d_Model_core_48 : decode b_Model_core 48 = .ok (.goto 27, 3) := by decide +kernel
theorem d_Model_core_51 : decode b_Model_core 51 = .ok (.iconst 0, 1) := by decide +kernel
theorem d_Model_core_52 : decode b_Model_core 52 = .ok (.goto 23, 3) := by decide +kernel
theorem d_Model_core_55 : decode b_Model_core 55 = .ok (.iload_n 2, 1) := by decide +kernel
theorem d_Model_core_56 : decode b_Model_core 56 = .ok (.iconst 1, 1) := by decide +kernel
theorem d_Model_core_57 : decode b_Model_core 57 = .ok (.if_icmp .ne 12, 3) := by decide +kernel
theorem d_Model_core_60 : decode b_Model_core 60 = .ok (.aload_n 0, 1) := by decide +kernel
theorem d_Model_core_61 : decode b_Model_core 61 = .ok (.getfield 30, 3) := by decide +kernel
theorem d_Model_core_64 : decode b_Model_core 64 = .ok (.iload_n 1, 1) := by decide +kernel
theorem d_Model_core_65 : decode b_Model_core 65 = .ok (.iaload, 1) := by decide +kernel
theorem d_Model_core_66 : decode b_Model_core 66 = .ok (.goto 9, 3) := by decide +kernel
theorem d_Model_core_69 : decode b_Model_core 69 = .ok (.aload_n 0, 1) := by decide +kernel
theorem d_Model_core_70 : decode b_Model_core 70 = .ok (.getfield 33, 3) := by decide +kernel
theorem d_Model_core_73 : decode b_Model_core 73 = .ok (.iload_n 1, 1) := by decide +kernel
theorem d_Model_core_74 : decode b_Model_core 74 = .ok (.iaload, 1) := by decide +kernel
theorem d_Model_core_75 : decode b_Model_core 75 = .ok (.ireturn, 1) := by decide +kernel
theorem d_Model_core_76 : decode b_Model_core 76 = .ok (.iload_n 2, 1) := by decide +kernel
theorem d_Model_core_77 : decode b_Model_core 77 = .ok (.iconst 3, 1) := by decide +kernel
theorem d_Model_core_78 : decode b_Model_core 78 = .ok (.if_icmp .ne 12, 3) := by decide +kernel
theorem d_Model_core_81 : decode b_Model_core 81 = .ok (.aload_n 0, 1) := by decide +kernel
theorem d_Model_core_82 : decode b_Model_core 82 = .ok (.getfield 36, 3) := by decide +kernel
theorem d_Model_core_85 : decode b_Model_core 85 = .ok (.iload_n 1, 1) := by decide +kernel
theorem d_Model_core_86 : decode b_Model_core 86 = .ok (.iaload, 1) := by decide +kernel
theorem d_Model_core_87 : decode b_Model_core 87 = .ok (.goto 9, 3) := by decide +kernel
theorem d_Model_core_90 : decode b_Model_core 90 = .ok (.aload_n 0, 1) := by decide +kernel
theorem d_Model_core_91 : decode b_Model_core 91 = .ok (.getfield 39, 3) := by decide +kernel
theorem d_Model_core_94 : decode b_Model_core 94 = .ok (.iload_n 1, 1) := by decide +kernel
theorem d_Model_core_95 : decode b_Model_core 95 = .ok (.iaload, 1) := by decide +kernel
theorem d_Model_core_96 : decode b_Model_core 96 = .ok (.ireturn, 1) := by decide +kernel
theorem d_Model_time_0 : decode b_Model_time 0 = .ok (.aload_n 0, 1) := by decide +kernel
theorem d_Model_time_1 : decode b_Model_time 1 = .ok (.iconst 0, 1) := by decide +kernel
theorem d_Model_time_2 : decode b_Model_time 2 = .ok (.putfield 124, 3) := by decide +kernel
theorem d_Model_time_5 : decode b_Model_time 5 = .ok (.iload_n 1, 1) := by decide +kernel
theorem d_Model_time_6 : decode b_Model_time 6 = .ok (.iconst 0, 1) := by decide +kernel
theorem d_Model_time_7 : decode b_Model_time 7 = .ok (.iconst 2, 1) := by decide +kernel
theorem d_Model_time_8 : decode b_Model_time 8 = .ok (.invokestatic 149, 3) := by decide +kernel
theorem d_Model_time_11 : decode b_Model_time 11 = .ok (.ifCond .eq 12, 3) := by decide +kernel
theorem d_Model_time_14 : decode b_Model_time 14 = .ok (.aload_n 0, 1) := by decide +kernel
theorem d_Model_time_15 : decode b_Model_time 15 = .ok (.getfield 7, 3) := by decide +kernel
theorem d_Model_time_18 : decode b_Model_time 18 = .ok (.iload_n 1, 1) := by decide +kernel
theorem d_Model_time_19 : decode b_Model_time 19 = .ok (.laload, 1) := by decide +kernel
theorem d_Model_time_20 : decode b_Model_time 20 = .ok (.goto 9, 3) := by decide +kernel
theorem d_Model_time_23 : decode b_Model_time 23 = .ok (.aload_n 0, 1) := by decide +kernel
theorem d_Model_time_24 : decode b_Model_time 24 = .ok (.iconst 1, 1) := by decide +kernel
theorem d_Model_time_25 : decode b_Model_time 25 = .ok (.invokevirtual 153, 3) := by decide +kernel
theorem d_Model_time_28 : decode b_Model_time 28 = .ok (.i2l, 1) := by decide +kernel
theorem d_Model_time_29 : decode b_Model_time 29 = .ok (.lreturn, 1) := by decide +kernel
theorem d_Model_cached_0 : decode b_Model_cached 0 = .ok (.aload_n 0, 1) := by decide +kernel
theorem d_Model_cached_1 : decode b_Model_cached 1 = .ok (.iconst 0, 1) := by decide +kernel
theorem d_Model_cached_2 : decode b_Model_cached 2 = .ok (.putfield 124, 3) := by decide +kernel
theorem d_Model_cached_5 : decode b_Model_cached 5 = .ok (.iload_n 1, 1) := by decide +kernel
theorem d_Model_cached_6 : decode b_Model_cached 6 = .ok (.iconst 0, 1) := by decide +kernel
theorem d_Model_cached_7 : decode b_Model_cached 7 = .ok (.iconst 2, 1) := by decide +kernel
theorem d_Model_cached_8 : decode b_Model_cached 8 = .ok (.invokestatic 149, 3) := by decide +kernel
theorem d_Model_cached_11 : decode b_Model_cached 11 = .ok (.ifCond .eq 22, 3) := by decide +kernel
theorem d_Model_cached_14 : decode b_Model_cached 14 = .ok (.iload_n 2, 1) := by decide +kernel
theorem d_Model_cached_15 : decode b_Model_cached 15 = .ok (.iconst 0, 1) := by decide +kernel
theorem d_Model_cached_16 : decode b_Model_cached 16 = .ok (.bipush 11, 2) := by decide +kernel
theorem d_Model_cached_18 : decode b_Model_cached 18 = .ok (.invokestatic 149, 3) := by decide +kernel
theorem d_Model_cached_21 : decode b_Model_cached 21 = .ok (.ifCond .eq 12, 3) := by decide +kernel
theorem d_Model_cached_24 : decode b_Model_cached 24 = .ok (.iload_n 3, 1) := by decide +kernel
theorem d_Model_cached_25 : decode b_Model_cached 25 = .ok (.iconst 0, 1) := by decide +kernel
theorem d_Model_cached_26 : decode b_Model_cached 26 = .ok (.iconst 3, 1) := by decide +kernel
theorem d_Model_cached_27 : decode b_Model_cached 27 = .ok (.invokestatic 149, 3) := by decide +kernel
theorem d_Model_cached_30 : decode b_Model_cached 30 = .ok (.ifCond .ne 10, 3) := by decide +kernel
theorem d_Model_cached_33 : decode b_Model_cached 33 = .ok (.aload_n 0, 1) := by decide +kernel
theorem d_Model_cached_34 : decode b_Model_cached 34 = .ok (.iconst 1, 1) := by decide +kernel
theorem d_Model_cached_35 : decode b_Model_cached 35 = .ok (.invokevirtual 153, 3) := by decide +kernel
theorem d_Model_cached_38 : decode b_Model_cached 38 = .ok (.i2l, 1) := by decide +kernel
theorem d_Model_cached_39 : decode b_Model_cached 39 = .ok (.lreturn, 1) := by decide +kernel
theorem d_Model_cached_40 : decode b_Model_cached 40 = .ok (.aload_n 0, 1) := by decide +kernel
theorem d_Model_cached_41 : decode b_Model_cached 41 = .ok (.iload_n 1, 1) := by decide +kernel
theorem d_Model_cached_42 : decode b_Model_cached 42 = .ok (.iload_n 2, 1) := by decide +kernel
theorem d_Model_cached_43 : decode b_Model_cached 43 = .ok (.invokevirtual 134, 3) := by decide +kernel
theorem d_Model_cached_46 : decode b_Model_cached 46 = .ok (.istore 4, 2) := by decide +kernel
theorem d_Model_cached_48 : decode b_Model_cached 48 = .ok (.iload 4, 2) := by decide +kernel
theorem d_Model_cached_50 : decode b_Model_cached 50 = .ok (.ifCond .ge 10, 3) := by decide +kernel
theorem d_Model_cached_53 : decode b_Model_cached 53 = .ok (.aload_n 0, 1) := by decide +kernel
theorem d_Model_cached_54 : decode b_Model_cached 54 = .ok (.iconst 2, 1) := by decide +kernel
theorem d_Model_cached_55 : decode b_Model_cached 55 = .ok (.invokevirtual 153, 3) := by decide +kernel
theorem d_Model_cached_58 : decode b_Model_cached 58 = .ok (.i2l, 1) := by decide +kernel
theorem d_Model_cached_59 : decode b_Model_cached 59 = .ok (.lreturn, 1) := by decide +kernel
theorem d_Model_cached_60 : decode b_Model_cached 60 = .ok (.iload_n 3, 1) := by decide +kernel
theorem d_Model_cached_61 : decode b_Model_cached 61 = .ok (.iconst 2, 1) := by decide +kernel
theorem d_Model_cached_62 : decode b_Model_cached 62 = .ok (.if_icmp .ge 34, 3) := by decide +kernel
theorem d_Model_cached_65 : decode b_Model_cached 65 = .ok (.iload_n 3, 1) := by decide +kernel
theorem d_Model_cached_66 : decode b_Model_cached 66 = .ok (.ifCond .ne 21, 3) := by decide +kernel
theorem d_Model_cached_69 : decode b_Model_cached 69 = .ok (.aload_n 0, 1) := by decide +kernel
theorem d_Model_cached_70 : decode b_Model_cached 70 = .ok (.getfield 45, 3) := by decide +kernel
theorem d_Model_cached_73 : decode b_Model_cached 73 = .ok (.iload 4, 2) := by decide +kernel
theorem d_Model_cached_75 : decode b_Model_cached 75 = .ok (.baload, 1) := by decide +kernel
theorem d_Model_cached_76 : decode b_Model_cached 76 = .ok (.ifCond .eq 7, 3) := by decide +kernel
theorem d_Model_cached_79 : decode b_Model_cached 79 = .ok (.lconst 1, 1) := by decide +kernel
theorem d_Model_cached_80 : decode b_Model_cached 80 = .ok (.goto 15, 3) := by decide +kernel
theorem d_Model_cached_83 : decode b_Model_cached 83 = .ok (.lconst 0, 1) := by decide +kernel
theorem d_Model_cached_84 : decode b_Model_cached 84 = .ok (.goto 11, 3) := by decide +kernel
theorem d_Model_cached_87 : decode b_Model_cached 87 = .ok (.aload_n 0, 1) := by decide +kernel
theorem d_Model_cached_88 : decode b_Model_cached 88 = .ok (.getfield 48, 3) := by decide +kernel
theorem d_Model_cached_91 : decode b_Model_cached 91 = .ok (.iload 4, 2) := by decide +kernel
theorem d_Model_cached_93 : decode b_Model_cached 93 = .ok (.iaload, 1) := by decide +kernel
theorem d_Model_cached_94 : decode b_Model_cached 94 = .ok (.i2l, 1) := by decide +kernel
theorem d_Model_cached_95 : decode b_Model_cached 95 = .ok (.lreturn, 1) := by decide +kernel
theorem d_Model_cached_96 : decode b_Model_cached 96 = .ok (.iload_n 3, 1) := by decide +kernel
theorem d_Model_cached_97 : decode b_Model_cached 97 = .ok (.iconst 2, 1) := by decide +kernel
theorem d_Model_cached_98 : decode b_Model_cached 98 = .ok (.if_icmp .ne 13, 3) := by decide +kernel
theorem d_Model_cached_101 : decode b_Model_cached 101 = .ok (.aload_n 0, 1) := by decide +kernel
theorem d_Model_cached_102 : decode b_Model_cached 102 = .ok (.getfield 51, 3) := by decide +kernel
theorem d_Model_cached_105 : decode b_Model_cached 105 = .ok (.iload 4, 2) := by decide +kernel
theorem d_Model_cached_107 : decode b_Model_cached 107 = .ok (.laload, 1) := by decide +kernel
theorem d_Model_cached_108 : decode b_Model_cached 108 = .ok (.goto 10, 3) := by decide +kernel
theorem d_Model_cached_111 : decode b_Model_cached 111 = .ok (.aload_n 0, 1) := by decide +kernel
theorem d_Model_cached_112 : decode b_Model_cached 112 = .ok (.getfield 54, 3) := by decide +kernel
theorem d_Model_cached_115 : decode b_Model_cached 115 = .ok (.iload 4, 2) := by decide +kernel
theorem d_Model_cached_117 : decode b_Model_cached 117 = .ok (.laload, 1) := by decide +kernel
theorem d_Model_cached_118 : decode b_Model_cached 118 = .ok (.lreturn, 1) := by decide +kernel
theorem d_Model_entry_0 : decode b_Model_entry 0 = .ok (.aload_n 0, 1) := by decide +kernel
theorem d_Model_entry_1 : decode b_Model_entry 1 = .ok (.iconst 0, 1) := by decide +kernel
theorem d_Model_entry_2 : decode b_Model_entry 2 = .ok (.putfield 124, 3) := by decide +kernel
theorem d_Model_entry_5 : decode b_Model_entry 5 = .ok (.iload_n 1, 1) := by decide +kernel
theorem d_Model_entry_6 : decode b_Model_entry 6 = .ok (.iconst 0, 1) := by decide +kernel
theorem d_Model_entry_7 : decode b_Model_entry 7 = .ok (.bipush 11, 2) := by decide +kernel
theorem d_Model_entry_9 : decode b_Model_entry 9 = .ok (.invokestatic 149, 3) := by decide +kernel
theorem d_Model_entry_12 : decode b_Model_entry 12 = .ok (.ifCond .eq 12, 3) := by decide +kernel
theorem d_Model_entry_15 : decode b_Model_entry 15 = .ok (.iload_n 2, 1) := by decide +kernel
theorem d_Model_entry_16 : decode b_Model_entry 16 = .ok (.iconst 0, 1) := by decide +kernel
theorem d_Model_entry_17 : decode b_Model_entry 17 = .ok (.iconst 5, 1) := by decide +kernel
theorem d_Model_entry_18 : decode b_Model_entry 18 = .ok (.invokestatic 149, 3) := by decide +kernel
theorem d_Model_entry_21 : decode b_Model_entry 21 = .ok (.ifCond .ne 10, 3) := by decide +kernel
theorem d_Model_entry_24 : decode b_Model_entry 24 = .ok (.aload_n 0, 1) := by decide +kernel
theorem d_Model_entry_25 : decode b_Model_entry 25 = .ok (.iconst 1, 1) := by decide +kernel
theorem d_Model_entry_26 : decode b_Model_entry 26 = .ok (.invokevirtual 153, 3) := by decide +kernel
theorem d_Model_entry_29 : decode b_Model_entry 29 = .ok (.i2l, 1) := by decide +kernel
theorem d_Model_entry_30 : decode b_Model_entry 30 = .ok (.lreturn, 1) := by decide +kernel
theorem d_Model_entry_31 : decode b_Model_entry 31 = .ok (.aload_n 0, 1) := by decide +kernel
theorem d_Model_entry_32 : decode b_Model_entry 32 = .ok (.iload_n 1, 1) := by decide +kernel
theorem d_Model_entry_33 : decode b_Model_entry 33 = .ok (.invokevirtual 167, 3) := by decide +kernel
theorem d_Model_entry_36 : decode b_Model_entry 36 = .ok (.istore_n 3, 1) := by decide +kernel
theorem d_Model_entry_37 : decode b_Model_entry 37 = .ok (.iload_n 3, 1) := by decide +kernel
theorem d_Model_entry_38 : decode b_Model_entry 38 = .ok (.ifCond .ge 10, 3) := by decide +kernel
theorem d_Model_entry_41 : decode b_Model_entry 41 = .ok (.aload_n 0, 1) := by decide +kernel
theorem d_Model_entry_42 : decode b_Model_entry 42 = .ok (.iconst 2, 1) := by decide +kernel
theorem d_Model_entry_43 : decode b_Model_entry 43 = .ok (.invokevirtual 153, 3) := by decide +kernel
theorem d_Model_entry_46 : decode b_Model_entry 46 = .ok (.i2l, 1) := by decide +kernel
theorem d_Model_entry_47 : decode b_Model_entry 47 = .ok (.lreturn, 1) := by decide +kernel
theorem d_Model_entry_48 : decode b_Model_entry 48 = .ok (.iload_n 2, 1) := by decide +kernel
theorem d_Model_entry_49 : decode b_Model_entry 49 = .ok (.iconst 3, 1) := by decide +kernel
theorem d_Model_entry_50 : decode b_Model_entry 50 = .ok (.if_icmp .ge 38, 3) := by decide +kernel
theorem d_Model_entry_53 : decode b_Model_entry 53 = .ok (.iload_n 2, 1) := by decide +kernel
theorem d_Model_entry_54 : decode b_Model_entry 54 = .ok (.ifCond .ne 13, 3) := by decide +kernel
theorem d_Model_entry_57 : decode b_Model_entry 57 = .ok (.aload_n 0, 1) := by decide +kernel
theorem d_Model_entry_58 : decode b_Model_entry 58 = .ok (.getfield 63, 3) := by decide +kernel
theorem d_Model_entry_61 : decode b_Model_entry 61 = .ok (.iload_n 3, 1) := by decide +kernel
theorem d_Model_entry_62 : decode b_Model_entry 62 = .ok (.iaload, 1) := by decide +kernel
theorem d_Model_entry_63 : decode b_Model_entry 63 = .ok (.i2l, 1) := by decide +kernel
theorem d_Model_entry_64 : decode b_Model_entry 64 = .ok (.goto 23, 3) := by decide +kernel
theorem d_Model_entry_67 : decode b_Model_entry 67 = .ok (.iload_n 2, 1) := by decide +kernel
theorem d_Model_entry_68 : decode b_Model_entry 68 = .ok (.iconst 1, 1) := by decide +kernel
theorem d_Model_entry_69 : decode b_Model_entry 69 = .ok (.if_icmp .ne 12, 3) := by decide +kernel
theorem d_Model_entry_72 : decode b_Model_entry 72 = .ok (.aload_n 0, 1) := by decide +kernel
theorem d_Model_entry_73 : decode b_Model_entry 73 = .ok (.getfield 66, 3) := by decide +kernel
theorem d_Model_entry_76 : decode b_Model_entry 76 = .ok (.iload_n 3, 1) := by decide +kernel
theorem d_Model_entry_77 : decode b_Model_entry 77 = .ok (.laload, 1) := by decide +kernel
theorem d_Model_entry_78 : decode b_Model_entry 78 = .ok (.goto 9, 3) := by decide +kernel
theorem d_Model_entry_81 : decode b_Model_entry 81 = .ok (.aload_n 0, 1) := by decide +kernel
theorem d_Model_entry_82 : decode b_Model_entry 82 = .ok (.getfield 69, 3) := by decide +kernel
theorem d_Model_entry_85 : decode b_Model_entry 85 = .ok (.iload_n 3, 1) := by decide +kernel
theorem d_Model_entry_86 : decode b_Model_entry 86 = .ok (.laload, 1) := by decide +kernel
theorem d_Model_entry_87 : decode b_Model_entry 87 = .ok (.lreturn, 1) := by decide +kernel
theorem d_Model_entry_88 : decode b_Model_entry 88 = .ok (.iload_n 2, 1) := by decide +kernel
theorem d_Model_entry_89 : decode b_Model_entry 89 = .ok (.iconst 3, 1) := by decide +kernel
theorem d_Model_entry_90 : decode b_Model_entry 90 = .ok (.if_icmp .ne 13, 3) := by decide +kernel
theorem d_Model_entry_93 : decode b_Model_entry 93 = .ok (.aload_n 0, 1) := by decide +kernel
theorem d_Model_entry_94 : decode b_Model_entry 94 = .ok (.getfield 72, 3) := by decide +kernel
theorem d_Model_entry_97 : decode b_Model_entry 97 = .ok (.iload_n 3, 1) := by decide +kernel
theorem d_Model_entry_98 : decode b_Model_entry 98 = .ok (.iaload, 1) := by decide +kernel
theorem d_Model_entry_99 : decode b_Model_entry 99 = .ok (.i2l, 1) := by decide +kernel
theorem d_Model_entry_100 : decode b_Model_entry 100 = .ok (.goto 47, 3) := by decide +kernel
theorem d_Model_entry_103 : decode b_Model_entry 103 = .ok (.iload_n 2, 1) := by decide +kernel
theorem d_Model_entry_104 : decode b_Model_entry 104 = .ok (.iconst 4, 1) := by decide +kernel
theorem d_Model_entry_105 : decode b_Model_entry 105 = .ok (.if_icmp .ne 20, 3) := by decide +kernel
theorem d_Model_entry_108 : decode b_Model_entry 108 = .ok (.aload_n 0, 1) := by decide +kernel
theorem d_Model_entry_109 : decode b_Model_entry 109 = .ok (.getfield 78, 3) := by decide +kernel
theorem d_Model_entry_112 : decode b_Model_entry 112 = .ok (.iload_n 3, 1) := by decide +kernel
theorem d_Model_entry_113 : decode b_Model_entry 113 = .ok (.iaload, 1) := by decide +kernel
theorem d_Model_entry_114 : decode b_Model_entry 114 = .ok (.ifCond .le 7, 3) := by decide +kernel
theorem d_Model_entry_117 : decode b_Model_entry 117 = .ok (.lconst 1, 1) := by decide +kernel
theorem d_Model_entry_118 : decode b_Model_entry 118 = .ok (.goto 29, 3) := by decide +kernel
theorem d_Model_entry_121 : decode b_Model_entry 121 = .ok (.lconst 0, 1) := by decide +kernel
theorem d_Model_entry_122 : decode b_Model_entry 122 = .ok (.goto 25, 3) := by decide +kernel
theorem d_Model_entry_125 : decode b_Model_entry 125 = .ok (.aload_n 0, 1) := by decide +kernel
theorem d_Model_entry_126 : decode b_Model_entry 126 = .ok (.getfield 78, 3) := by decide +kernel
theorem d_Model_entry_129 : decode b_Model_entry 129 = .ok (.iload_n 3, 1) := by decide +kernel
theorem d_Model_entry_130 : decode b_Model_entry 130 = .ok (.iaload, 1) := by decide +kernel
theorem d_Model_entry_131 : decode b_Model_entry 131 = .ok (.ifCond .le 15, 3) := by decide +kernel
theorem d_Model_entry_134 : decode b_Model_entry 134 = .ok (.aload_n 0, 1) := by decide +kernel
theorem d_Model_entry_135 : decode b_Model_entry 135 = .ok (.getfield 78, 3) := by decide +kernel
theorem d_Model_entry_138 : decode b_Model_entry 138 = .ok (.iload_n 3, 1) := by decide +kernel
theorem d_Model_entry_139 : decode b_Model_entry 139 = .ok (.iaload, 1) := by decide +kernel
theorem d_Model_entry_140 : decode b_Model_entry 140 = .ok (.iconst 1, 1) := by decide +kernel
theorem d_Model_entry_141 : decode b_Model_entry 141 = .ok (.isub, 1) := by decide +kernel
theorem d_Model_entry_142 : decode b_Model_entry 142 = .ok (.i2l, 1) := by decide +kernel
theorem d_Model_entry_143 : decode b_Model_entry 143 = .ok (.goto 4, 3) := by decide +kernel
theorem d_Model_entry_146 : decode b_Model_entry 146 = .ok (.lconst 0, 1) := by decide +kernel
theorem d_Model_entry_147 : decode b_Model_entry 147 = .ok (.lreturn, 1) := by decide +kernel
theorem d_Model_memory_0 : decode b_Model_memory 0 = .ok (.aload_n 0, 1) := by decide +kernel
theorem d_Model_memory_1 : decode b_Model_memory 1 = .ok (.iconst 0, 1) := by decide +kernel
theorem d_Model_memory_2 : decode b_Model_memory 2 = .ok (.putfield 124, 3) := by decide +kernel
theorem d_Model_memory_5 : decode b_Model_memory 5 = .ok (.iload_n 1, 1) := by decide +kernel
theorem d_Model_memory_6 : decode b_Model_memory 6 = .ok (.iconst 0, 1) := by decide +kernel
theorem d_Model_memory_7 : decode b_Model_memory 7 = .ok (.bipush 11, 2) := by decide +kernel
theorem d_Model_memory_9 : decode b_Model_memory 9 = .ok (.invokestatic 149, 3) := by decide +kernel
theorem d_Model_memory_12 : decode b_Model_memory 12 = .ok (.ifCond .eq 12, 3) := by decide +kernel
theorem d_Model_memory_15 : decode b_Model_memory 15 = .ok (.aload_n 0, 1) := by decide +kernel
theorem d_Model_memory_16 : decode b_Model_memory 16 = .ok (.getfield 93, 3) := by decide +kernel
theorem d_Model_memory_19 : decode b_Model_memory 19 = .ok (.iload_n 1, 1) := by decide +kernel
theorem d_Model_memory_20 : decode b_Model_memory 20 = .ok (.iaload, 1) := by decide +kernel
theorem d_Model_memory_21 : decode b_Model_memory 21 = .ok (.goto 8, 3) := by decide +kernel
theorem d_Model_memory_24 : decode b_Model_memory 24 = .ok (.aload_n 0, 1) := by decide +kernel
theorem d_Model_memory_25 : decode b_Model_memory 25 = .ok (.iconst 1, 1) := by decide +kernel
theorem d_Model_memory_26 : decode b_Model_memory 26 = .ok (.invokevirtual 153, 3) := by decide +kernel
theorem d_Model_memory_29 : decode b_Model_memory 29 = .ok (.ireturn, 1) := by decide +kernel
theorem d_Model_stamp_0 : decode b_Model_stamp 0 = .ok (.aload_n 0, 1) := by decide +kernel
theorem d_Model_stamp_1 : decode b_Model_stamp 1 = .ok (.iconst 0, 1) := by decide +kernel
theorem d_Model_stamp_2 : decode b_Model_stamp 2 = .ok (.putfield 124, 3) := by decide +kernel
theorem d_Model_stamp_5 : decode b_Model_stamp 5 = .ok (.aload_n 0, 1) := by decide +kernel
theorem d_Model_stamp_6 : decode b_Model_stamp 6 = .ok (.getfield 174, 3) := by decide +kernel
theorem d_Model_stamp_9 : decode b_Model_stamp 9 = .ok (.lreturn, 1) := by decide +kernel
