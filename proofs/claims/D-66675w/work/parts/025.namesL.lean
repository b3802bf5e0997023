/-! the law's own entry -/
set_option maxRecDepth 100000
abbrev cL_law : ByteArray := code
theorem dL_law_0 : decode cL_law 0 = .ok (.new 8, 3) := by decide +kernel
theorem dL_law_3 : decode cL_law 3 = .ok (.dup, 1) := by decide +kernel
theorem dL_law_4 : decode cL_law 4 = .ok (.invokespecial 43, 3) := by decide +kernel
theorem dL_law_7 : decode cL_law 7 = .ok (.astore_n 1, 1) := by decide +kernel
theorem dL_law_8 : decode cL_law 8 = .ok (.new 44, 3) := by decide +kernel
theorem dL_law_11 : decode cL_law 11 = .ok (.dup, 1) := by decide +kernel
theorem dL_law_12 : decode cL_law 12 = .ok (.invokespecial 46, 3) := by decide +kernel
theorem dL_law_15 : decode cL_law 15 = .ok (.astore_n 2, 1) := by decide +kernel
theorem dL_law_16 : decode cL_law 16 = .ok (.iconst 1, 1) := by decide +kernel
theorem dL_law_17 : decode cL_law 17 = .ok (.newarray .long, 2) := by decide +kernel
theorem dL_law_19 : decode cL_law 19 = .ok (.astore_n 3, 1) := by decide +kernel
theorem dL_law_20 : decode cL_law 20 = .ok (.iconst 0, 1) := by decide +kernel
theorem dL_law_21 : decode cL_law 21 = .ok (.istore 4, 2) := by decide +kernel
theorem dL_law_23 : decode cL_law 23 = .ok (.iload 4, 2) := by decide +kernel
theorem dL_law_25 : decode cL_law 25 = .ok (.aload_n 0, 1) := by decide +kernel
theorem dL_law_26 : decode cL_law 26 = .ok (.arraylength, 1) := by decide +kernel
theorem dL_law_27 : decode cL_law 27 = .ok (.iconst 5, 1) := by decide +kernel
theorem dL_law_28 : decode cL_law 28 = .ok (.isub, 1) := by decide +kernel
theorem dL_law_29 : decode cL_law 29 = .ok (.if_icmp .gt 991, 3) := by decide +kernel
theorem dL_law_32 : decode cL_law 32 = .ok (.aload_n 0, 1) := by decide +kernel
theorem dL_law_33 : decode cL_law 33 = .ok (.iload 4, 2) := by decide +kernel
theorem dL_law_35 : decode cL_law 35 = .ok (.iaload, 1) := by decide +kernel
theorem dL_law_36 : decode cL_law 36 = .ok (.bipush 15, 2) := by decide +kernel
theorem dL_law_38 : decode cL_law 38 = .ok (.iand, 1) := by decide +kernel
theorem dL_law_39 : decode cL_law 39 = .ok (.tableswitch 975 0 15 #[77, 102, 115, 227, 240, 265, 318, 386, 427, 464, 564, 589, 688, 768, 887, 950], 77) := by decide +kernel
theorem dL_law_116 : decode cL_law 116 = .ok (.aload_n 1, 1) := by decide +kernel
theorem dL_law_117 : decode cL_law 117 = .ok (.aload_n 0, 1) := by decide +kernel
theorem dL_law_118 : decode cL_law 118 = .ok (.iload 4, 2) := by decide +kernel
theorem dL_law_120 : decode cL_law 120 = .ok (.iconst 1, 1) := by decide +kernel
theorem dL_law_121 : decode cL_law 121 = .ok (.iadd, 1) := by decide +kernel
theorem dL_law_122 : decode cL_law 122 = .ok (.iaload, 1) := by decide +kernel
theorem dL_law_123 : decode cL_law 123 = .ok (.invokevirtual 47, 3) := by decide +kernel
theorem dL_law_126 : decode cL_law 126 = .ok (.aload_n 2, 1) := by decide +kernel
theorem dL_law_127 : decode cL_law 127 = .ok (.aload_n 0, 1) := by decide +kernel
theorem dL_law_128 : decode cL_law 128 = .ok (.iload 4, 2) := by decide +kernel
theorem dL_law_130 : decode cL_law 130 = .ok (.iconst 1, 1) := by decide +kernel
theorem dL_law_131 : decode cL_law 131 = .ok (.iadd, 1) := by decide +kernel
theorem dL_law_132 : decode cL_law 132 = .ok (.iaload, 1) := by decide +kernel
theorem dL_law_133 : decode cL_law 133 = .ok (.invokevirtual 50, 3) := by decide +kernel
theorem dL_law_136 : decode cL_law 136 = .ok (.if_icmp .eq 878, 3) := by decide +kernel
theorem dL_law_139 : decode cL_law 139 = .ok (.iconst 0, 1) := by decide +kernel
theorem dL_law_140 : decode cL_law 140 = .ok (.ireturn, 1) := by decide +kernel
theorem dL_law_141 : decode cL_law 141 = .ok (.aload_n 1, 1) := by decide +kernel
theorem dL_law_142 : decode cL_law 142 = .ok (.invokevirtual 51, 3) := by decide +kernel
theorem dL_law_145 : decode cL_law 145 = .ok (.aload_n 2, 1) := by decide +kernel
theorem dL_law_146 : decode cL_law 146 = .ok (.invokevirtual 55, 3) := by decide +kernel
theorem dL_law_149 : decode cL_law 149 = .ok (.if_icmp .eq 865, 3) := by decide +kernel
theorem dL_law_152 : decode cL_law 152 = .ok (.iconst 0, 1) := by decide +kernel
theorem dL_law_153 : decode cL_law 153 = .ok (.ireturn, 1) := by decide +kernel
theorem dL_law_154 : decode cL_law 154 = .ok (.aload_n 1, 1) := by decide +kernel
theorem dL_law_155 : decode cL_law 155 = .ok (.aload_n 0, 1) := by decide +kernel
theorem dL_law_156 : decode cL_law 156 = .ok (.iload 4, 2) := by decide +kernel
theorem dL_law_158 : decode cL_law 158 = .ok (.iconst 1, 1) := by decide +kernel
theorem dL_law_159 : decode cL_law 159 = .ok (.iadd, 1) := by decide +kernel
theorem dL_law_160 : decode cL_law 160 = .ok (.iaload, 1) := by decide +kernel
theorem dL_law_161 : decode cL_law 161 = .ok (.aload_n 0, 1) := by decide +kernel
theorem dL_law_162 : decode cL_law 162 = .ok (.iload 4, 2) := by decide +kernel
theorem dL_law_164 : decode cL_law 164 = .ok (.iconst 2, 1) := by decide +kernel
theorem dL_law_165 : decode cL_law 165 = .ok (.iadd, 1) := by decide +kernel
theorem dL_law_166 : decode cL_law 166 = .ok (.iaload, 1) := by decide +kernel
theorem dL_law_167 : decode cL_law 167 = .ok (.aload_n 0, 1) := by decide +kernel
theorem dL_law_168 : decode cL_law 168 = .ok (.iload 4, 2) := by decide +kernel
theorem dL_law_170 : decode cL_law 170 = .ok (.iconst 3, 1) := by decide +kernel
theorem dL_law_171 : decode cL_law 171 = .ok (.iadd, 1) := by decide +kernel
theorem dL_law_172 : decode cL_law 172 = .ok (.iaload, 1) := by decide +kernel
theorem dL_law_173 : decode cL_law 173 = .ok (.i2l, 1) := by decide +kernel
theorem dL_law_174 : decode cL_law 174 = .ok (.bipush 32, 2) := by decide +kernel
theorem dL_law_176 : decode cL_law 176 = .ok (.lshl, 1) := by decide +kernel
theorem dL_law_177 : decode cL_law 177 = .ok (.aload_n 0, 1) := by decide +kernel
theorem dL_law_178 : decode cL_law 178 = .ok (.iload 4, 2) := by decide +kernel
theorem dL_law_180 : decode cL_law 180 = .ok (.iconst 4, 1) := by decide +kernel
theorem dL_law_181 : decode cL_law 181 = .ok (.iadd, 1) := by decide +kernel
theorem dL_law_182 : decode cL_law 182 = .ok (.iaload, 1) := by decide +kernel
theorem dL_law_183 : decode cL_law 183 = .ok (.i2l, 1) := by decide +kernel
theorem dL_law_184 : decode cL_law 184 = .ok (.ldc2_w 56, 3) := by decide +kernel
theorem dL_law_187 : decode cL_law 187 = .ok (.land, 1) := by decide +kernel
theorem dL_law_188 : decode cL_law 188 = .ok (.lor, 1) := by decide +kernel
theorem dL_law_189 : decode cL_law 189 = .ok (.aload_n 3, 1) := by decide +kernel
theorem dL_law_190 : decode cL_law 190 = .ok (.invokestatic 58, 3) := by decide +kernel
theorem dL_law_193 : decode cL_law 193 = .ok (.istore 5, 2) := by decide +kernel
theorem dL_law_195 : decode cL_law 195 = .ok (.aload_n 2, 1) := by decide +kernel
theorem dL_law_196 : decode cL_law 196 = .ok (.aload_n 0, 1) := by decide +kernel
theorem dL_law_197 : decode cL_law 197 = .ok (.iload 4, 2) := by decide +kernel
theorem dL_law_199 : decode cL_law 199 = .ok (.iconst 1, 1) := by decide +kernel
theorem dL_law_200 : decode cL_law 200 = .ok (.iadd, 1) := by decide +kernel
theorem dL_law_201 : decode cL_law 201 = .ok (.iaload, 1) := by decide +kernel
theorem dL_law_202 : decode cL_law 202 = .ok (.aload_n 0, 1) := by decide +kernel
theorem dL_law_203 : decode cL_law 203 = .ok (.iload 4, 2) := by decide +kernel
theorem dL_law_205 : decode cL_law 205 = .ok (.iconst 2, 1) := by decide +kernel
theorem dL_law_206 : decode cL_law 206 = .ok (.iadd, 1) := by decide +kernel
theorem dL_law_207 : decode cL_law 207 = .ok (.iaload, 1) := by decide +kernel
theorem dL_law_208 : decode cL_law 208 = .ok (.aload_n 0, 1) := by decide +kernel
theorem dL_law_209 : decode cL_law 209 = .ok (.iload 4, 2) := by decide +kernel
theorem dL_law_211 : decode cL_law 211 = .ok (.iconst 3, 1) := by decide +kernel
theorem dL_law_212 : decode cL_law 212 = .ok (.iadd, 1) := by decide +kernel
theorem dL_law_213 : decode cL_law 213 = .ok (.iaload, 1) := by decide +kernel
theorem dL_law_214 : decode cL_law 214 = .ok (.i2l, 1) := by decide +kernel
theorem dL_law_215 : decode cL_law 215 = .ok (.bipush 32, 2) := by decide +kernel
theorem dL_law_217 : decode cL_law 217 = .ok (.lshl, 1) := by decide +kernel
theorem dL_law_218 : decode cL_law 218 = .ok (.aload_n 0, 1) := by decide +kernel
theorem dL_law_219 : decode cL_law 219 = .ok (.iload 4, 2) := by decide +kernel
theorem dL_law_221 : decode cL_law 221 = .ok (.iconst 4, 1) := by decide +kernel
theorem dL_law_222 : decode cL_law 222 = .ok (.iadd, 1) := by decide +kernel
theorem dL_law_223 : decode cL_law 223 = .ok (.iaload, 1) := by decide +kernel
theorem dL_law_224 : decode cL_law 224 = .ok (.i2l, 1) := by decide +kernel
theorem dL_law_225 : decode cL_law 225 = .ok (.ldc2_w 56, 3) := by decide +kernel
theorem dL_law_228 : decode cL_law 228 = .ok (.land, 1) := by decide +kernel
theorem dL_law_229 : decode cL_law 229 = .ok (.lor, 1) := by decide +kernel
theorem dL_law_230 : decode cL_law 230 = .ok (.invokevirtual 63, 3) := by decide +kernel
theorem dL_law_233 : decode cL_law 233 = .ok (.istore 6, 2) := by decide +kernel
theorem dL_law_235 : decode cL_law 235 = .ok (.aload_n 2, 1) := by decide +kernel
theorem dL_law_236 : decode cL_law 236 = .ok (.invokevirtual 64, 3) := by decide +kernel
theorem dL_law_239 : decode cL_law 239 = .ok (.iload 5, 2) := by decide +kernel
theorem dL_law_241 : decode cL_law 241 = .ok (.if_icmp .eq 5, 3) := by decide +kernel
theorem dL_law_244 : decode cL_law 244 = .ok (.iconst 0, 1) := by decide +kernel
theorem dL_law_245 : decode cL_law 245 = .ok (.ireturn, 1) := by decide +kernel
theorem dL_law_246 : decode cL_law 246 = .ok (.iload 5, 2) := by decide +kernel
theorem dL_law_248 : decode cL_law 248 = .ok (.ifCond .ne 15, 3) := by decide +kernel
theorem dL_law_251 : decode cL_law 251 = .ok (.aload_n 3, 1) := by decide +kernel
theorem dL_law_252 : decode cL_law 252 = .ok (.iconst 0, 1) := by decide +kernel
theorem dL_law_253 : decode cL_law 253 = .ok (.laload, 1) := by decide +kernel
theorem dL_law_254 : decode cL_law 254 = .ok (.iload 6, 2) := by decide +kernel
theorem dL_law_256 : decode cL_law 256 = .ok (.i2l, 1) := by decide +kernel
theorem dL_law_257 : decode cL_law 257 = .ok (.lcmp, 1) := by decide +kernel
theorem dL_law_258 : decode cL_law 258 = .ok (.ifCond .eq 5, 3) := by decide +kernel
theorem dL_law_261 : decode cL_law 261 = .ok (.iconst 0, 1) := by decide +kernel
theorem dL_law_262 : decode cL_law 262 = .ok (.ireturn, 1) := by decide +kernel
theorem dL_law_263 : decode cL_law 263 = .ok (.goto 751, 3) := by decide +kernel
theorem dL_law_266 : decode cL_law 266 = .ok (.aload_n 1, 1) := by decide +kernel
theorem dL_law_267 : decode cL_law 267 = .ok (.invokevirtual 67, 3) := by decide +kernel
theorem dL_law_270 : decode cL_law 270 = .ok (.aload_n 2, 1) := by decide +kernel
theorem dL_law_271 : decode cL_law 271 = .ok (.invokevirtual 70, 3) := by decide +kernel
theorem dL_law_274 : decode cL_law 274 = .ok (.if_icmp .eq 740, 3) := by decide +kernel
theorem dL_law_277 : decode cL_law 277 = .ok (.iconst 0, 1) := by decide +kernel
theorem dL_law_278 : decode cL_law 278 = .ok (.ireturn, 1) := by decide +kernel
theorem dL_law_279 : decode cL_law 279 = .ok (.aload_n 1, 1) := by decide +kernel
theorem dL_law_280 : decode cL_law 280 = .ok (.aload_n 0, 1) := by decide +kernel
theorem dL_law_281 : decode cL_law 281 = .ok (.iload 4, 2) := by decide +kernel
theorem dL_law_283 : decode cL_law 283 = .ok (.iconst 1, 1) := by decide +kernel
theorem dL_law_284 : decode cL_law 284 = .ok (.iadd, 1) := by decide +kernel
theorem dL_law_285 : decode cL_law 285 = .ok (.iaload, 1) := by decide +kernel
theorem dL_law_286 : decode cL_law 286 = .ok (.invokevirtual 71, 3) := by decide +kernel
theorem dL_law_289 : decode cL_law 289 = .ok (.aload_n 2, 1) := by decide +kernel
theorem dL_law_290 : decode cL_law 290 = .ok (.aload_n 0, 1) := by decide +kernel
theorem dL_law_291 : decode cL_law 291 = .ok (.iload 4, 2) := by decide +kernel
theorem dL_law_293 : decode cL_law 293 = .ok (.iconst 1, 1) := by decide +kernel
theorem dL_law_294 : decode cL_law 294 = .ok (.iadd, 1) := by decide +kernel
theorem dL_law_295 : decode cL_law 295 = .ok (.iaload, 1) := by decide +kernel
theorem dL_law_296 : decode cL_law 296 = .ok (.invokevirtual 74, 3) := by decide +kernel
theorem dL_law_299 : decode cL_law 299 = .ok (.if_icmp .eq 715, 3) := by decide +kernel
theorem dL_law_302 : decode cL_law 302 = .ok (.iconst 0, 1) := by decide +kernel
theorem dL_law_303 : decode cL_law 303 = .ok (.ireturn, 1) := by decide +kernel
theorem dL_law_304 : decode cL_law 304 = .ok (.aload_n 1, 1) := by decide +kernel
theorem dL_law_305 : decode cL_law 305 = .ok (.aload_n 0, 1) := by decide +kernel
theorem dL_law_306 : decode cL_law 306 = .ok (.iload 4, 2) := by decide +kernel
theorem dL_law_308 : decode cL_law 308 = .ok (.iconst 1, 1) := by decide +kernel
theorem dL_law_309 : decode cL_law 309 = .ok (.iadd, 1) := by decide +kernel
theorem dL_law_310 : decode cL_law 310 = .ok (.iaload, 1) := by decide +kernel
theorem dL_law_311 : decode cL_law 311 = .ok (.aload_n 0, 1) := by decide +kernel
theorem dL_law_312 : decode cL_law 312 = .ok (.iload 4, 2) := by decide +kernel
theorem dL_law_314 : decode cL_law 314 = .ok (.iconst 2, 1) := by decide +kernel
theorem dL_law_315 : decode cL_law 315 = .ok (.iadd, 1) := by decide +kernel
theorem dL_law_316 : decode cL_law 316 = .ok (.iaload, 1) := by decide +kernel
theorem dL_law_317 : decode cL_law 317 = .ok (.ifCond .eq 7, 3) := by decide +kernel
theorem dL_law_320 : decode cL_law 320 = .ok (.iconst 1, 1) := by decide +kernel
theorem dL_law_321 : decode cL_law 321 = .ok (.goto 4, 3) := by decide +kernel
theorem dL_law_324 : decode cL_law 324 = .ok (.iconst 0, 1) := by decide +kernel
theorem dL_law_325 : decode cL_law 325 = .ok (.invokevirtual 75, 3) := by decide +kernel
theorem dL_law_328 : decode cL_law 328 = .ok (.aload_n 2, 1) := by decide +kernel
theorem dL_law_329 : decode cL_law 329 = .ok (.aload_n 0, 1) := by decide +kernel
theorem dL_law_330 : decode cL_law 330 = .ok (.iload 4, 2) := by decide +kernel
theorem dL_law_332 : decode cL_law 332 = .ok (.iconst 1, 1) := by decide +kernel
theorem dL_law_333 : decode cL_law 333 = .ok (.iadd, 1) := by decide +kernel
theorem dL_law_334 : decode cL_law 334 = .ok (.iaload, 1) := by decide +kernel
theorem dL_law_335 : decode cL_law 335 = .ok (.aload_n 0, 1) := by decide +kernel
theorem dL_law_336 : decode cL_law 336 = .ok (.iload 4, 2) := by decide +kernel
theorem dL_law_338 : decode cL_law 338 = .ok (.iconst 2, 1) := by decide +kernel
theorem dL_law_339 : decode cL_law 339 = .ok (.iadd, 1) := by decide +kernel
theorem dL_law_340 : decode cL_law 340 = .ok (.iaload, 1) := by decide +kernel
theorem dL_law_341 : decode cL_law 341 = .ok (.ifCond .eq 7, 3) := by decide +kernel
theorem dL_law_344 : decode cL_law 344 = .ok (.iconst 1, 1) := by decide +kernel
theorem dL_law_345 : decode cL_law 345 = .ok (.goto 4, 3) := by decide +kernel
theorem dL_law_348 : decode cL_law 348 = .ok (.iconst 0, 1) := by decide +kernel
theorem dL_law_349 : decode cL_law 349 = .ok (.invokevirtual 79, 3) := by decide +kernel
theorem dL_law_352 : decode cL_law 352 = .ok (.if_icmp .eq 662, 3) := by decide +kernel
theorem dL_law_355 : decode cL_law 355 = .ok (.iconst 0, 1) := by decide +kernel
theorem dL_law_356 : decode cL_law 356 = .ok (.ireturn, 1) := by decide +kernel
theorem dL_law_357 : decode cL_law 357 = .ok (.aload_n 1, 1) := by decide +kernel
theorem dL_law_358 : decode cL_law 358 = .ok (.aload_n 0, 1) := by decide +kernel
theorem dL_law_359 : decode cL_law 359 = .ok (.iload 4, 2) := by decide +kernel
theorem dL_law_361 : decode cL_law 361 = .ok (.iconst 1, 1) := by decide +kernel
theorem dL_law_362 : decode cL_law 362 = .ok (.iadd, 1) := by decide +kernel
theorem dL_law_363 : decode cL_law 363 = .ok (.iaload, 1) := by decide +kernel
theorem dL_law_364 : decode cL_law 364 = .ok (.aload_n 0, 1) := by decide +kernel
theorem dL_law_365 : decode cL_law 365 = .ok (.iload 4, 2) := by decide +kernel
theorem dL_law_367 : decode cL_law 367 = .ok (.iconst 2, 1) := by decide +kernel
theorem dL_law_368 : decode cL_law 368 = .ok (.iadd, 1) := by decide +kernel
theorem dL_law_369 : decode cL_law 369 = .ok (.iaload, 1) := by decide +kernel
theorem dL_law_370 : decode cL_law 370 = .ok (.aload_n 3, 1) := by decide +kernel
theorem dL_law_371 : decode cL_law 371 = .ok (.invokestatic 80, 3) := by decide +kernel
theorem dL_law_374 : decode cL_law 374 = .ok (.istore 5, 2) := by decide +kernel
theorem dL_law_376 : decode cL_law 376 = .ok (.aload_n 2, 1) := by decide +kernel
theorem dL_law_377 : decode cL_law 377 = .ok (.aload_n 0, 1) := by decide +kernel
theorem dL_law_378 : decode cL_law 378 = .ok (.iload 4, 2) := by decide +kernel
theorem dL_law_380 : decode cL_law 380 = .ok (.iconst 1, 1) := by decide +kernel
theorem dL_law_381 : decode cL_law 381 = .ok (.iadd, 1) := by decide +kernel
theorem dL_law_382 : decode cL_law 382 = .ok (.iaload, 1) := by decide +kernel
theorem dL_law_383 : decode cL_law 383 = .ok (.aload_n 0, 1) := by decide +kernel
theorem dL_law_384 : decode cL_law 384 = .ok (.iload 4, 2) := by decide +kernel
theorem dL_law_386 : decode cL_law 386 = .ok (.iconst 2, 1) := by decide +kernel
theorem dL_law_387 : decode cL_law 387 = .ok (.iadd, 1) := by decide +kernel
theorem dL_law_388 : decode cL_law 388 = .ok (.iaload, 1) := by decide +kernel
theorem dL_law_389 : decode cL_law 389 = .ok (.invokevirtual 83, 3) := by decide +kernel
theorem dL_law_392 : decode cL_law 392 = .ok (.istore 6, 2) := by decide +kernel
theorem dL_law_394 : decode cL_law 394 = .ok (.aload_n 2, 1) := by decide +kernel
theorem dL_law_395 : decode cL_law 395 = .ok (.invokevirtual 64, 3) := by decide +kernel
theorem dL_law_398 : decode cL_law 398 = .ok (.iload 5, 2) := by decide +kernel
theorem dL_law_400 : decode cL_law 400 = .ok (.if_icmp .eq 5, 3) := by decide +kernel
theorem dL_law_403 : decode cL_law 403 = .ok (.iconst 0, 1) := by decide +kernel
theorem dL_law_404 : decode cL_law 404 = .ok (.ireturn, 1) := by decide +kernel
theorem dL_law_405 : decode cL_law 405 = .ok (.iload 5, 2) := by decide +kernel
theorem dL_law_407 : decode cL_law 407 = .ok (.ifCond .ne 15, 3) := by decide +kernel
theorem dL_law_410 : decode cL_law 410 = .ok (.aload_n 3, 1) := by decide +kernel
theorem dL_law_411 : decode cL_law 411 = .ok (.iconst 0, 1) := by decide +kernel
theorem dL_law_412 : decode cL_law 412 = .ok (.laload, 1) := by decide +kernel
theorem dL_law_413 : decode cL_law 413 = .ok (.iload 6, 2) := by decide +kernel
theorem dL_law_415 : decode cL_law 415 = .ok (.i2l, 1) := by decide +kernel
theorem dL_law_416 : decode cL_law 416 = .ok (.lcmp, 1) := by decide +kernel
theorem dL_law_417 : decode cL_law 417 = .ok (.ifCond .eq 5, 3) := by decide +kernel
theorem dL_law_420 : decode cL_law 420 = .ok (.iconst 0, 1) := by decide +kernel
theorem dL_law_421 : decode cL_law 421 = .ok (.ireturn, 1) := by decide +kernel
theorem dL_law_422 : decode cL_law 422 = .ok (.goto 592, 3) := by decide +kernel
theorem dL_law_425 : decode cL_law 425 = .ok (.aload_n 1, 1) := by decide +kernel
theorem dL_law_426 : decode cL_law 426 = .ok (.aload_n 0, 1) := by decide +kernel
theorem dL_law_427 : decode cL_law 427 = .ok (.iload 4, 2) := by decide +kernel
theorem dL_law_429 : decode cL_law 429 = .ok (.iconst 1, 1) := by decide +kernel
theorem dL_law_430 : decode cL_law 430 = .ok (.iadd, 1) := by decide +kernel
theorem dL_law_431 : decode cL_law 431 = .ok (.iaload, 1) := by decide +kernel
theorem dL_law_432 : decode cL_law 432 = .ok (.ifCond .eq 7, 3) := by decide +kernel
theorem dL_law_435 : decode cL_law 435 = .ok (.iconst 1, 1) := by decide +kernel
theorem dL_law_436 : decode cL_law 436 = .ok (.goto 4, 3) := by decide +kernel
theorem dL_law_439 : decode cL_law 439 = .ok (.iconst 0, 1) := by decide +kernel
theorem dL_law_440 : decode cL_law 440 = .ok (.invokevirtual 84, 3) := by decide +kernel
theorem dL_law_443 : decode cL_law 443 = .ok (.aload_n 2, 1) := by decide +kernel
theorem dL_law_444 : decode cL_law 444 = .ok (.aload_n 0, 1) := by decide +kernel
theorem dL_law_445 : decode cL_law 445 = .ok (.iload 4, 2) := by decide +kernel
theorem dL_law_447 : decode cL_law 447 = .ok (.iconst 1, 1) := by decide +kernel
theorem dL_law_448 : decode cL_law 448 = .ok (.iadd, 1) := by decide +kernel
theorem dL_law_449 : decode cL_law 449 = .ok (.iaload, 1) := by decide +kernel
theorem dL_law_450 : decode cL_law 450 = .ok (.ifCond .eq 7, 3) := by decide +kernel
theorem dL_law_453 : decode cL_law 453 = .ok (.iconst 1, 1) := by decide +kernel
theorem dL_law_454 : decode cL_law 454 = .ok (.goto 4, 3) := by decide +kernel
theorem dL_law_457 : decode cL_law 457 = .ok (.iconst 0, 1) := by decide +kernel
theorem dL_law_458 : decode cL_law 458 = .ok (.invokevirtual 88, 3) := by decide +kernel
theorem dL_law_461 : decode cL_law 461 = .ok (.if_icmp .eq 553, 3) := by decide +kernel
theorem dL_law_464 : decode cL_law 464 = .ok (.iconst 0, 1) := by decide +kernel
theorem dL_law_465 : decode cL_law 465 = .ok (.ireturn, 1) := by decide +kernel
theorem dL_law_466 : decode cL_law 466 = .ok (.aload_n 1, 1) := by decide +kernel
theorem dL_law_467 : decode cL_law 467 = .ok (.aload_n 0, 1) := by decide +kernel
theorem dL_law_468 : decode cL_law 468 = .ok (.iload 4, 2) := by decide +kernel
theorem dL_law_470 : decode cL_law 470 = .ok (.iconst 1, 1) := by decide +kernel
theorem dL_law_471 : decode cL_law 471 = .ok (.iadd, 1) := by decide +kernel
theorem dL_law_472 : decode cL_law 472 = .ok (.iaload, 1) := by decide +kernel
theorem dL_law_473 : decode cL_law 473 = .ok (.aload_n 0, 1) := by decide +kernel
theorem dL_law_474 : decode cL_law 474 = .ok (.iload 4, 2) := by decide +kernel
theorem dL_law_476 : decode cL_law 476 = .ok (.iconst 2, 1) := by decide +kernel
theorem dL_law_477 : decode cL_law 477 = .ok (.iadd, 1) := by decide +kernel
theorem dL_law_478 : decode cL_law 478 = .ok (.iaload, 1) := by decide +kernel
theorem dL_law_479 : decode cL_law 479 = .ok (.invokevirtual 89, 3) := by decide +kernel
theorem dL_law_482 : decode cL_law 482 = .ok (.aload_n 2, 1) := by decide +kernel
theorem dL_law_483 : decode cL_law 483 = .ok (.aload_n 0, 1) := by decide +kernel
theorem dL_law_484 : decode cL_law 484 = .ok (.iload 4, 2) := by decide +kernel
theorem dL_law_486 : decode cL_law 486 = .ok (.iconst 1, 1) := by decide +kernel
theorem dL_law_487 : decode cL_law 487 = .ok (.iadd, 1) := by decide +kernel
theorem dL_law_488 : decode cL_law 488 = .ok (.iaload, 1) := by decide +kernel
theorem dL_law_489 : decode cL_law 489 = .ok (.aload_n 0, 1) := by decide +kernel
theorem dL_law_490 : decode cL_law 490 = .ok (.iload 4, 2) := by decide +kernel
theorem dL_law_492 : decode cL_law 492 = .ok (.iconst 2, 1) := by decide +kernel
theorem dL_law_493 : decode cL_law 493 = .ok (.iadd, 1) := by decide +kernel
theorem dL_law_494 : decode cL_law 494 = .ok (.iaload, 1) := by decide +kernel
theorem dL_law_495 : decode cL_law 495 = .ok (.invokevirtual 93, 3) := by decide +kernel
theorem dL_law_498 : decode cL_law 498 = .ok (.if_icmp .eq 516, 3) := by decide +kernel
theorem dL_law_501 : decode cL_law 501 = .ok (.iconst 0, 1) := by decide +kernel
theorem dL_law_502 : decode cL_law 502 = .ok (.ireturn, 1) := by decide +kernel
theorem dL_law_503 : decode cL_law 503 = .ok (.aload_n 1, 1) := by decide +kernel
theorem dL_law_504 : decode cL_law 504 = .ok (.aload_n 0, 1) := by decide +kernel
theorem dL_law_505 : decode cL_law 505 = .ok (.iload 4, 2) := by decide +kernel
theorem dL_law_507 : decode cL_law 507 = .ok (.iconst 1, 1) := by decide +kernel
theorem dL_law_508 : decode cL_law 508 = .ok (.iadd, 1) := by decide +kernel
theorem dL_law_509 : decode cL_law 509 = .ok (.iaload, 1) := by decide +kernel
theorem dL_law_510 : decode cL_law 510 = .ok (.aload_n 0, 1) := by decide +kernel
theorem dL_law_511 : decode cL_law 511 = .ok (.iload 4, 2) := by decide +kernel
theorem dL_law_513 : decode cL_law 513 = .ok (.iconst 2, 1) := by decide +kernel
theorem dL_law_514 : decode cL_law 514 = .ok (.iadd, 1) := by decide +kernel
theorem dL_law_515 : decode cL_law 515 = .ok (.iaload, 1) := by decide +kernel
theorem dL_law_516 : decode cL_law 516 = .ok (.i2l, 1) := by decide +kernel
theorem dL_law_517 : decode cL_law 517 = .ok (.bipush 32, 2) := by decide +kernel
theorem dL_law_519 : decode cL_law 519 = .ok (.lshl, 1) := by decide +kernel
theorem dL_law_520 : decode cL_law 520 = .ok (.aload_n 0, 1) := by decide +kernel
theorem dL_law_521 : decode cL_law 521 = .ok (.iload 4, 2) := by decide +kernel
theorem dL_law_523 : decode cL_law 523 = .ok (.iconst 3, 1) := by decide +kernel
theorem dL_law_524 : decode cL_law 524 = .ok (.iadd, 1) := by decide +kernel
theorem dL_law_525 : decode cL_law 525 = .ok (.iaload, 1) := by decide +kernel
theorem dL_law_526 : decode cL_law 526 = .ok (.i2l, 1) := by decide +kernel
theorem dL_law_527 : decode cL_law 527 = .ok (.ldc2_w 56, 3) := by decide +kernel
theorem dL_law_530 : decode cL_law 530 = .ok (.land, 1) := by decide +kernel
theorem dL_law_531 : decode cL_law 531 = .ok (.lor, 1) := by decide +kernel
theorem dL_law_532 : decode cL_law 532 = .ok (.aload_n 3, 1) := by decide +kernel
theorem dL_law_533 : decode cL_law 533 = .ok (.invokestatic 94, 3) := by decide +kernel
theorem dL_law_536 : decode cL_law 536 = .ok (.istore 5, 2) := by decide +kernel
theorem dL_law_538 : decode cL_law 538 = .ok (.aload_n 2, 1) := by decide +kernel
theorem dL_law_539 : decode cL_law 539 = .ok (.aload_n 0, 1) := by decide +kernel
theorem dL_law_540 : decode cL_law 540 = .ok (.iload 4, 2) := by decide +kernel
theorem dL_law_542 : decode cL_law 542 = .ok (.iconst 1, 1) := by decide +kernel
theorem dL_law_543 : decode cL_law 543 = .ok (.iadd, 1) := by decide +kernel
theorem dL_law_544 : decode cL_law 544 = .ok (.iaload, 1) := by decide +kernel
theorem dL_law_545 : decode cL_law 545 = .ok (.aload_n 0, 1) := by decide +kernel
theorem dL_law_546 : decode cL_law 546 = .ok (.iload 4, 2) := by decide +kernel
theorem dL_law_548 : decode cL_law 548 = .ok (.iconst 2, 1) := by decide +kernel
theorem dL_law_549 : decode cL_law 549 = .ok (.iadd, 1) := by decide +kernel
theorem dL_law_550 : decode cL_law 550 = .ok (.iaload, 1) := by decide +kernel
theorem dL_law_551 : decode cL_law 551 = .ok (.i2l, 1) := by decide +kernel
theorem dL_law_552 : decode cL_law 552 = .ok (.bipush 32, 2) := by decide +kernel
theorem dL_law_554 : decode cL_law 554 = .ok (.lshl, 1) := by decide +kernel
theorem dL_law_555 : decode cL_law 555 = .ok (.aload_n 0, 1) := by decide +kernel
theorem dL_law_556 : decode cL_law 556 = .ok (.iload 4, 2) := by decide +kernel
theorem dL_law_558 : decode cL_law 558 = .ok (.iconst 3, 1) := by decide +kernel
theorem dL_law_559 : decode cL_law 559 = .ok (.iadd, 1) := by decide +kernel
theorem dL_law_560 : decode cL_law 560 = .ok (.iaload, 1) := by decide +kernel
theorem dL_law_561 : decode cL_law 561 = .ok (.i2l, 1) := by decide +kernel
theorem dL_law_562 : decode cL_law 562 = .ok (.ldc2_w 56, 3) := by decide +kernel
theorem dL_law_565 : decode cL_law 565 = .ok (.land, 1) := by decide +kernel
theorem dL_law_566 : decode cL_law 566 = .ok (.lor, 1) := by decide +kernel
theorem dL_law_567 : decode cL_law 567 = .ok (.invokevirtual 97, 3) := by decide +kernel
theorem dL_law_570 : decode cL_law 570 = .ok (.istore 6, 2) := by decide +kernel
theorem dL_law_572 : decode cL_law 572 = .ok (.aload_n 2, 1) := by decide +kernel
theorem dL_law_573 : decode cL_law 573 = .ok (.invokevirtual 64, 3) := by decide +kernel
theorem dL_law_576 : decode cL_law 576 = .ok (.iload 5, 2) := by decide +kernel
theorem dL_law_578 : decode cL_law 578 = .ok (.if_icmp .eq 5, 3) := by decide +kernel
theorem dL_law_581 : decode cL_law 581 = .ok (.iconst 0, 1) := by decide +kernel
theorem dL_law_582 : decode cL_law 582 = .ok (.ireturn, 1) := by decide +kernel
theorem dL_law_583 : decode cL_law 583 = .ok (.iload 5, 2) := by decide +kernel
theorem dL_law_585 : decode cL_law 585 = .ok (.ifCond .ne 15, 3) := by decide +kernel
theorem dL_law_588 : decode cL_law 588 = .ok (.aload_n 3, 1) := by decide +kernel
theorem dL_law_589 : decode cL_law 589 = .ok (.iconst 0, 1) := by decide +kernel
theorem dL_law_590 : decode cL_law 590 = .ok (.laload, 1) := by decide +kernel
theorem dL_law_591 : decode cL_law 591 = .ok (.iload 6, 2) := by decide +kernel
theorem dL_law_593 : decode cL_law 593 = .ok (.i2l, 1) := by decide +kernel
theorem dL_law_594 : decode cL_law 594 = .ok (.lcmp, 1) := by decide +kernel
theorem dL_law_595 : decode cL_law 595 = .ok (.ifCond .eq 5, 3) := by decide +kernel
theorem dL_law_598 : decode cL_law 598 = .ok (.iconst 0, 1) := by decide +kernel
theorem dL_law_599 : decode cL_law 599 = .ok (.ireturn, 1) := by decide +kernel
theorem dL_law_600 : decode cL_law 600 = .ok (.goto 414, 3) := by decide +kernel
theorem dL_law_603 : decode cL_law 603 = .ok (.aload_n 1, 1) := by decide +kernel
theorem dL_law_604 : decode cL_law 604 = .ok (.aload_n 0, 1) := by decide +kernel
theorem dL_law_605 : decode cL_law 605 = .ok (.iload 4, 2) := by decide +kernel
theorem dL_law_607 : decode cL_law 607 = .ok (.iconst 1, 1) := by decide +kernel
theorem dL_law_608 : decode cL_law 608 = .ok (.iadd, 1) := by decide +kernel
theorem dL_law_609 : decode cL_law 609 = .ok (.iaload, 1) := by decide +kernel
theorem dL_law_610 : decode cL_law 610 = .ok (.invokevirtual 98, 3) := by decide +kernel
theorem dL_law_613 : decode cL_law 613 = .ok (.aload_n 2, 1) := by decide +kernel
theorem dL_law_614 : decode cL_law 614 = .ok (.aload_n 0, 1) := by decide +kernel
theorem dL_law_615 : decode cL_law 615 = .ok (.iload 4, 2) := by decide +kernel
theorem dL_law_617 : decode cL_law 617 = .ok (.iconst 1, 1) := by decide +kernel
theorem dL_law_618 : decode cL_law 618 = .ok (.iadd, 1) := by decide +kernel
theorem dL_law_619 : decode cL_law 619 = .ok (.iaload, 1) := by decide +kernel
theorem dL_law_620 : decode cL_law 620 = .ok (.invokevirtual 102, 3) := by decide +kernel
theorem dL_law_623 : decode cL_law 623 = .ok (.if_icmp .eq 391, 3) := by decide +kernel
theorem dL_law_626 : decode cL_law 626 = .ok (.iconst 0, 1) := by decide +kernel
theorem dL_law_627 : decode cL_law 627 = .ok (.ireturn, 1) := by decide +kernel
theorem dL_law_628 : decode cL_law 628 = .ok (.aload_n 1, 1) := by decide +kernel
theorem dL_law_629 : decode cL_law 629 = .ok (.aload_n 0, 1) := by decide +kernel
theorem dL_law_630 : decode cL_law 630 = .ok (.iload 4, 2) := by decide +kernel
theorem dL_law_632 : decode cL_law 632 = .ok (.iconst 1, 1) := by decide +kernel
theorem dL_law_633 : decode cL_law 633 = .ok (.iadd, 1) := by decide +kernel
theorem dL_law_634 : decode cL_law 634 = .ok (.iaload, 1) := by decide +kernel
theorem dL_law_635 : decode cL_law 635 = .ok (.i2l, 1) := by decide +kernel
theorem dL_law_636 : decode cL_law 636 = .ok (.bipush 32, 2) := by decide +kernel
theorem dL_law_638 : decode cL_law 638 = .ok (.lshl, 1) := by decide +kernel
theorem dL_law_639 : decode cL_law 639 = .ok (.aload_n 0, 1) := by decide +kernel
theorem dL_law_640 : decode cL_law 640 = .ok (.iload 4, 2) := by decide +kernel
theorem dL_law_642 : decode cL_law 642 = .ok (.iconst 2, 1) := by decide +kernel
theorem dL_law_643 : decode cL_law 643 = .ok (.iadd, 1) := by decide +kernel
theorem dL_law_644 : decode cL_law 644 = .ok (.iaload, 1) := by decide +kernel
theorem dL_law_645 : decode cL_law 645 = .ok (.i2l, 1) := by decide +kernel
theorem dL_law_646 : decode cL_law 646 = .ok (.ldc2_w 56, 3) := by decide +kernel
theorem dL_law_649 : decode cL_law 649 = .ok (.land, 1) := by decide +kernel
theorem dL_law_650 : decode cL_law 650 = .ok (.lor, 1) := by decide +kernel
theorem dL_law_651 : decode cL_law 651 = .ok (.aload_n 0, 1) := by decide +kernel
theorem dL_law_652 : decode cL_law 652 = .ok (.iload 4, 2) := by decide +kernel
theorem dL_law_654 : decode cL_law 654 = .ok (.iconst 3, 1) := by decide +kernel
theorem dL_law_655 : decode cL_law 655 = .ok (.iadd, 1) := by decide +kernel
theorem dL_law_656 : decode cL_law 656 = .ok (.iaload, 1) := by decide +kernel
theorem dL_law_657 : decode cL_law 657 = .ok (.aload_n 3, 1) := by decide +kernel
theorem dL_law_658 : decode cL_law 658 = .ok (.invokestatic 103, 3) := by decide +kernel
theorem dL_law_661 : decode cL_law 661 = .ok (.istore 5, 2) := by decide +kernel
theorem dL_law_663 : decode cL_law 663 = .ok (.aload_n 2, 1) := by decide +kernel
theorem dL_law_664 : decode cL_law 664 = .ok (.aload_n 0, 1) := by decide +kernel
theorem dL_law_665 : decode cL_law 665 = .ok (.iload 4, 2) := by decide +kernel
theorem dL_law_667 : decode cL_law 667 = .ok (.iconst 1, 1) := by decide +kernel
theorem dL_law_668 : decode cL_law 668 = .ok (.iadd, 1) := by decide +kernel
theorem dL_law_669 : decode cL_law 669 = .ok (.iaload, 1) := by decide +kernel
theorem dL_law_670 : decode cL_law 670 = .ok (.i2l, 1) := by decide +kernel
theorem dL_law_671 : decode cL_law 671 = .ok (.bipush 32, 2) := by decide +kernel
theorem dL_law_673 : decode cL_law 673 = .ok (.lshl, 1) := by decide +kernel
theorem dL_law_674 : decode cL_law 674 = .ok (.aload_n 0, 1) := by decide +kernel
theorem dL_law_675 : decode cL_law 675 = .ok (.iload 4, 2) := by decide +kernel
theorem dL_law_677 : decode cL_law 677 = .ok (.iconst 2, 1) := by decide +kernel
theorem dL_law_678 : decode cL_law 678 = .ok (.iadd, 1) := by decide +kernel
theorem dL_law_679 : decode cL_law 679 = .ok (.iaload, 1) := by decide +kernel
theorem dL_law_680 : decode cL_law 680 = .ok (.i2l, 1) := by decide +kernel
theorem dL_law_681 : decode cL_law 681 = .ok (.ldc2_w 56, 3) := by decide +kernel
theorem dL_law_684 : decode cL_law 684 = .ok (.land, 1) := by decide +kernel
theorem dL_law_685 : decode cL_law 685 = .ok (.lor, 1) := by decide +kernel
theorem dL_law_686 : decode cL_law 686 = .ok (.aload_n 0, 1) := by decide +kernel
theorem dL_law_687 : decode cL_law 687 = .ok (.iload 4, 2) := by decide +kernel
theorem dL_law_689 : decode cL_law 689 = .ok (.iconst 3, 1) := by decide +kernel
theorem dL_law_690 : decode cL_law 690 = .ok (.iadd, 1) := by decide +kernel
theorem dL_law_691 : decode cL_law 691 = .ok (.iaload, 1) := by decide +kernel
theorem dL_law_692 : decode cL_law 692 = .ok (.invokevirtual 106, 3) := by decide +kernel
theorem dL_law_695 : decode cL_law 695 = .ok (.lstore 6, 2) := by decide +kernel
theorem dL_law_697 : decode cL_law 697 = .ok (.aload_n 2, 1) := by decide +kernel
theorem dL_law_698 : decode cL_law 698 = .ok (.invokevirtual 64, 3) := by decide +kernel
theorem dL_law_701 : decode cL_law 701 = .ok (.iload 5, 2) := by decide +kernel
theorem dL_law_703 : decode cL_law 703 = .ok (.if_icmp .eq 5, 3) := by decide +kernel
theorem dL_law_706 : decode cL_law 706 = .ok (.iconst 0, 1) := by decide +kernel
theorem dL_law_707 : decode cL_law 707 = .ok (.ireturn, 1) := by decide +kernel
theorem dL_law_708 : decode cL_law 708 = .ok (.iload 5, 2) := by decide +kernel
theorem dL_law_710 : decode cL_law 710 = .ok (.ifCond .ne 14, 3) := by decide +kernel
theorem dL_law_713 : decode cL_law 713 = .ok (.aload_n 3, 1) := by decide +kernel
theorem dL_law_714 : decode cL_law 714 = .ok (.iconst 0, 1) := by decide +kernel
theorem dL_law_715 : decode cL_law 715 = .ok (.laload, 1) := by decide +kernel
theorem dL_law_716 : decode cL_law 716 = .ok (.lload 6, 2) := by decide +kernel
theorem dL_law_718 : decode cL_law 718 = .ok (.lcmp, 1) := by decide +kernel
theorem dL_law_719 : decode cL_law 719 = .ok (.ifCond .eq 5, 3) := by decide +kernel
theorem dL_law_722 : decode cL_law 722 = .ok (.iconst 0, 1) := by decide +kernel
theorem dL_law_723 : decode cL_law 723 = .ok (.ireturn, 1) := by decide +kernel
theorem dL_law_724 : decode cL_law 724 = .ok (.goto 290, 3) := by decide +kernel
theorem dL_law_727 : decode cL_law 727 = .ok (.aload_n 1, 1) := by decide +kernel
theorem dL_law_728 : decode cL_law 728 = .ok (.aload_n 0, 1) := by decide +kernel
theorem dL_law_729 : decode cL_law 729 = .ok (.iload 4, 2) := by decide +kernel
theorem dL_law_731 : decode cL_law 731 = .ok (.iconst 1, 1) := by decide +kernel
theorem dL_law_732 : decode cL_law 732 = .ok (.iadd, 1) := by decide +kernel
theorem dL_law_733 : decode cL_law 733 = .ok (.iaload, 1) := by decide +kernel
theorem dL_law_734 : decode cL_law 734 = .ok (.aload_n 0, 1) := by decide +kernel
theorem dL_law_735 : decode cL_law 735 = .ok (.iload 4, 2) := by decide +kernel
theorem dL_law_737 : decode cL_law 737 = .ok (.iconst 2, 1) := by decide +kernel
theorem dL_law_738 : decode cL_law 738 = .ok (.iadd, 1) := by decide +kernel
theorem dL_law_739 : decode cL_law 739 = .ok (.iaload, 1) := by decide +kernel
theorem dL_law_740 : decode cL_law 740 = .ok (.aload_n 0, 1) := by decide +kernel
theorem dL_law_741 : decode cL_law 741 = .ok (.iload 4, 2) := by decide +kernel
theorem dL_law_743 : decode cL_law 743 = .ok (.iconst 3, 1) := by decide +kernel
theorem dL_law_744 : decode cL_law 744 = .ok (.iadd, 1) := by decide +kernel
theorem dL_law_745 : decode cL_law 745 = .ok (.iaload, 1) := by decide +kernel
theorem dL_law_746 : decode cL_law 746 = .ok (.aload_n 3, 1) := by decide +kernel
theorem dL_law_747 : decode cL_law 747 = .ok (.invokestatic 107, 3) := by decide +kernel
theorem dL_law_750 : decode cL_law 750 = .ok (.istore 5, 2) := by decide +kernel
theorem dL_law_752 : decode cL_law 752 = .ok (.aload_n 2, 1) := by decide +kernel
theorem dL_law_753 : decode cL_law 753 = .ok (.aload_n 0, 1) := by decide +kernel
theorem dL_law_754 : decode cL_law 754 = .ok (.iload 4, 2) := by decide +kernel
theorem dL_law_756 : decode cL_law 756 = .ok (.iconst 1, 1) := by decide +kernel
theorem dL_law_757 : decode cL_law 757 = .ok (.iadd, 1) := by decide +kernel
theorem dL_law_758 : decode cL_law 758 = .ok (.iaload, 1) := by decide +kernel
theorem dL_law_759 : decode cL_law 759 = .ok (.aload_n 0, 1) := by decide +kernel
theorem dL_law_760 : decode cL_law 760 = .ok (.iload 4, 2) := by decide +kernel
theorem dL_law_762 : decode cL_law 762 = .ok (.iconst 2, 1) := by decide +kernel
theorem dL_law_763 : decode cL_law 763 = .ok (.iadd, 1) := by decide +kernel
theorem dL_law_764 : decode cL_law 764 = .ok (.iaload, 1) := by decide +kernel
theorem dL_law_765 : decode cL_law 765 = .ok (.aload_n 0, 1) := by decide +kernel
theorem dL_law_766 : decode cL_law 766 = .ok (.iload 4, 2) := by decide +kernel
theorem dL_law_768 : decode cL_law 768 = .ok (.iconst 3, 1) := by decide +kernel
theorem dL_law_769 : decode cL_law 769 = .ok (.iadd, 1) := by decide +kernel
theorem dL_law_770 : decode cL_law 770 = .ok (.iaload, 1) := by decide +kernel
theorem dL_law_771 : decode cL_law 771 = .ok (.invokevirtual 110, 3) := by decide +kernel
theorem dL_law_774 : decode cL_law 774 = .ok (.istore 6, 2) := by decide +kernel
theorem dL_law_776 : decode cL_law 776 = .ok (.aload_n 2, 1) := by decide +kernel
theorem dL_law_777 : decode cL_law 777 = .ok (.invokevirtual 64, 3) := by decide +kernel
theorem dL_law_780 : decode cL_law 780 = .ok (.iload 5, 2) := by decide +kernel
theorem dL_law_782 : decode cL_law 782 = .ok (.if_icmp .eq 5, 3) := by decide +kernel
theorem dL_law_785 : decode cL_law 785 = .ok (.iconst 0, 1) := by decide +kernel
theorem dL_law_786 : decode cL_law 786 = .ok (.ireturn, 1) := by decide +kernel
theorem dL_law_787 : decode cL_law 787 = .ok (.iload 5, 2) := by decide +kernel
theorem dL_law_789 : decode cL_law 789 = .ok (.ifCond .ne 15, 3) := by decide +kernel
theorem dL_law_792 : decode cL_law 792 = .ok (.aload_n 3, 1) := by decide +kernel
theorem dL_law_793 : decode cL_law 793 = .ok (.iconst 0, 1) := by decide +kernel
theorem dL_law_794 : decode cL_law 794 = .ok (.laload, 1) := by decide +kernel
theorem dL_law_795 : decode cL_law 795 = .ok (.iload 6, 2) := by decide +kernel
theorem dL_law_797 : decode cL_law 797 = .ok (.i2l, 1) := by decide +kernel
theorem dL_law_798 : decode cL_law 798 = .ok (.lcmp, 1) := by decide +kernel
theorem dL_law_799 : decode cL_law 799 = .ok (.ifCond .eq 5, 3) := by decide +kernel
theorem dL_law_802 : decode cL_law 802 = .ok (.iconst 0, 1) := by decide +kernel
theorem dL_law_803 : decode cL_law 803 = .ok (.ireturn, 1) := by decide +kernel
theorem dL_law_804 : decode cL_law 804 = .ok (.goto 210, 3) := by decide +kernel
theorem dL_law_807 : decode cL_law 807 = .ok (.aload_n 1, 1) := by decide +kernel
theorem dL_law_808 : decode cL_law 808 = .ok (.aload_n 0, 1) := by decide +kernel
theorem dL_law_809 : decode cL_law 809 = .ok (.iload 4, 2) := by decide +kernel
theorem dL_law_811 : decode cL_law 811 = .ok (.iconst 1, 1) := by decide +kernel
theorem dL_law_812 : decode cL_law 812 = .ok (.iadd, 1) := by decide +kernel
theorem dL_law_813 : decode cL_law 813 = .ok (.iaload, 1) := by decide +kernel
theorem dL_law_814 : decode cL_law 814 = .ok (.aload_n 0, 1) := by decide +kernel
theorem dL_law_815 : decode cL_law 815 = .ok (.iload 4, 2) := by decide +kernel
theorem dL_law_817 : decode cL_law 817 = .ok (.iconst 2, 1) := by decide +kernel
theorem dL_law_818 : decode cL_law 818 = .ok (.iadd, 1) := by decide +kernel
theorem dL_law_819 : decode cL_law 819 = .ok (.iaload, 1) := by decide +kernel
theorem dL_law_820 : decode cL_law 820 = .ok (.i2l, 1) := by decide +kernel
theorem dL_law_821 : decode cL_law 821 = .ok (.bipush 32, 2) := by decide +kernel
theorem dL_law_823 : decode cL_law 823 = .ok (.lshl, 1) := by decide +kernel
theorem dL_law_824 : decode cL_law 824 = .ok (.aload_n 0, 1) := by decide +kernel
theorem dL_law_825 : decode cL_law 825 = .ok (.iload 4, 2) := by decide +kernel
theorem dL_law_827 : decode cL_law 827 = .ok (.iconst 3, 1) := by decide +kernel
theorem dL_law_828 : decode cL_law 828 = .ok (.iadd, 1) := by decide +kernel
theorem dL_law_829 : decode cL_law 829 = .ok (.iaload, 1) := by decide +kernel
theorem dL_law_830 : decode cL_law 830 = .ok (.i2l, 1) := by decide +kernel
theorem dL_law_831 : decode cL_law 831 = .ok (.ldc2_w 56, 3) := by decide +kernel
theorem dL_law_834 : decode cL_law 834 = .ok (.land, 1) := by decide +kernel
theorem dL_law_835 : decode cL_law 835 = .ok (.lor, 1) := by decide +kernel
theorem dL_law_836 : decode cL_law 836 = .ok (.aload_n 0, 1) := by decide +kernel
theorem dL_law_837 : decode cL_law 837 = .ok (.iload 4, 2) := by decide +kernel
theorem dL_law_839 : decode cL_law 839 = .ok (.iconst 4, 1) := by decide +kernel
theorem dL_law_840 : decode cL_law 840 = .ok (.iadd, 1) := by decide +kernel
theorem dL_law_841 : decode cL_law 841 = .ok (.iaload, 1) := by decide +kernel
theorem dL_law_842 : decode cL_law 842 = .ok (.aload_n 3, 1) := by decide +kernel
theorem dL_law_843 : decode cL_law 843 = .ok (.invokestatic 111, 3) := by decide +kernel
theorem dL_law_846 : decode cL_law 846 = .ok (.istore 5, 2) := by decide +kernel
theorem dL_law_848 : decode cL_law 848 = .ok (.aload_n 2, 1) := by decide +kernel
theorem dL_law_849 : decode cL_law 849 = .ok (.aload_n 0, 1) := by decide +kernel
theorem dL_law_850 : decode cL_law 850 = .ok (.iload 4, 2) := by decide +kernel
theorem dL_law_852 : decode cL_law 852 = .ok (.iconst 1, 1) := by decide +kernel
theorem dL_law_853 : decode cL_law 853 = .ok (.iadd, 1) := by decide +kernel
theorem dL_law_854 : decode cL_law 854 = .ok (.iaload, 1) := by decide +kernel
theorem dL_law_855 : decode cL_law 855 = .ok (.aload_n 0, 1) := by decide +kernel
theorem dL_law_856 : decode cL_law 856 = .ok (.iload 4, 2) := by decide +kernel
theorem dL_law_858 : decode cL_law 858 = .ok (.iconst 2, 1) := by decide +kernel
theorem dL_law_859 : decode cL_law 859 = .ok (.iadd, 1) := by decide +kernel
theorem dL_law_860 : decode cL_law 860 = .ok (.iaload, 1) := by decide +kernel
theorem dL_law_861 : decode cL_law 861 = .ok (.i2l, 1) := by decide +kernel
theorem dL_law_862 : decode cL_law 862 = .ok (.bipush 32, 2) := by decide +kernel
theorem dL_law_864 : decode cL_law 864 = .ok (.lshl, 1) := by decide +kernel
theorem dL_law_865 : decode cL_law 865 = .ok (.aload_n 0, 1) := by decide +kernel
theorem dL_law_866 : decode cL_law 866 = .ok (.iload 4, 2) := by decide +kernel
theorem dL_law_868 : decode cL_law 868 = .ok (.iconst 3, 1) := by decide +kernel
theorem dL_law_869 : decode cL_law 869 = .ok (.iadd, 1) := by decide +kernel
theorem dL_law_870 : decode cL_law 870 = .ok (.iaload, 1) := by decide +kernel
theorem dL_law_871 : decode cL_law 871 = .ok (.i2l, 1) := by decide +kernel
theorem dL_law_872 : decode cL_law 872 = .ok (.ldc2_w 56, 3) := by decide +kernel
theorem dL_law_875 : decode cL_law 875 = .ok (.land, 1) := by decide +kernel
theorem dL_law_876 : decode cL_law 876 = .ok (.lor, 1) := by decide +kernel
theorem dL_law_877 : decode cL_law 877 = .ok (.aload_n 0, 1) := by decide +kernel
theorem dL_law_878 : decode cL_law 878 = .ok (.iload 4, 2) := by decide +kernel
theorem dL_law_880 : decode cL_law 880 = .ok (.iconst 4, 1) := by decide +kernel
theorem dL_law_881 : decode cL_law 881 = .ok (.iadd, 1) := by decide +kernel
theorem dL_law_882 : decode cL_law 882 = .ok (.iaload, 1) := by decide +kernel
theorem dL_law_883 : decode cL_law 883 = .ok (.invokevirtual 114, 3) := by decide +kernel
theorem dL_law_886 : decode cL_law 886 = .ok (.istore 6, 2) := by decide +kernel
theorem dL_law_888 : decode cL_law 888 = .ok (.aload_n 2, 1) := by decide +kernel
theorem dL_law_889 : decode cL_law 889 = .ok (.invokevirtual 64, 3) := by decide +kernel
theorem dL_law_892 : decode cL_law 892 = .ok (.iload 5, 2) := by decide +kernel
theorem dL_law_894 : decode cL_law 894 = .ok (.if_icmp .eq 5, 3) := by decide +kernel
theorem dL_law_897 : decode cL_law 897 = .ok (.iconst 0, 1) := by decide +kernel
theorem dL_law_898 : decode cL_law 898 = .ok (.ireturn, 1) := by decide +kernel
theorem dL_law_899 : decode cL_law 899 = .ok (.iload 5, 2) := by decide +kernel
theorem dL_law_901 : decode cL_law 901 = .ok (.ifCond .ne 22, 3) := by decide +kernel
theorem dL_law_904 : decode cL_law 904 = .ok (.aload_n 3, 1) := by decide +kernel
theorem dL_law_905 : decode cL_law 905 = .ok (.iconst 0, 1) := by decide +kernel
theorem dL_law_906 : decode cL_law 906 = .ok (.laload, 1) := by decide +kernel
theorem dL_law_907 : decode cL_law 907 = .ok (.iload 6, 2) := by decide +kernel
theorem dL_law_909 : decode cL_law 909 = .ok (.ifCond .eq 7, 3) := by decide +kernel
theorem dL_law_912 : decode cL_law 912 = .ok (.lconst 1, 1) := by decide +kernel
theorem dL_law_913 : decode cL_law 913 = .ok (.goto 4, 3) := by decide +kernel
theorem dL_law_916 : decode cL_law 916 = .ok (.lconst 0, 1) := by decide +kernel
theorem dL_law_917 : decode cL_law 917 = .ok (.lcmp, 1) := by decide +kernel
theorem dL_law_918 : decode cL_law 918 = .ok (.ifCond .eq 5, 3) := by decide +kernel
theorem dL_law_921 : decode cL_law 921 = .ok (.iconst 0, 1) := by decide +kernel
theorem dL_law_922 : decode cL_law 922 = .ok (.ireturn, 1) := by decide +kernel
theorem dL_law_923 : decode cL_law 923 = .ok (.goto 91, 3) := by decide +kernel
theorem dL_law_926 : decode cL_law 926 = .ok (.aload_n 1, 1) := by decide +kernel
theorem dL_law_927 : decode cL_law 927 = .ok (.aload_n 0, 1) := by decide +kernel
theorem dL_law_928 : decode cL_law 928 = .ok (.iload 4, 2) := by decide +kernel
theorem dL_law_930 : decode cL_law 930 = .ok (.iconst 1, 1) := by decide +kernel
theorem dL_law_931 : decode cL_law 931 = .ok (.iadd, 1) := by decide +kernel
theorem dL_law_932 : decode cL_law 932 = .ok (.iaload, 1) := by decide +kernel
theorem dL_law_933 : decode cL_law 933 = .ok (.aload_n 3, 1) := by decide +kernel
theorem dL_law_934 : decode cL_law 934 = .ok (.invokestatic 115, 3) := by decide +kernel
theorem dL_law_937 : decode cL_law 937 = .ok (.istore 5, 2) := by decide +kernel
theorem dL_law_939 : decode cL_law 939 = .ok (.aload_n 2, 1) := by decide +kernel
theorem dL_law_940 : decode cL_law 940 = .ok (.aload_n 0, 1) := by decide +kernel
theorem dL_law_941 : decode cL_law 941 = .ok (.iload 4, 2) := by decide +kernel
theorem dL_law_943 : decode cL_law 943 = .ok (.iconst 1, 1) := by decide +kernel
theorem dL_law_944 : decode cL_law 944 = .ok (.iadd, 1) := by decide +kernel
theorem dL_law_945 : decode cL_law 945 = .ok (.iaload, 1) := by decide +kernel
theorem dL_law_946 : decode cL_law 946 = .ok (.invokevirtual 118, 3) := by decide +kernel
theorem dL_law_949 : decode cL_law 949 = .ok (.istore 6, 2) := by decide +kernel
theorem dL_law_951 : decode cL_law 951 = .ok (.aload_n 2, 1) := by decide +kernel
theorem dL_law_952 : decode cL_law 952 = .ok (.invokevirtual 64, 3) := by decide +kernel
theorem dL_law_955 : decode cL_law 955 = .ok (.iload 5, 2) := by decide +kernel
theorem dL_law_957 : decode cL_law 957 = .ok (.if_icmp .eq 5, 3) := by decide +kernel
theorem dL_law_960 : decode cL_law 960 = .ok (.iconst 0, 1) := by decide +kernel
theorem dL_law_961 : decode cL_law 961 = .ok (.ireturn, 1) := by decide +kernel
theorem dL_law_962 : decode cL_law 962 = .ok (.iload 5, 2) := by decide +kernel
theorem dL_law_964 : decode cL_law 964 = .ok (.ifCond .ne 22, 3) := by decide +kernel
theorem dL_law_967 : decode cL_law 967 = .ok (.aload_n 3, 1) := by decide +kernel
theorem dL_law_968 : decode cL_law 968 = .ok (.iconst 0, 1) := by decide +kernel
theorem dL_law_969 : decode cL_law 969 = .ok (.laload, 1) := by decide +kernel
theorem dL_law_970 : decode cL_law 970 = .ok (.iload 6, 2) := by decide +kernel
theorem dL_law_972 : decode cL_law 972 = .ok (.ifCond .eq 7, 3) := by decide +kernel
theorem dL_law_975 : decode cL_law 975 = .ok (.lconst 1, 1) := by decide +kernel
theorem dL_law_976 : decode cL_law 976 = .ok (.goto 4, 3) := by decide +kernel
theorem dL_law_979 : decode cL_law 979 = .ok (.lconst 0, 1) := by decide +kernel
theorem dL_law_980 : decode cL_law 980 = .ok (.lcmp, 1) := by decide +kernel
theorem dL_law_981 : decode cL_law 981 = .ok (.ifCond .eq 5, 3) := by decide +kernel
theorem dL_law_984 : decode cL_law 984 = .ok (.iconst 0, 1) := by decide +kernel
theorem dL_law_985 : decode cL_law 985 = .ok (.ireturn, 1) := by decide +kernel
theorem dL_law_986 : decode cL_law 986 = .ok (.goto 28, 3) := by decide +kernel
theorem dL_law_989 : decode cL_law 989 = .ok (.aload_n 1, 1) := by decide +kernel
theorem dL_law_990 : decode cL_law 990 = .ok (.aload_n 0, 1) := by decide +kernel
theorem dL_law_991 : decode cL_law 991 = .ok (.iload 4, 2) := by decide +kernel
theorem dL_law_993 : decode cL_law 993 = .ok (.iconst 1, 1) := by decide +kernel
theorem dL_law_994 : decode cL_law 994 = .ok (.iadd, 1) := by decide +kernel
theorem dL_law_995 : decode cL_law 995 = .ok (.iaload, 1) := by decide +kernel
theorem dL_law_996 : decode cL_law 996 = .ok (.invokevirtual 119, 3) := by decide +kernel
theorem dL_law_999 : decode cL_law 999 = .ok (.aload_n 2, 1) := by decide +kernel
theorem dL_law_1000 : decode cL_law 1000 = .ok (.aload_n 0, 1) := by decide +kernel
theorem dL_law_1001 : decode cL_law 1001 = .ok (.iload 4, 2) := by decide +kernel
theorem dL_law_1003 : decode cL_law 1003 = .ok (.iconst 1, 1) := by decide +kernel
theorem dL_law_1004 : decode cL_law 1004 = .ok (.iadd, 1) := by decide +kernel
theorem dL_law_1005 : decode cL_law 1005 = .ok (.iaload, 1) := by decide +kernel
theorem dL_law_1006 : decode cL_law 1006 = .ok (.invokevirtual 122, 3) := by decide +kernel
theorem dL_law_1009 : decode cL_law 1009 = .ok (.if_icmp .eq 5, 3) := by decide +kernel
theorem dL_law_1012 : decode cL_law 1012 = .ok (.iconst 0, 1) := by decide +kernel
theorem dL_law_1013 : decode cL_law 1013 = .ok (.ireturn, 1) := by decide +kernel
theorem dL_law_1014 : decode cL_law 1014 = .ok (.iinc 4 5, 3) := by decide +kernel
theorem dL_law_1017 : decode cL_law 1017 = .ok (.goto (-994), 3) := by decide +kernel
theorem dL_law_1020 : decode cL_law 1020 = .ok (.iconst 1, 1) := by decide +kernel
theorem dL_law_1021 : decode cL_law 1021 = .ok (.ireturn, 1) := by decide +kernel
