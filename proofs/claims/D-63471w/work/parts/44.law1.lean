theorem d_law_cell_0 : decode b_law_cell 0 = .ok (.iload_n 1, 1) := by decide +kernel
theorem d_law_cell_1 : decode b_law_cell 1 = .ok (.aload_n 0, 1) := by decide +kernel
theorem d_law_cell_2 : decode b_law_cell 2 = .ok (.arraylength, 1) := by decide +kernel
theorem d_law_cell_3 : decode b_law_cell 3 = .ok (.if_icmp .ge 9, 3) := by decide +kernel
theorem d_law_cell_6 : decode b_law_cell 6 = .ok (.aload_n 0, 1) := by decide +kernel
theorem d_law_cell_7 : decode b_law_cell 7 = .ok (.iload_n 1, 1) := by decide +kernel
theorem d_law_cell_8 : decode b_law_cell 8 = .ok (.iaload, 1) := by decide +kernel
theorem d_law_cell_9 : decode b_law_cell 9 = .ok (.goto 4, 3) := by decide +kernel
theorem d_law_cell_12 : decode b_law_cell 12 = .ok (.iconst 0, 1) := by decide +kernel
theorem d_law_cell_13 : decode b_law_cell 13 = .ok (.ireturn, 1) := by decide +kernel
theorem d_law_0 : decode code 0 = .ok (.new 7, 3) := by decide +kernel
theorem d_law_3 : decode code 3 = .ok (.dup, 1) := by decide +kernel
theorem d_law_4 : decode code 4 = .ok (.aload_n 0, 1) := by decide +kernel
theorem d_law_5 : decode code 5 = .ok (.iconst 0, 1) := by decide +kernel
theorem d_law_6 : decode code 6 = .ok (.invokestatic 9, 3) := by decide +kernel
theorem d_law_9 : decode code 9 = .ok (.aload_n 0, 1) := by decide +kernel
theorem d_law_10 : decode code 10 = .ok (.iconst 1, 1) := by decide +kernel
theorem d_law_11 : decode code 11 = .ok (.invokestatic 9, 3) := by decide +kernel
theorem d_law_14 : decode code 14 = .ok (.invokespecial 15, 3) := by decide +kernel
theorem d_law_17 : decode code 17 = .ok (.astore_n 1, 1) := by decide +kernel
theorem d_law_18 : decode code 18 = .ok (.new 18, 3) := by decide +kernel
theorem d_law_21 : decode code 21 = .ok (.dup, 1) := by decide +kernel
theorem d_law_22 : decode code 22 = .ok (.aload_n 0, 1) := by decide +kernel
theorem d_law_23 : decode code 23 = .ok (.iconst 0, 1) := by decide +kernel
theorem d_law_24 : decode code 24 = .ok (.invokestatic 9, 3) := by decide +kernel
theorem d_law_27 : decode code 27 = .ok (.aload_n 0, 1) := by decide +kernel
theorem d_law_28 : decode code 28 = .ok (.iconst 1, 1) := by decide +kernel
theorem d_law_29 : decode code 29 = .ok (.invokestatic 9, 3) := by decide +kernel
theorem d_law_32 : decode code 32 = .ok (.invokespecial 20, 3) := by decide +kernel
theorem d_law_35 : decode code 35 = .ok (.astore_n 2, 1) := by decide +kernel
theorem d_law_36 : decode code 36 = .ok (.iconst 2, 1) := by decide +kernel
theorem d_law_37 : decode code 37 = .ok (.istore_n 3, 1) := by decide +kernel
theorem d_law_38 : decode code 38 = .ok (.iload_n 3, 1) := by decide +kernel
theorem d_law_39 : decode code 39 = .ok (.aload_n 0, 1) := by decide +kernel
theorem d_law_40 : decode code 40 = .ok (.arraylength, 1) := by decide +kernel
theorem d_law_41 : decode code 41 = .ok (.iconst 4, 1) := by decide +kernel
theorem d_law_42 : decode code 42 = .ok (.isub, 1) := by decide +kernel
theorem d_law_43 : decode code 43 = .ok (.if_icmp .gt 439, 3) := by decide +kernel
theorem d_law_46 : decode code 46 = .ok (.aload_n 0, 1) := by decide +kernel
theorem d_law_47 : decode code 47 = .ok (.iload_n 3, 1) := by decide +kernel
theorem d_law_48 : decode code 48 = .ok (.iaload, 1) := by decide +kernel
theorem d_law_49 : decode code 49 = .ok (.bipush 15, 2) := by decide +kernel
theorem d_law_51 : decode code 51 = .ok (.iand, 1) := by decide +kernel
theorem d_law_52 : decode code 52 = .ok (.tableswitch 424 0 13 #[72, 115, 148, 171, 194, 207, 240, 273, 306, 329, 352, 375, 398, 411], 72) := by decide +kernel
theorem d_law_124 : decode code 124 = .ok (.aload_n 1, 1) := by decide +kernel
theorem d_law_125 : decode code 125 = .ok (.aload_n 0, 1) := by decide +kernel
theorem d_law_126 : decode code 126 = .ok (.iload_n 3, 1) := by decide +kernel
theorem d_law_127 : decode code 127 = .ok (.iconst 1, 1) := by decide +kernel
theorem d_law_128 : decode code 128 = .ok (.iadd, 1) := by decide +kernel
theorem d_law_129 : decode code 129 = .ok (.iaload, 1) := by decide +kernel
theorem d_law_130 : decode code 130 = .ok (.aload_n 0, 1) := by decide +kernel
theorem d_law_131 : decode code 131 = .ok (.iload_n 3, 1) := by decide +kernel
theorem d_law_132 : decode code 132 = .ok (.iconst 2, 1) := by decide +kernel
theorem d_law_133 : decode code 133 = .ok (.iadd, 1) := by decide +kernel
theorem d_law_134 : decode code 134 = .ok (.iaload, 1) := by decide +kernel
theorem d_law_135 : decode code 135 = .ok (.aload_n 0, 1) := by decide +kernel
theorem d_law_136 : decode code 136 = .ok (.iload_n 3, 1) := by decide +kernel
theorem d_law_137 : decode code 137 = .ok (.iconst 3, 1) := by decide +kernel
theorem d_law_138 : decode code 138 = .ok (.iadd, 1) := by decide +kernel
theorem d_law_139 : decode code 139 = .ok (.iaload, 1) := by decide +kernel
theorem d_law_140 : decode code 140 = .ok (.invokevirtual 21, 3) := by decide +kernel
theorem d_law_143 : decode code 143 = .ok (.aload_n 2, 1) := by decide +kernel
theorem d_law_144 : decode code 144 = .ok (.aload_n 0, 1) := by decide +kernel
theorem d_law_145 : decode code 145 = .ok (.iload_n 3, 1) := by decide +kernel
theorem d_law_146 : decode code 146 = .ok (.iconst 1, 1) := by decide +kernel
theorem d_law_147 : decode code 147 = .ok (.iadd, 1) := by decide +kernel
theorem d_law_148 : decode code 148 = .ok (.iaload, 1) := by decide +kernel
theorem d_law_149 : decode code 149 = .ok (.aload_n 0, 1) := by decide +kernel
theorem d_law_150 : decode code 150 = .ok (.iload_n 3, 1) := by decide +kernel
theorem d_law_151 : decode code 151 = .ok (.iconst 2, 1) := by decide +kernel
theorem d_law_152 : decode code 152 = .ok (.iadd, 1) := by decide +kernel
theorem d_law_153 : decode code 153 = .ok (.iaload, 1) := by decide +kernel
theorem d_law_154 : decode code 154 = .ok (.aload_n 0, 1) := by decide +kernel
theorem d_law_155 : decode code 155 = .ok (.iload_n 3, 1) := by decide +kernel
theorem d_law_156 : decode code 156 = .ok (.iconst 3, 1) := by decide +kernel
theorem d_law_157 : decode code 157 = .ok (.iadd, 1) := by decide +kernel
theorem d_law_158 : decode code 158 = .ok (.iaload, 1) := by decide +kernel
theorem d_law_159 : decode code 159 = .ok (.invokevirtual 25, 3) := by decide +kernel
theorem d_law_162 : decode code 162 = .ok (.if_icmp .eq 314, 3) := by decide +kernel
theorem d_law_165 : decode code 165 = .ok (.iconst 0, 1) := by decide +kernel
theorem d_law_166 : decode code 166 = .ok (.ireturn, 1) := by decide +kernel
theorem d_law_167 : decode code 167 = .ok (.aload_n 1, 1) := by decide +kernel
theorem d_law_168 : decode code 168 = .ok (.aload_n 0, 1) := by decide +kernel
theorem d_law_169 : decode code 169 = .ok (.iload_n 3, 1) := by decide +kernel
theorem d_law_170 : decode code 170 = .ok (.iconst 1, 1) := by decide +kernel
theorem d_law_171 : decode code 171 = .ok (.iadd, 1) := by decide +kernel
theorem d_law_172 : decode code 172 = .ok (.iaload, 1) := by decide +kernel
theorem d_law_173 : decode code 173 = .ok (.aload_n 0, 1) := by decide +kernel
theorem d_law_174 : decode code 174 = .ok (.iload_n 3, 1) := by decide +kernel
theorem d_law_175 : decode code 175 = .ok (.iconst 2, 1) := by decide +kernel
theorem d_law_176 : decode code 176 = .ok (.iadd, 1) := by decide +kernel
theorem d_law_177 : decode code 177 = .ok (.iaload, 1) := by decide +kernel
theorem d_law_178 : decode code 178 = .ok (.invokevirtual 26, 3) := by decide +kernel
theorem d_law_181 : decode code 181 = .ok (.aload_n 2, 1) := by decide +kernel
theorem d_law_182 : decode code 182 = .ok (.aload_n 0, 1) := by decide +kernel
theorem d_law_183 : decode code 183 = .ok (.iload_n 3, 1) := by decide +kernel
theorem d_law_184 : decode code 184 = .ok (.iconst 1, 1) := by decide +kernel
theorem d_law_185 : decode code 185 = .ok (.iadd, 1) := by decide +kernel
theorem d_law_186 : decode code 186 = .ok (.iaload, 1) := by decide +kernel
theorem d_law_187 : decode code 187 = .ok (.aload_n 0, 1) := by decide +kernel
theorem d_law_188 : decode code 188 = .ok (.iload_n 3, 1) := by decide +kernel
theorem d_law_189 : decode code 189 = .ok (.iconst 2, 1) := by decide +kernel
theorem d_law_190 : decode code 190 = .ok (.iadd, 1) := by decide +kernel
theorem d_law_191 : decode code 191 = .ok (.iaload, 1) := by decide +kernel
theorem d_law_192 : decode code 192 = .ok (.invokevirtual 30, 3) := by decide +kernel
theorem d_law_195 : decode code 195 = .ok (.if_icmp .eq 281, 3) := by decide +kernel
theorem d_law_198 : decode code 198 = .ok (.iconst 0, 1) := by decide +kernel
theorem d_law_199 : decode code 199 = .ok (.ireturn, 1) := by decide +kernel
theorem d_law_200 : decode code 200 = .ok (.aload_n 1, 1) := by decide +kernel
theorem d_law_201 : decode code 201 = .ok (.aload_n 0, 1) := by decide +kernel
theorem d_law_202 : decode code 202 = .ok (.iload_n 3, 1) := by decide +kernel
theorem d_law_203 : decode code 203 = .ok (.iconst 1, 1) := by decide +kernel
theorem d_law_204 : decode code 204 = .ok (.iadd, 1) := by decide +kernel
theorem d_law_205 : decode code 205 = .ok (.iaload, 1) := by decide +kernel
theorem d_law_206 : decode code 206 = .ok (.invokevirtual 31, 3) := by decide +kernel
theorem d_law_209 : decode code 209 = .ok (.aload_n 2, 1) := by decide +kernel
theorem d_law_210 : decode code 210 = .ok (.aload_n 0, 1) := by decide +kernel
theorem d_law_211 : decode code 211 = .ok (.iload_n 3, 1) := by decide +kernel
theorem d_law_212 : decode code 212 = .ok (.iconst 1, 1) := by decide +kernel
theorem d_law_213 : decode code 213 = .ok (.iadd, 1) := by decide +kernel
theorem d_law_214 : decode code 214 = .ok (.iaload, 1) := by decide +kernel
theorem d_law_215 : decode code 215 = .ok (.invokevirtual 35, 3) := by decide +kernel
theorem d_law_218 : decode code 218 = .ok (.if_icmp .eq 258, 3) := by decide +kernel
theorem d_law_221 : decode code 221 = .ok (.iconst 0, 1) := by decide +kernel
theorem d_law_222 : decode code 222 = .ok (.ireturn, 1) := by decide +kernel
theorem d_law_223 : decode code 223 = .ok (.aload_n 1, 1) := by decide +kernel
theorem d_law_224 : decode code 224 = .ok (.aload_n 0, 1) := by decide +kernel
theorem d_law_225 : decode code 225 = .ok (.iload_n 3, 1) := by decide +kernel
theorem d_law_226 : decode code 226 = .ok (.iconst 1, 1) := by decide +kernel
theorem d_law_227 : decode code 227 = .ok (.iadd, 1) := by decide +kernel
theorem d_law_228 : decode code 228 = .ok (.iaload, 1) := by decide +kernel
theorem d_law_229 : decode code 229 = .ok (.invokevirtual 36, 3) := by decide +kernel
theorem d_law_232 : decode code 232 = .ok (.aload_n 2, 1) := by decide +kernel
theorem d_law_233 : decode code 233 = .ok (.aload_n 0, 1) := by decide +kernel
theorem d_law_234 : decode code 234 = .ok (.iload_n 3, 1) := by decide +kernel
theorem d_law_235 : decode code 235 = .ok (.iconst 1, 1) := by decide +kernel
theorem d_law_236 : decode code 236 = .ok (.iadd, 1) := by decide +kernel
theorem d_law_237 : decode code 237 = .ok (.iaload, 1) := by decide +kernel
theorem d_law_238 : decode code 238 = .ok (.invokevirtual 39, 3) := by decide +kernel
theorem d_law_241 : decode code 241 = .ok (.if_icmp .eq 235, 3) := by decide +kernel
theorem d_law_244 : decode code 244 = .ok (.iconst 0, 1) := by decide +kernel
theorem d_law_245 : decode code 245 = .ok (.ireturn, 1) := by decide +kernel
theorem d_law_246 : decode code 246 = .ok (.aload_n 1, 1) := by decide +kernel
theorem d_law_247 : decode code 247 = .ok (.invokevirtual 40, 3) := by decide +kernel
theorem d_law_250 : decode code 250 = .ok (.aload_n 2, 1) := by decide +kernel
theorem d_law_251 : decode code 251 = .ok (.invokevirtual 44, 3) := by decide +kernel
theorem d_law_254 : decode code 254 = .ok (.if_icmp .eq 222, 3) := by decide +kernel
theorem d_law_257 : decode code 257 = .ok (.iconst 0, 1) := by decide +kernel
theorem d_law_258 : decode code 258 = .ok (.ireturn, 1) := by decide +kernel
theorem d_law_259 : decode code 259 = .ok (.aload_n 1, 1) := by decide +kernel
theorem d_law_260 : decode code 260 = .ok (.aload_n 0, 1) := by decide +kernel
theorem d_law_261 : decode code 261 = .ok (.iload_n 3, 1) := by decide +kernel
theorem d_law_262 : decode code 262 = .ok (.iconst 1, 1) := by decide +kernel
theorem d_law_263 : decode code 263 = .ok (.iadd, 1) := by decide +kernel
theorem d_law_264 : decode code 264 = .ok (.iaload, 1) := by decide +kernel
theorem d_law_265 : decode code 265 = .ok (.aload_n 0, 1) := by decide +kernel
theorem d_law_266 : decode code 266 = .ok (.iload_n 3, 1) := by decide +kernel
theorem d_law_267 : decode code 267 = .ok (.iconst 2, 1) := by decide +kernel
theorem d_law_268 : decode code 268 = .ok (.iadd, 1) := by decide +kernel
theorem d_law_269 : decode code 269 = .ok (.iaload, 1) := by decide +kernel
theorem d_law_270 : decode code 270 = .ok (.invokevirtual 45, 3) := by decide +kernel
theorem d_law_273 : decode code 273 = .ok (.aload_n 2, 1) := by decide +kernel
theorem d_law_274 : decode code 274 = .ok (.aload_n 0, 1) := by decide +kernel
theorem d_law_275 : decode code 275 = .ok (.iload_n 3, 1) := by decide +kernel
theorem d_law_276 : decode code 276 = .ok (.iconst 1, 1) := by decide +kernel
theorem d_law_277 : decode code 277 = .ok (.iadd, 1) := by decide +kernel
theorem d_law_278 : decode code 278 = .ok (.iaload, 1) := by decide +kernel
theorem d_law_279 : decode code 279 = .ok (.aload_n 0, 1) := by decide +kernel
theorem d_law_280 : decode code 280 = .ok (.iload_n 3, 1) := by decide +kernel
theorem d_law_281 : decode code 281 = .ok (.iconst 2, 1) := by decide +kernel
theorem d_law_282 : decode code 282 = .ok (.iadd, 1) := by decide +kernel
theorem d_law_283 : decode code 283 = .ok (.iaload, 1) := by decide +kernel
theorem d_law_284 : decode code 284 = .ok (.invokevirtual 49, 3) := by decide +kernel
theorem d_law_287 : decode code 287 = .ok (.if_icmp .eq 189, 3) := by decide +kernel
theorem d_law_290 : decode code 290 = .ok (.iconst 0, 1) := by decide +kernel
theorem d_law_291 : decode code 291 = .ok (.ireturn, 1) := by decide +kernel
theorem d_law_292 : decode code 292 = .ok (.aload_n 1, 1) := by decide +kernel
theorem d_law_293 : decode code 293 = .ok (.aload_n 0, 1) := by decide +kernel
theorem d_law_294 : decode code 294 = .ok (.iload_n 3, 1) := by decide +kernel
theorem d_law_295 : decode code 295 = .ok (.iconst 1, 1) := by decide +kernel
theorem d_law_296 : decode code 296 = .ok (.iadd, 1) := by decide +kernel
theorem d_law_297 : decode code 297 = .ok (.iaload, 1) := by decide +kernel
theorem d_law_298 : decode code 298 = .ok (.aload_n 0, 1) := by decide +kernel
theorem d_law_299 : decode code 299 = .ok (.iload_n 3, 1) := by decide +kernel
theorem d_law_300 : decode code 300 = .ok (.iconst 2, 1) := by decide +kernel
theorem d_law_301 : decode code 301 = .ok (.iadd, 1) := by decide +kernel
theorem d_law_302 : decode code 302 = .ok (.iaload, 1) := by decide +kernel
theorem d_law_303 : decode code 303 = .ok (.invokevirtual 50, 3) := by decide +kernel
theorem d_law_306 : decode code 306 = .ok (.aload_n 2, 1) := by decide +kernel
theorem d_law_307 : decode code 307 = .ok (.aload_n 0, 1) := by decide +kernel
theorem d_law_308 : decode code 308 = .ok (.iload_n 3, 1) := by decide +kernel
theorem d_law_309 : decode code 309 = .ok (.iconst 1, 1) := by decide +kernel
theorem d_law_310 : decode code 310 = .ok (.iadd, 1) := by decide +kernel
theorem d_law_311 : decode code 311 = .ok (.iaload, 1) := by decide +kernel
theorem d_law_312 : decode code 312 = .ok (.aload_n 0, 1) := by decide +kernel
theorem d_law_313 : decode code 313 = .ok (.iload_n 3, 1) := by decide +kernel
theorem d_law_314 : decode code 314 = .ok (.iconst 2, 1) := by decide +kernel
theorem d_law_315 : decode code 315 = .ok (.iadd, 1) := by decide +kernel
theorem d_law_316 : decode code 316 = .ok (.iaload, 1) := by decide +kernel
theorem d_law_317 : decode code 317 = .ok (.invokevirtual 53, 3) := by decide +kernel
theorem d_law_320 : decode code 320 = .ok (.if_icmp .eq 156, 3) := by decide +kernel
theorem d_law_323 : decode code 323 = .ok (.iconst 0, 1) := by decide +kernel
theorem d_law_324 : decode code 324 = .ok (.ireturn, 1) := by decide +kernel
theorem d_law_325 : decode code 325 = .ok (.aload_n 1, 1) := by decide +kernel
theorem d_law_326 : decode code 326 = .ok (.aload_n 0, 1) := by decide +kernel
theorem d_law_327 : decode code 327 = .ok (.iload_n 3, 1) := by decide +kernel
theorem d_law_328 : decode code 328 = .ok (.iconst 1, 1) := by decide +kernel
theorem d_law_329 : decode code 329 = .ok (.iadd, 1) := by decide +kernel
theorem d_law_330 : decode code 330 = .ok (.iaload, 1) := by decide +kernel
theorem d_law_331 : decode code 331 = .ok (.aload_n 0, 1) := by decide +kernel
theorem d_law_332 : decode code 332 = .ok (.iload_n 3, 1) := by decide +kernel
theorem d_law_333 : decode code 333 = .ok (.iconst 2, 1) := by decide +kernel
theorem d_law_334 : decode code 334 = .ok (.iadd, 1) := by decide +kernel
theorem d_law_335 : decode code 335 = .ok (.iaload, 1) := by decide +kernel
theorem d_law_336 : decode code 336 = .ok (.invokevirtual 54, 3) := by decide +kernel
theorem d_law_339 : decode code 339 = .ok (.aload_n 2, 1) := by decide +kernel
theorem d_law_340 : decode code 340 = .ok (.aload_n 0, 1) := by decide +kernel
theorem d_law_341 : decode code 341 = .ok (.iload_n 3, 1) := by decide +kernel
theorem d_law_342 : decode code 342 = .ok (.iconst 1, 1) := by decide +kernel
theorem d_law_343 : decode code 343 = .ok (.iadd, 1) := by decide +kernel
theorem d_law_344 : decode code 344 = .ok (.iaload, 1) := by decide +kernel
theorem d_law_345 : decode code 345 = .ok (.aload_n 0, 1) := by decide +kernel
theorem d_law_346 : decode code 346 = .ok (.iload_n 3, 1) := by decide +kernel
theorem d_law_347 : decode code 347 = .ok (.iconst 2, 1) := by decide +kernel
theorem d_law_348 : decode code 348 = .ok (.iadd, 1) := by decide +kernel
theorem d_law_349 : decode code 349 = .ok (.iaload, 1) := by decide +kernel
theorem d_law_350 : decode code 350 = .ok (.invokevirtual 57, 3) := by decide +kernel
theorem d_law_353 : decode code 353 = .ok (.if_icmp .eq 123, 3) := by decide +kernel
theorem d_law_356 : decode code 356 = .ok (.iconst 0, 1) := by decide +kernel
theorem d_law_357 : decode code 357 = .ok (.ireturn, 1) := by decide +kernel
theorem d_law_358 : decode code 358 = .ok (.aload_n 1, 1) := by decide +kernel
theorem d_law_359 : decode code 359 = .ok (.aload_n 0, 1) := by decide +kernel
theorem d_law_360 : decode code 360 = .ok (.iload_n 3, 1) := by decide +kernel
theorem d_law_361 : decode code 361 = .ok (.iconst 1, 1) := by decide +kernel
theorem d_law_362 : decode code 362 = .ok (.iadd, 1) := by decide +kernel
theorem d_law_363 : decode code 363 = .ok (.iaload, 1) := by decide +kernel
theorem d_law_364 : decode code 364 = .ok (.invokevirtual 58, 3) := by decide +kernel
theorem d_law_367 : decode code 367 = .ok (.aload_n 2, 1) := by decide +kernel
theorem d_law_368 : decode code 368 = .ok (.aload_n 0, 1) := by decide +kernel
theorem d_law_369 : decode code 369 = .ok (.iload_n 3, 1) := by decide +kernel
theorem d_law_370 : decode code 370 = .ok (.iconst 1, 1) := by decide +kernel
theorem d_law_371 : decode code 371 = .ok (.iadd, 1) := by decide +kernel
theorem d_law_372 : decode code 372 = .ok (.iaload, 1) := by decide +kernel
theorem d_law_373 : decode code 373 = .ok (.invokevirtual 61, 3) := by decide +kernel
theorem d_law_376 : decode code 376 = .ok (.if_icmp .eq 100, 3) := by decide +kernel
theorem d_law_379 : decode code 379 = .ok (.iconst 0, 1) := by decide +kernel
theorem d_law_380 : decode code 380 = .ok (.ireturn, 1) := by decide +kernel
theorem d_law_381 : decode code 381 = .ok (.aload_n 1, 1) := by decide +kernel
theorem d_law_382 : decode code 382 = .ok (.aload_n 0, 1) := by decide +kernel
theorem d_law_383 : decode code 383 = .ok (.iload_n 3, 1) := by decide +kernel
theorem d_law_384 : decode code 384 = .ok (.iconst 1, 1) := by decide +kernel
theorem d_law_385 : decode code 385 = .ok (.iadd, 1) := by decide +kernel
theorem d_law_386 : decode code 386 = .ok (.iaload, 1) := by decide +kernel
theorem d_law_387 : decode code 387 = .ok (.invokevirtual 62, 3) := by decide +kernel
theorem d_law_390 : decode code 390 = .ok (.aload_n 2, 1) := by decide +kernel
theorem d_law_391 : decode code 391 = .ok (.aload_n 0, 1) := by decide +kernel
theorem d_law_392 : decode code 392 = .ok (.iload_n 3, 1) := by decide +kernel
theorem d_law_393 : decode code 393 = .ok (.iconst 1, 1) := by decide +kernel
theorem d_law_394 : decode code 394 = .ok (.iadd, 1) := by decide +kernel
theorem d_law_395 : decode code 395 = .ok (.iaload, 1) := by decide +kernel
theorem d_law_396 : decode code 396 = .ok (.invokevirtual 65, 3) := by decide +kernel
theorem d_law_399 : decode code 399 = .ok (.if_icmp .eq 77, 3) := by decide +kernel
theorem d_law_402 : decode code 402 = .ok (.iconst 0, 1) := by decide +kernel
theorem d_law_403 : decode code 403 = .ok (.ireturn, 1) := by decide +kernel
theorem d_law_404 : decode code 404 = .ok (.aload_n 1, 1) := by decide +kernel
theorem d_law_405 : decode code 405 = .ok (.aload_n 0, 1) := by decide +kernel
theorem d_law_406 : decode code 406 = .ok (.iload_n 3, 1) := by decide +kernel
theorem d_law_407 : decode code 407 = .ok (.iconst 1, 1) := by decide +kernel
theorem d_law_408 : decode code 408 = .ok (.iadd, 1) := by decide +kernel
theorem d_law_409 : decode code 409 = .ok (.iaload, 1) := by decide +kernel
theorem d_law_410 : decode code 410 = .ok (.invokevirtual 66, 3) := by decide +kernel
theorem d_law_413 : decode code 413 = .ok (.aload_n 2, 1) := by decide +kernel
theorem d_law_414 : decode code 414 = .ok (.aload_n 0, 1) := by decide +kernel
theorem d_law_415 : decode code 415 = .ok (.iload_n 3, 1) := by decide +kernel
theorem d_law_416 : decode code 416 = .ok (.iconst 1, 1) := by decide +kernel
theorem d_law_417 : decode code 417 = .ok (.iadd, 1) := by decide +kernel
theorem d_law_418 : decode code 418 = .ok (.iaload, 1) := by decide +kernel
theorem d_law_419 : decode code 419 = .ok (.invokevirtual 69, 3) := by decide +kernel
theorem d_law_422 : decode code 422 = .ok (.if_icmp .eq 54, 3) := by decide +kernel
theorem d_law_425 : decode code 425 = .ok (.iconst 0, 1) := by decide +kernel
theorem d_law_426 : decode code 426 = .ok (.ireturn, 1) := by decide +kernel
theorem d_law_427 : decode code 427 = .ok (.aload_n 1, 1) := by decide +kernel
theorem d_law_428 : decode code 428 = .ok (.aload_n 0, 1) := by decide +kernel
theorem d_law_429 : decode code 429 = .ok (.iload_n 3, 1) := by decide +kernel
theorem d_law_430 : decode code 430 = .ok (.iconst 1, 1) := by decide +kernel
theorem d_law_431 : decode code 431 = .ok (.iadd, 1) := by decide +kernel
theorem d_law_432 : decode code 432 = .ok (.iaload, 1) := by decide +kernel
theorem d_law_433 : decode code 433 = .ok (.invokevirtual 70, 3) := by decide +kernel
theorem d_law_436 : decode code 436 = .ok (.aload_n 2, 1) := by decide +kernel
theorem d_law_437 : decode code 437 = .ok (.aload_n 0, 1) := by decide +kernel
theorem d_law_438 : decode code 438 = .ok (.iload_n 3, 1) := by decide +kernel
theorem d_law_439 : decode code 439 = .ok (.iconst 1, 1) := by decide +kernel
theorem d_law_440 : decode code 440 = .ok (.iadd, 1) := by decide +kernel
theorem d_law_441 : decode code 441 = .ok (.iaload, 1) := by decide +kernel
theorem d_law_442 : decode code 442 = .ok (.invokevirtual 73, 3) := by decide +kernel
theorem d_law_445 : decode code 445 = .ok (.if_icmp .eq 31, 3) := by decide +kernel
theorem d_law_448 : decode code 448 = .ok (.iconst 0, 1) := by decide +kernel
theorem d_law_449 : decode code 449 = .ok (.ireturn, 1) := by decide +kernel
theorem d_law_450 : decode code 450 = .ok (.aload_n 1, 1) := by decide +kernel
theorem d_law_451 : decode code 451 = .ok (.invokevirtual 74, 3) := by decide +kernel
theorem d_law_454 : decode code 454 = .ok (.aload_n 2, 1) := by decide +kernel
theorem d_law_455 : decode code 455 = .ok (.invokevirtual 77, 3) := by decide +kernel
theorem d_law_458 : decode code 458 = .ok (.if_icmp .eq 18, 3) := by decide +kernel
theorem d_law_461 : decode code 461 = .ok (.iconst 0, 1) := by decide +kernel
theorem d_law_462 : decode code 462 = .ok (.ireturn, 1) := by decide +kernel
theorem d_law_463 : decode code 463 = .ok (.aload_n 1, 1) := by decide +kernel
theorem d_law_464 : decode code 464 = .ok (.invokevirtual 78, 3) := by decide +kernel
theorem d_law_467 : decode code 467 = .ok (.aload_n 2, 1) := by decide +kernel
theorem d_law_468 : decode code 468 = .ok (.invokevirtual 81, 3) := by decide +kernel
theorem d_law_471 : decode code 471 = .ok (.if_icmp .eq 5, 3) := by decide +kernel
theorem d_law_474 : decode code 474 = .ok (.iconst 0, 1) := by decide +kernel
theorem d_law_475 : decode code 475 = .ok (.ireturn, 1) := by decide +kernel
theorem d_law_476 : decode code 476 = .ok (.iinc 3 4, 3) := by decide +kernel
theorem d_law_479 : decode code 479 = .ok (.goto (-441), 3) := by decide +kernel
theorem d_law_482 : decode code 482 = .ok (.iconst 1, 1) := by decide +kernel
theorem d_law_483 : decode code 483 = .ok (.ireturn, 1) := by decide +kernel
theorem ck_law_21 : CallK R_law 21 R_HD y_HD_code b_HD_code 6 (some FieldType.boolean) 3 := ⟨gdV zm_law_21 zi_HD_code zs_HD_HD_code zn_HD zk_HD_code, by decide +kernel⟩
theorem ck_law_26 : CallK R_law 26 R_HD y_HD_go b_HD_go 4 (some FieldType.boolean) 2 := ⟨gdV zm_law_26 zi_HD_go zs_HD_HD_go zn_HD zk_HD_go, by decide +kernel⟩
theorem ck_law_31 : CallK R_law 31 R_HD y_HD_step b_HD_step 5 (some FieldType.int) 1 := ⟨gdV zm_law_31 zi_HD_step zs_HD_HD_step zn_HD zk_HD_step, by decide +kernel⟩
theorem ck_law_36 : CallK R_law 36 R_HD y_HD_deliver b_HD_deliver 4 (some FieldType.int) 1 := ⟨gdV zm_law_36 zi_HD_deliver zs_HD_HD_deliver zn_HD zk_HD_deliver, by decide +kernel⟩
theorem ck_law_40 : CallK R_law 40 R_HD y_HD_messages b_HD_messages 1 (some FieldType.int) 0 := ⟨gdV zm_law_40 zi_HD_messages zs_HD_HD_messages zn_HD zk_HD_messages, by decide +kernel⟩
theorem ck_law_45 : CallK R_law 45 R_HD y_HD_message b_HD_message 4 (some FieldType.int) 2 := ⟨gdV zm_law_45 zi_HD_message zs_HD_HD_message zn_HD zk_HD_message, by decide +kernel⟩
theorem ck_law_50 : CallK R_law 50 R_HD y_HD_line b_HD_line 4 (some FieldType.int) 2 := ⟨gdV zm_law_50 zi_HD_line zs_HD_HD_line zn_HD zk_HD_line, by decide +kernel⟩
theorem ck_law_54 : CallK R_law 54 R_HD y_HD_word b_HD_word 4 (some FieldType.int) 2 := ⟨gdV zm_law_54 zi_HD_word zs_HD_HD_word zn_HD zk_HD_word, by decide +kernel⟩
theorem ck_law_58 : CallK R_law 58 R_HD y_HD_home b_HD_home 3 (some FieldType.int) 1 := ⟨gdV zm_law_58 zi_HD_home zs_HD_HD_home zn_HD zk_HD_home, by decide +kernel⟩
theorem ck_law_62 : CallK R_law 62 R_HD y_HD_memory b_HD_memory 2 (some FieldType.int) 1 := ⟨gdV zm_law_62 zi_HD_memory zs_HD_HD_memory zn_HD zk_HD_memory, by decide +kernel⟩
theorem ck_law_66 : CallK R_law 66 R_HD y_HD_accumulator b_HD_accumulator 3 (some FieldType.int) 1 := ⟨gdV zm_law_66 zi_HD_accumulator zs_HD_HD_accumulator zn_HD zk_HD_accumulator, by decide +kernel⟩
theorem ck_law_70 : CallK R_law 70 R_HD y_HD_place b_HD_place 3 (some FieldType.int) 1 := ⟨gdV zm_law_70 zi_HD_place zs_HD_HD_place zn_HD zk_HD_place, by decide +kernel⟩
theorem ck_law_74 : CallK R_law 74 R_HD y_HD_sent b_HD_sent 1 (some FieldType.int) 0 := ⟨gdV zm_law_74 zi_HD_sent zs_HD_HD_sent zn_HD zk_HD_sent, by decide +kernel⟩
theorem ck_law_78 : CallK R_law 78 R_HD y_HD_performed b_HD_performed 1 (some FieldType.int) 0 := ⟨gdV zm_law_78 zi_HD_performed zs_HD_HD_performed zn_HD zk_HD_performed, by decide +kernel⟩
theorem ck_law_9 : CallKS R_law 9 y_law_cell b_law_cell 2 (some FieldType.int) 2 := ⟨gdS zm_law_9 zS_law_cell zn_law zk_law_cell, by decide +kernel⟩
theorem ck_law_25 : CallK R_law 25 R_Tw y_Tw_code b_Tw_code 4 (some FieldType.boolean) 3 := ⟨gdV zm_law_25 zi_Tw_code zs_Tw_Tw_code zn_Tw zk_Tw_code, by decide +kernel⟩
theorem ck_law_30 : CallK R_law 30 R_Tw y_Tw_go b_Tw_go 3 (some FieldType.boolean) 2 := ⟨gdV zm_law_30 zi_Tw_go zs_Tw_Tw_go zn_Tw zk_Tw_go, by decide +kernel⟩
theorem ck_law_35 : CallK R_law 35 R_Tw y_Tw_step b_Tw_step 5 (some FieldType.int) 1 := ⟨gdV zm_law_35 zi_Tw_step zs_Tw_Tw_step zn_Tw zk_Tw_step, by decide +kernel⟩
theorem ck_law_39 : CallK R_law 39 R_Tw y_Tw_deliver b_Tw_deliver 9 (some FieldType.int) 1 := ⟨gdV zm_law_39 zi_Tw_deliver zs_Tw_Tw_deliver zn_Tw zk_Tw_deliver, by decide +kernel⟩
theorem ck_law_44 : CallK R_law 44 R_Tw y_Tw_messages b_Tw_messages 1 (some FieldType.int) 0 := ⟨gdV zm_law_44 zi_Tw_messages zs_Tw_Tw_messages zn_Tw zk_Tw_messages, by decide +kernel⟩
theorem ck_law_49 : CallK R_law 49 R_Tw y_Tw_message b_Tw_message 4 (some FieldType.int) 2 := ⟨gdV zm_law_49 zi_Tw_message zs_Tw_Tw_message zn_Tw zk_Tw_message, by decide +kernel⟩
theorem ck_law_53 : CallK R_law 53 R_Tw y_Tw_line b_Tw_line 3 (some FieldType.int) 2 := ⟨gdV zm_law_53 zi_Tw_line zs_Tw_Tw_line zn_Tw zk_Tw_line, by decide +kernel⟩
theorem ck_law_57 : CallK R_law 57 R_Tw y_Tw_word b_Tw_word 5 (some FieldType.int) 2 := ⟨gdV zm_law_57 zi_Tw_word zs_Tw_Tw_word zn_Tw zk_Tw_word, by decide +kernel⟩
theorem ck_law_61 : CallK R_law 61 R_Tw y_Tw_home b_Tw_home 4 (some FieldType.int) 1 := ⟨gdV zm_law_61 zi_Tw_home zs_Tw_Tw_home zn_Tw zk_Tw_home, by decide +kernel⟩
theorem ck_law_65 : CallK R_law 65 R_Tw y_Tw_memory b_Tw_memory 2 (some FieldType.int) 1 := ⟨gdV zm_law_65 zi_Tw_memory zs_Tw_Tw_memory zn_Tw zk_Tw_memory, by decide +kernel⟩
theorem ck_law_69 : CallK R_law 69 R_Tw y_Tw_accumulator b_Tw_accumulator 2 (some FieldType.int) 1 := ⟨gdV zm_law_69 zi_Tw_accumulator zs_Tw_Tw_accumulator zn_Tw zk_Tw_accumulator, by decide +kernel⟩
theorem ck_law_73 : CallK R_law 73 R_Tw y_Tw_place b_Tw_place 2 (some FieldType.int) 1 := ⟨gdV zm_law_73 zi_Tw_place zs_Tw_Tw_place zn_Tw zk_Tw_place, by decide +kernel⟩
theorem ck_law_77 : CallK R_law 77 R_Tw y_Tw_sent b_Tw_sent 1 (some FieldType.int) 0 := ⟨gdV zm_law_77 zi_Tw_sent zs_Tw_Tw_sent zn_Tw zk_Tw_sent, by decide +kernel⟩
theorem ck_law_81 : CallK R_law 81 R_Tw y_Tw_performed b_Tw_performed 1 (some FieldType.int) 0 := ⟨gdV zm_law_81 zi_Tw_performed zs_Tw_Tw_performed zn_Tw zk_Tw_performed, by decide +kernel⟩
/-! ===== the two worlds side by side ===== -/
theorem RX.narrow {D : va_G} {dA : Nat → ClassId} {eA ad : Nat → Nat → Nat} {A B : Nat → Prop} {N : Nat} {g : PS} {M : List Msg} {as sp : List Nat} {H : Heap} (h : RX D dA eA ad A N g M as sp H) (hB : ∀ q, q < H.size → A q → B q) : RX D dA eA ad B N g M as sp H := by
  obtain ⟨L, f, iv, hP, hD, hF, hM⟩ := h
  exact ⟨L, f, iv, hP, ⟨hD.1, fun k q hq => hB q.1 ((hP k q hq).lt) (hD.2 k q hq)⟩, hF, hM⟩
theorem RX.kept {D : va_G} {dA : Nat → ClassId} {eA ad : Nat → Nat → Nat} {A : Nat → Prop} {N : Nat} {g : PS} {M : List Msg} {as sp : List Nat} {H H1 : Heap} (h : RX D dA eA ad A N g M as sp H) (hk : ∀ q, q < H.size → A q → H1[q]? = H[q]?) : RX D dA eA ad A N g M as sp H1 := by
  obtain ⟨L, f, iv, hP, hD, hF, hM⟩ := h
  exact ⟨L, f, iv, hP.kept (fun k q hq => hk q.1 ((hP k q hq).lt) (hD.2 k q hq)), hD, hF, hM⟩
theorem RT.kept {D : va_G} {dA : Nat → ClassId} {ad : Nat → Nat} {A : Nat → Prop} {g : PS} {M : List Msg} {H H1 : Heap} (h : RT D dA ad A g M H) (hk : ∀ q, q < H.size → A q → H1[q]? = H[q]?) : RT D dA ad A g M H1 := by
  obtain ⟨K, ⟨hP, hD⟩, hK⟩ := h
  exact ⟨K, ⟨hP.kept (fun k q hq => hk q.1 ((hP k q hq).lt) (hD.2 k q hq)), hD⟩, hK⟩
/-- the addresses of the twin's cells -/
def twA (ad : Nat → Nat) (q : Nat) : Prop := ∃ (dA : Nat → ClassId) (g K : PS) (n k : Nat) (e : va_E), (tw dA ad g K n)[k]? = some (q, e)
theorem RT.own {D : va_G} {dA : Nat → ClassId} {ad : Nat → Nat} {A : Nat → Prop} {g : PS} {M : List Msg} {H : Heap} (h : RT D dA ad A g M H) : RT D dA ad (twA ad) g M H := by
  obtain ⟨K, ⟨hP, hD⟩, hK⟩ := h
  exact ⟨K, ⟨hP, hD.1, fun k q hq => ⟨dA, g, K, M.length, k, q.2, hq⟩⟩, hK⟩
