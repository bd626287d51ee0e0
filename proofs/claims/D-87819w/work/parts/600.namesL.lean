/-! the law's own entry -/
set_option maxRecDepth 100000
abbrev cL_law : ByteArray := code
theorem dL_law_0 : decode cL_law 0 = .ok (.new 7, 3) := by decide +kernel
theorem dL_law_3 : decode cL_law 3 = .ok (.dup, 1) := by decide +kernel
theorem dL_law_4 : decode cL_law 4 = .ok (.invokespecial 9, 3) := by decide +kernel
theorem dL_law_7 : decode cL_law 7 = .ok (.astore_n 1, 1) := by decide +kernel
theorem dL_law_8 : decode cL_law 8 = .ok (.new 10, 3) := by decide +kernel
theorem dL_law_11 : decode cL_law 11 = .ok (.dup, 1) := by decide +kernel
theorem dL_law_12 : decode cL_law 12 = .ok (.invokespecial 12, 3) := by decide +kernel
theorem dL_law_15 : decode cL_law 15 = .ok (.astore_n 2, 1) := by decide +kernel
theorem dL_law_16 : decode cL_law 16 = .ok (.iconst 0, 1) := by decide +kernel
theorem dL_law_17 : decode cL_law 17 = .ok (.istore_n 3, 1) := by decide +kernel
theorem dL_law_18 : decode cL_law 18 = .ok (.iload_n 3, 1) := by decide +kernel
theorem dL_law_19 : decode cL_law 19 = .ok (.aload_n 0, 1) := by decide +kernel
theorem dL_law_20 : decode cL_law 20 = .ok (.arraylength, 1) := by decide +kernel
theorem dL_law_21 : decode cL_law 21 = .ok (.iconst 5, 1) := by decide +kernel
theorem dL_law_22 : decode cL_law 22 = .ok (.isub, 1) := by decide +kernel
theorem dL_law_23 : decode cL_law 23 = .ok (.if_icmp .gt 681, 3) := by decide +kernel
theorem dL_law_26 : decode cL_law 26 = .ok (.aload_n 0, 1) := by decide +kernel
theorem dL_law_27 : decode cL_law 27 = .ok (.iload_n 3, 1) := by decide +kernel
theorem dL_law_28 : decode cL_law 28 = .ok (.iaload, 1) := by decide +kernel
theorem dL_law_29 : decode cL_law 29 = .ok (.bipush 31, 2) := by decide +kernel
theorem dL_law_31 : decode cL_law 31 = .ok (.iand, 1) := by decide +kernel
theorem dL_law_32 : decode cL_law 32 = .ok (.tableswitch 666 0 19 #[96, 139, 162, 185, 208, 241, 264, 287, 310, 323, 336, 389, 402, 455, 488, 501, 534, 567, 600, 643], 96) := by decide +kernel
theorem dL_law_128 : decode cL_law 128 = .ok (.aload_n 1, 1) := by decide +kernel
theorem dL_law_129 : decode cL_law 129 = .ok (.aload_n 0, 1) := by decide +kernel
theorem dL_law_130 : decode cL_law 130 = .ok (.iload_n 3, 1) := by decide +kernel
theorem dL_law_131 : decode cL_law 131 = .ok (.iconst 1, 1) := by decide +kernel
theorem dL_law_132 : decode cL_law 132 = .ok (.iadd, 1) := by decide +kernel
theorem dL_law_133 : decode cL_law 133 = .ok (.iaload, 1) := by decide +kernel
theorem dL_law_134 : decode cL_law 134 = .ok (.aload_n 0, 1) := by decide +kernel
theorem dL_law_135 : decode cL_law 135 = .ok (.iload_n 3, 1) := by decide +kernel
theorem dL_law_136 : decode cL_law 136 = .ok (.iconst 2, 1) := by decide +kernel
theorem dL_law_137 : decode cL_law 137 = .ok (.iadd, 1) := by decide +kernel
theorem dL_law_138 : decode cL_law 138 = .ok (.iaload, 1) := by decide +kernel
theorem dL_law_139 : decode cL_law 139 = .ok (.aload_n 0, 1) := by decide +kernel
theorem dL_law_140 : decode cL_law 140 = .ok (.iload_n 3, 1) := by decide +kernel
theorem dL_law_141 : decode cL_law 141 = .ok (.iconst 3, 1) := by decide +kernel
theorem dL_law_142 : decode cL_law 142 = .ok (.iadd, 1) := by decide +kernel
theorem dL_law_143 : decode cL_law 143 = .ok (.iaload, 1) := by decide +kernel
theorem dL_law_144 : decode cL_law 144 = .ok (.invokevirtual 13, 3) := by decide +kernel
theorem dL_law_147 : decode cL_law 147 = .ok (.aload_n 2, 1) := by decide +kernel
theorem dL_law_148 : decode cL_law 148 = .ok (.aload_n 0, 1) := by decide +kernel
theorem dL_law_149 : decode cL_law 149 = .ok (.iload_n 3, 1) := by decide +kernel
theorem dL_law_150 : decode cL_law 150 = .ok (.iconst 1, 1) := by decide +kernel
theorem dL_law_151 : decode cL_law 151 = .ok (.iadd, 1) := by decide +kernel
theorem dL_law_152 : decode cL_law 152 = .ok (.iaload, 1) := by decide +kernel
theorem dL_law_153 : decode cL_law 153 = .ok (.aload_n 0, 1) := by decide +kernel
theorem dL_law_154 : decode cL_law 154 = .ok (.iload_n 3, 1) := by decide +kernel
theorem dL_law_155 : decode cL_law 155 = .ok (.iconst 2, 1) := by decide +kernel
theorem dL_law_156 : decode cL_law 156 = .ok (.iadd, 1) := by decide +kernel
theorem dL_law_157 : decode cL_law 157 = .ok (.iaload, 1) := by decide +kernel
theorem dL_law_158 : decode cL_law 158 = .ok (.aload_n 0, 1) := by decide +kernel
theorem dL_law_159 : decode cL_law 159 = .ok (.iload_n 3, 1) := by decide +kernel
theorem dL_law_160 : decode cL_law 160 = .ok (.iconst 3, 1) := by decide +kernel
theorem dL_law_161 : decode cL_law 161 = .ok (.iadd, 1) := by decide +kernel
theorem dL_law_162 : decode cL_law 162 = .ok (.iaload, 1) := by decide +kernel
theorem dL_law_163 : decode cL_law 163 = .ok (.invokevirtual 17, 3) := by decide +kernel
theorem dL_law_166 : decode cL_law 166 = .ok (.if_icmp .eq 532, 3) := by decide +kernel
theorem dL_law_169 : decode cL_law 169 = .ok (.iconst 0, 1) := by decide +kernel
theorem dL_law_170 : decode cL_law 170 = .ok (.ireturn, 1) := by decide +kernel
theorem dL_law_171 : decode cL_law 171 = .ok (.aload_n 1, 1) := by decide +kernel
theorem dL_law_172 : decode cL_law 172 = .ok (.aload_n 0, 1) := by decide +kernel
theorem dL_law_173 : decode cL_law 173 = .ok (.iload_n 3, 1) := by decide +kernel
theorem dL_law_174 : decode cL_law 174 = .ok (.iconst 1, 1) := by decide +kernel
theorem dL_law_175 : decode cL_law 175 = .ok (.iadd, 1) := by decide +kernel
theorem dL_law_176 : decode cL_law 176 = .ok (.iaload, 1) := by decide +kernel
theorem dL_law_177 : decode cL_law 177 = .ok (.invokevirtual 18, 3) := by decide +kernel
theorem dL_law_180 : decode cL_law 180 = .ok (.aload_n 2, 1) := by decide +kernel
theorem dL_law_181 : decode cL_law 181 = .ok (.aload_n 0, 1) := by decide +kernel
theorem dL_law_182 : decode cL_law 182 = .ok (.iload_n 3, 1) := by decide +kernel
theorem dL_law_183 : decode cL_law 183 = .ok (.iconst 1, 1) := by decide +kernel
theorem dL_law_184 : decode cL_law 184 = .ok (.iadd, 1) := by decide +kernel
theorem dL_law_185 : decode cL_law 185 = .ok (.iaload, 1) := by decide +kernel
theorem dL_law_186 : decode cL_law 186 = .ok (.invokevirtual 22, 3) := by decide +kernel
theorem dL_law_189 : decode cL_law 189 = .ok (.if_icmp .eq 509, 3) := by decide +kernel
theorem dL_law_192 : decode cL_law 192 = .ok (.iconst 0, 1) := by decide +kernel
theorem dL_law_193 : decode cL_law 193 = .ok (.ireturn, 1) := by decide +kernel
theorem dL_law_194 : decode cL_law 194 = .ok (.aload_n 1, 1) := by decide +kernel
theorem dL_law_195 : decode cL_law 195 = .ok (.aload_n 0, 1) := by decide +kernel
theorem dL_law_196 : decode cL_law 196 = .ok (.iload_n 3, 1) := by decide +kernel
theorem dL_law_197 : decode cL_law 197 = .ok (.iconst 1, 1) := by decide +kernel
theorem dL_law_198 : decode cL_law 198 = .ok (.iadd, 1) := by decide +kernel
theorem dL_law_199 : decode cL_law 199 = .ok (.iaload, 1) := by decide +kernel
theorem dL_law_200 : decode cL_law 200 = .ok (.invokevirtual 23, 3) := by decide +kernel
theorem dL_law_203 : decode cL_law 203 = .ok (.aload_n 2, 1) := by decide +kernel
theorem dL_law_204 : decode cL_law 204 = .ok (.aload_n 0, 1) := by decide +kernel
theorem dL_law_205 : decode cL_law 205 = .ok (.iload_n 3, 1) := by decide +kernel
theorem dL_law_206 : decode cL_law 206 = .ok (.iconst 1, 1) := by decide +kernel
theorem dL_law_207 : decode cL_law 207 = .ok (.iadd, 1) := by decide +kernel
theorem dL_law_208 : decode cL_law 208 = .ok (.iaload, 1) := by decide +kernel
theorem dL_law_209 : decode cL_law 209 = .ok (.invokevirtual 26, 3) := by decide +kernel
theorem dL_law_212 : decode cL_law 212 = .ok (.if_icmp .eq 486, 3) := by decide +kernel
theorem dL_law_215 : decode cL_law 215 = .ok (.iconst 0, 1) := by decide +kernel
theorem dL_law_216 : decode cL_law 216 = .ok (.ireturn, 1) := by decide +kernel
theorem dL_law_217 : decode cL_law 217 = .ok (.aload_n 1, 1) := by decide +kernel
theorem dL_law_218 : decode cL_law 218 = .ok (.aload_n 0, 1) := by decide +kernel
theorem dL_law_219 : decode cL_law 219 = .ok (.iload_n 3, 1) := by decide +kernel
theorem dL_law_220 : decode cL_law 220 = .ok (.iconst 1, 1) := by decide +kernel
theorem dL_law_221 : decode cL_law 221 = .ok (.iadd, 1) := by decide +kernel
theorem dL_law_222 : decode cL_law 222 = .ok (.iaload, 1) := by decide +kernel
theorem dL_law_223 : decode cL_law 223 = .ok (.invokevirtual 27, 3) := by decide +kernel
theorem dL_law_226 : decode cL_law 226 = .ok (.aload_n 2, 1) := by decide +kernel
theorem dL_law_227 : decode cL_law 227 = .ok (.aload_n 0, 1) := by decide +kernel
theorem dL_law_228 : decode cL_law 228 = .ok (.iload_n 3, 1) := by decide +kernel
theorem dL_law_229 : decode cL_law 229 = .ok (.iconst 1, 1) := by decide +kernel
theorem dL_law_230 : decode cL_law 230 = .ok (.iadd, 1) := by decide +kernel
theorem dL_law_231 : decode cL_law 231 = .ok (.iaload, 1) := by decide +kernel
theorem dL_law_232 : decode cL_law 232 = .ok (.invokevirtual 31, 3) := by decide +kernel
theorem dL_law_235 : decode cL_law 235 = .ok (.if_icmp .eq 463, 3) := by decide +kernel
theorem dL_law_238 : decode cL_law 238 = .ok (.iconst 0, 1) := by decide +kernel
theorem dL_law_239 : decode cL_law 239 = .ok (.ireturn, 1) := by decide +kernel
theorem dL_law_240 : decode cL_law 240 = .ok (.aload_n 1, 1) := by decide +kernel
theorem dL_law_241 : decode cL_law 241 = .ok (.aload_n 0, 1) := by decide +kernel
theorem dL_law_242 : decode cL_law 242 = .ok (.iload_n 3, 1) := by decide +kernel
theorem dL_law_243 : decode cL_law 243 = .ok (.iconst 1, 1) := by decide +kernel
theorem dL_law_244 : decode cL_law 244 = .ok (.iadd, 1) := by decide +kernel
theorem dL_law_245 : decode cL_law 245 = .ok (.iaload, 1) := by decide +kernel
theorem dL_law_246 : decode cL_law 246 = .ok (.aload_n 0, 1) := by decide +kernel
theorem dL_law_247 : decode cL_law 247 = .ok (.iload_n 3, 1) := by decide +kernel
theorem dL_law_248 : decode cL_law 248 = .ok (.iconst 2, 1) := by decide +kernel
theorem dL_law_249 : decode cL_law 249 = .ok (.iadd, 1) := by decide +kernel
theorem dL_law_250 : decode cL_law 250 = .ok (.iaload, 1) := by decide +kernel
theorem dL_law_251 : decode cL_law 251 = .ok (.invokevirtual 32, 3) := by decide +kernel
theorem dL_law_254 : decode cL_law 254 = .ok (.aload_n 2, 1) := by decide +kernel
theorem dL_law_255 : decode cL_law 255 = .ok (.aload_n 0, 1) := by decide +kernel
theorem dL_law_256 : decode cL_law 256 = .ok (.iload_n 3, 1) := by decide +kernel
theorem dL_law_257 : decode cL_law 257 = .ok (.iconst 1, 1) := by decide +kernel
theorem dL_law_258 : decode cL_law 258 = .ok (.iadd, 1) := by decide +kernel
theorem dL_law_259 : decode cL_law 259 = .ok (.iaload, 1) := by decide +kernel
theorem dL_law_260 : decode cL_law 260 = .ok (.aload_n 0, 1) := by decide +kernel
theorem dL_law_261 : decode cL_law 261 = .ok (.iload_n 3, 1) := by decide +kernel
theorem dL_law_262 : decode cL_law 262 = .ok (.iconst 2, 1) := by decide +kernel
theorem dL_law_263 : decode cL_law 263 = .ok (.iadd, 1) := by decide +kernel
theorem dL_law_264 : decode cL_law 264 = .ok (.iaload, 1) := by decide +kernel
theorem dL_law_265 : decode cL_law 265 = .ok (.invokevirtual 36, 3) := by decide +kernel
theorem dL_law_268 : decode cL_law 268 = .ok (.if_icmp .eq 430, 3) := by decide +kernel
theorem dL_law_271 : decode cL_law 271 = .ok (.iconst 0, 1) := by decide +kernel
theorem dL_law_272 : decode cL_law 272 = .ok (.ireturn, 1) := by decide +kernel
theorem dL_law_273 : decode cL_law 273 = .ok (.aload_n 1, 1) := by decide +kernel
theorem dL_law_274 : decode cL_law 274 = .ok (.aload_n 0, 1) := by decide +kernel
theorem dL_law_275 : decode cL_law 275 = .ok (.iload_n 3, 1) := by decide +kernel
theorem dL_law_276 : decode cL_law 276 = .ok (.iconst 1, 1) := by decide +kernel
theorem dL_law_277 : decode cL_law 277 = .ok (.iadd, 1) := by decide +kernel
theorem dL_law_278 : decode cL_law 278 = .ok (.iaload, 1) := by decide +kernel
theorem dL_law_279 : decode cL_law 279 = .ok (.invokevirtual 37, 3) := by decide +kernel
theorem dL_law_282 : decode cL_law 282 = .ok (.aload_n 2, 1) := by decide +kernel
theorem dL_law_283 : decode cL_law 283 = .ok (.aload_n 0, 1) := by decide +kernel
theorem dL_law_284 : decode cL_law 284 = .ok (.iload_n 3, 1) := by decide +kernel
theorem dL_law_285 : decode cL_law 285 = .ok (.iconst 1, 1) := by decide +kernel
theorem dL_law_286 : decode cL_law 286 = .ok (.iadd, 1) := by decide +kernel
theorem dL_law_287 : decode cL_law 287 = .ok (.iaload, 1) := by decide +kernel
theorem dL_law_288 : decode cL_law 288 = .ok (.invokevirtual 40, 3) := by decide +kernel
theorem dL_law_291 : decode cL_law 291 = .ok (.if_icmp .eq 407, 3) := by decide +kernel
theorem dL_law_294 : decode cL_law 294 = .ok (.iconst 0, 1) := by decide +kernel
theorem dL_law_295 : decode cL_law 295 = .ok (.ireturn, 1) := by decide +kernel
theorem dL_law_296 : decode cL_law 296 = .ok (.aload_n 1, 1) := by decide +kernel
theorem dL_law_297 : decode cL_law 297 = .ok (.aload_n 0, 1) := by decide +kernel
theorem dL_law_298 : decode cL_law 298 = .ok (.iload_n 3, 1) := by decide +kernel
theorem dL_law_299 : decode cL_law 299 = .ok (.iconst 1, 1) := by decide +kernel
theorem dL_law_300 : decode cL_law 300 = .ok (.iadd, 1) := by decide +kernel
theorem dL_law_301 : decode cL_law 301 = .ok (.iaload, 1) := by decide +kernel
theorem dL_law_302 : decode cL_law 302 = .ok (.invokevirtual 41, 3) := by decide +kernel
theorem dL_law_305 : decode cL_law 305 = .ok (.aload_n 2, 1) := by decide +kernel
theorem dL_law_306 : decode cL_law 306 = .ok (.aload_n 0, 1) := by decide +kernel
theorem dL_law_307 : decode cL_law 307 = .ok (.iload_n 3, 1) := by decide +kernel
theorem dL_law_308 : decode cL_law 308 = .ok (.iconst 1, 1) := by decide +kernel
theorem dL_law_309 : decode cL_law 309 = .ok (.iadd, 1) := by decide +kernel
theorem dL_law_310 : decode cL_law 310 = .ok (.iaload, 1) := by decide +kernel
theorem dL_law_311 : decode cL_law 311 = .ok (.invokevirtual 44, 3) := by decide +kernel
theorem dL_law_314 : decode cL_law 314 = .ok (.if_icmp .eq 384, 3) := by decide +kernel
theorem dL_law_317 : decode cL_law 317 = .ok (.iconst 0, 1) := by decide +kernel
theorem dL_law_318 : decode cL_law 318 = .ok (.ireturn, 1) := by decide +kernel
theorem dL_law_319 : decode cL_law 319 = .ok (.aload_n 1, 1) := by decide +kernel
theorem dL_law_320 : decode cL_law 320 = .ok (.aload_n 0, 1) := by decide +kernel
theorem dL_law_321 : decode cL_law 321 = .ok (.iload_n 3, 1) := by decide +kernel
theorem dL_law_322 : decode cL_law 322 = .ok (.iconst 1, 1) := by decide +kernel
theorem dL_law_323 : decode cL_law 323 = .ok (.iadd, 1) := by decide +kernel
theorem dL_law_324 : decode cL_law 324 = .ok (.iaload, 1) := by decide +kernel
theorem dL_law_325 : decode cL_law 325 = .ok (.invokevirtual 45, 3) := by decide +kernel
theorem dL_law_328 : decode cL_law 328 = .ok (.aload_n 2, 1) := by decide +kernel
theorem dL_law_329 : decode cL_law 329 = .ok (.aload_n 0, 1) := by decide +kernel
theorem dL_law_330 : decode cL_law 330 = .ok (.iload_n 3, 1) := by decide +kernel
theorem dL_law_331 : decode cL_law 331 = .ok (.iconst 1, 1) := by decide +kernel
theorem dL_law_332 : decode cL_law 332 = .ok (.iadd, 1) := by decide +kernel
theorem dL_law_333 : decode cL_law 333 = .ok (.iaload, 1) := by decide +kernel
theorem dL_law_334 : decode cL_law 334 = .ok (.invokevirtual 48, 3) := by decide +kernel
theorem dL_law_337 : decode cL_law 337 = .ok (.if_icmp .eq 361, 3) := by decide +kernel
theorem dL_law_340 : decode cL_law 340 = .ok (.iconst 0, 1) := by decide +kernel
theorem dL_law_341 : decode cL_law 341 = .ok (.ireturn, 1) := by decide +kernel
theorem dL_law_342 : decode cL_law 342 = .ok (.aload_n 1, 1) := by decide +kernel
theorem dL_law_343 : decode cL_law 343 = .ok (.invokevirtual 49, 3) := by decide +kernel
theorem dL_law_346 : decode cL_law 346 = .ok (.aload_n 2, 1) := by decide +kernel
theorem dL_law_347 : decode cL_law 347 = .ok (.invokevirtual 53, 3) := by decide +kernel
theorem dL_law_350 : decode cL_law 350 = .ok (.if_icmp .eq 348, 3) := by decide +kernel
theorem dL_law_353 : decode cL_law 353 = .ok (.iconst 0, 1) := by decide +kernel
theorem dL_law_354 : decode cL_law 354 = .ok (.ireturn, 1) := by decide +kernel
theorem dL_law_355 : decode cL_law 355 = .ok (.aload_n 1, 1) := by decide +kernel
theorem dL_law_356 : decode cL_law 356 = .ok (.invokevirtual 54, 3) := by decide +kernel
theorem dL_law_359 : decode cL_law 359 = .ok (.aload_n 2, 1) := by decide +kernel
theorem dL_law_360 : decode cL_law 360 = .ok (.invokevirtual 57, 3) := by decide +kernel
theorem dL_law_363 : decode cL_law 363 = .ok (.if_icmp .eq 335, 3) := by decide +kernel
theorem dL_law_366 : decode cL_law 366 = .ok (.iconst 0, 1) := by decide +kernel
theorem dL_law_367 : decode cL_law 367 = .ok (.ireturn, 1) := by decide +kernel
theorem dL_law_368 : decode cL_law 368 = .ok (.aload_n 1, 1) := by decide +kernel
theorem dL_law_369 : decode cL_law 369 = .ok (.aload_n 0, 1) := by decide +kernel
theorem dL_law_370 : decode cL_law 370 = .ok (.iload_n 3, 1) := by decide +kernel
theorem dL_law_371 : decode cL_law 371 = .ok (.iconst 1, 1) := by decide +kernel
theorem dL_law_372 : decode cL_law 372 = .ok (.iadd, 1) := by decide +kernel
theorem dL_law_373 : decode cL_law 373 = .ok (.iaload, 1) := by decide +kernel
theorem dL_law_374 : decode cL_law 374 = .ok (.aload_n 0, 1) := by decide +kernel
theorem dL_law_375 : decode cL_law 375 = .ok (.iload_n 3, 1) := by decide +kernel
theorem dL_law_376 : decode cL_law 376 = .ok (.iconst 2, 1) := by decide +kernel
theorem dL_law_377 : decode cL_law 377 = .ok (.iadd, 1) := by decide +kernel
theorem dL_law_378 : decode cL_law 378 = .ok (.iaload, 1) := by decide +kernel
theorem dL_law_379 : decode cL_law 379 = .ok (.aload_n 0, 1) := by decide +kernel
theorem dL_law_380 : decode cL_law 380 = .ok (.iload_n 3, 1) := by decide +kernel
theorem dL_law_381 : decode cL_law 381 = .ok (.iconst 3, 1) := by decide +kernel
theorem dL_law_382 : decode cL_law 382 = .ok (.iadd, 1) := by decide +kernel
theorem dL_law_383 : decode cL_law 383 = .ok (.iaload, 1) := by decide +kernel
theorem dL_law_384 : decode cL_law 384 = .ok (.aload_n 0, 1) := by decide +kernel
theorem dL_law_385 : decode cL_law 385 = .ok (.iload_n 3, 1) := by decide +kernel
theorem dL_law_386 : decode cL_law 386 = .ok (.iconst 4, 1) := by decide +kernel
theorem dL_law_387 : decode cL_law 387 = .ok (.iadd, 1) := by decide +kernel
theorem dL_law_388 : decode cL_law 388 = .ok (.iaload, 1) := by decide +kernel
theorem dL_law_389 : decode cL_law 389 = .ok (.invokevirtual 58, 3) := by decide +kernel
theorem dL_law_392 : decode cL_law 392 = .ok (.aload_n 2, 1) := by decide +kernel
theorem dL_law_393 : decode cL_law 393 = .ok (.aload_n 0, 1) := by decide +kernel
theorem dL_law_394 : decode cL_law 394 = .ok (.iload_n 3, 1) := by decide +kernel
theorem dL_law_395 : decode cL_law 395 = .ok (.iconst 1, 1) := by decide +kernel
theorem dL_law_396 : decode cL_law 396 = .ok (.iadd, 1) := by decide +kernel
theorem dL_law_397 : decode cL_law 397 = .ok (.iaload, 1) := by decide +kernel
theorem dL_law_398 : decode cL_law 398 = .ok (.aload_n 0, 1) := by decide +kernel
theorem dL_law_399 : decode cL_law 399 = .ok (.iload_n 3, 1) := by decide +kernel
theorem dL_law_400 : decode cL_law 400 = .ok (.iconst 2, 1) := by decide +kernel
theorem dL_law_401 : decode cL_law 401 = .ok (.iadd, 1) := by decide +kernel
theorem dL_law_402 : decode cL_law 402 = .ok (.iaload, 1) := by decide +kernel
theorem dL_law_403 : decode cL_law 403 = .ok (.aload_n 0, 1) := by decide +kernel
theorem dL_law_404 : decode cL_law 404 = .ok (.iload_n 3, 1) := by decide +kernel
theorem dL_law_405 : decode cL_law 405 = .ok (.iconst 3, 1) := by decide +kernel
theorem dL_law_406 : decode cL_law 406 = .ok (.iadd, 1) := by decide +kernel
theorem dL_law_407 : decode cL_law 407 = .ok (.iaload, 1) := by decide +kernel
theorem dL_law_408 : decode cL_law 408 = .ok (.aload_n 0, 1) := by decide +kernel
theorem dL_law_409 : decode cL_law 409 = .ok (.iload_n 3, 1) := by decide +kernel
theorem dL_law_410 : decode cL_law 410 = .ok (.iconst 4, 1) := by decide +kernel
theorem dL_law_411 : decode cL_law 411 = .ok (.iadd, 1) := by decide +kernel
theorem dL_law_412 : decode cL_law 412 = .ok (.iaload, 1) := by decide +kernel
theorem dL_law_413 : decode cL_law 413 = .ok (.invokevirtual 62, 3) := by decide +kernel
theorem dL_law_416 : decode cL_law 416 = .ok (.if_icmp .eq 282, 3) := by decide +kernel
theorem dL_law_419 : decode cL_law 419 = .ok (.iconst 0, 1) := by decide +kernel
theorem dL_law_420 : decode cL_law 420 = .ok (.ireturn, 1) := by decide +kernel
theorem dL_law_421 : decode cL_law 421 = .ok (.aload_n 1, 1) := by decide +kernel
theorem dL_law_422 : decode cL_law 422 = .ok (.invokevirtual 63, 3) := by decide +kernel
theorem dL_law_425 : decode cL_law 425 = .ok (.aload_n 2, 1) := by decide +kernel
theorem dL_law_426 : decode cL_law 426 = .ok (.invokevirtual 66, 3) := by decide +kernel
theorem dL_law_429 : decode cL_law 429 = .ok (.if_icmp .eq 269, 3) := by decide +kernel
theorem dL_law_432 : decode cL_law 432 = .ok (.iconst 0, 1) := by decide +kernel
theorem dL_law_433 : decode cL_law 433 = .ok (.ireturn, 1) := by decide +kernel
theorem dL_law_434 : decode cL_law 434 = .ok (.aload_n 1, 1) := by decide +kernel
theorem dL_law_435 : decode cL_law 435 = .ok (.aload_n 0, 1) := by decide +kernel
theorem dL_law_436 : decode cL_law 436 = .ok (.iload_n 3, 1) := by decide +kernel
theorem dL_law_437 : decode cL_law 437 = .ok (.iconst 1, 1) := by decide +kernel
theorem dL_law_438 : decode cL_law 438 = .ok (.iadd, 1) := by decide +kernel
theorem dL_law_439 : decode cL_law 439 = .ok (.iaload, 1) := by decide +kernel
theorem dL_law_440 : decode cL_law 440 = .ok (.aload_n 0, 1) := by decide +kernel
theorem dL_law_441 : decode cL_law 441 = .ok (.iload_n 3, 1) := by decide +kernel
theorem dL_law_442 : decode cL_law 442 = .ok (.iconst 2, 1) := by decide +kernel
theorem dL_law_443 : decode cL_law 443 = .ok (.iadd, 1) := by decide +kernel
theorem dL_law_444 : decode cL_law 444 = .ok (.iaload, 1) := by decide +kernel
theorem dL_law_445 : decode cL_law 445 = .ok (.aload_n 0, 1) := by decide +kernel
theorem dL_law_446 : decode cL_law 446 = .ok (.iload_n 3, 1) := by decide +kernel
theorem dL_law_447 : decode cL_law 447 = .ok (.iconst 3, 1) := by decide +kernel
theorem dL_law_448 : decode cL_law 448 = .ok (.iadd, 1) := by decide +kernel
theorem dL_law_449 : decode cL_law 449 = .ok (.iaload, 1) := by decide +kernel
theorem dL_law_450 : decode cL_law 450 = .ok (.aload_n 0, 1) := by decide +kernel
theorem dL_law_451 : decode cL_law 451 = .ok (.iload_n 3, 1) := by decide +kernel
theorem dL_law_452 : decode cL_law 452 = .ok (.iconst 4, 1) := by decide +kernel
theorem dL_law_453 : decode cL_law 453 = .ok (.iadd, 1) := by decide +kernel
theorem dL_law_454 : decode cL_law 454 = .ok (.iaload, 1) := by decide +kernel
theorem dL_law_455 : decode cL_law 455 = .ok (.invokevirtual 67, 3) := by decide +kernel
theorem dL_law_458 : decode cL_law 458 = .ok (.aload_n 2, 1) := by decide +kernel
theorem dL_law_459 : decode cL_law 459 = .ok (.aload_n 0, 1) := by decide +kernel
theorem dL_law_460 : decode cL_law 460 = .ok (.iload_n 3, 1) := by decide +kernel
theorem dL_law_461 : decode cL_law 461 = .ok (.iconst 1, 1) := by decide +kernel
theorem dL_law_462 : decode cL_law 462 = .ok (.iadd, 1) := by decide +kernel
theorem dL_law_463 : decode cL_law 463 = .ok (.iaload, 1) := by decide +kernel
theorem dL_law_464 : decode cL_law 464 = .ok (.aload_n 0, 1) := by decide +kernel
theorem dL_law_465 : decode cL_law 465 = .ok (.iload_n 3, 1) := by decide +kernel
theorem dL_law_466 : decode cL_law 466 = .ok (.iconst 2, 1) := by decide +kernel
theorem dL_law_467 : decode cL_law 467 = .ok (.iadd, 1) := by decide +kernel
theorem dL_law_468 : decode cL_law 468 = .ok (.iaload, 1) := by decide +kernel
theorem dL_law_469 : decode cL_law 469 = .ok (.aload_n 0, 1) := by decide +kernel
theorem dL_law_470 : decode cL_law 470 = .ok (.iload_n 3, 1) := by decide +kernel
theorem dL_law_471 : decode cL_law 471 = .ok (.iconst 3, 1) := by decide +kernel
theorem dL_law_472 : decode cL_law 472 = .ok (.iadd, 1) := by decide +kernel
theorem dL_law_473 : decode cL_law 473 = .ok (.iaload, 1) := by decide +kernel
theorem dL_law_474 : decode cL_law 474 = .ok (.aload_n 0, 1) := by decide +kernel
theorem dL_law_475 : decode cL_law 475 = .ok (.iload_n 3, 1) := by decide +kernel
theorem dL_law_476 : decode cL_law 476 = .ok (.iconst 4, 1) := by decide +kernel
theorem dL_law_477 : decode cL_law 477 = .ok (.iadd, 1) := by decide +kernel
theorem dL_law_478 : decode cL_law 478 = .ok (.iaload, 1) := by decide +kernel
theorem dL_law_479 : decode cL_law 479 = .ok (.invokevirtual 70, 3) := by decide +kernel
theorem dL_law_482 : decode cL_law 482 = .ok (.if_icmp .eq 216, 3) := by decide +kernel
theorem dL_law_485 : decode cL_law 485 = .ok (.iconst 0, 1) := by decide +kernel
theorem dL_law_486 : decode cL_law 486 = .ok (.ireturn, 1) := by decide +kernel
theorem dL_law_487 : decode cL_law 487 = .ok (.aload_n 1, 1) := by decide +kernel
theorem dL_law_488 : decode cL_law 488 = .ok (.aload_n 0, 1) := by decide +kernel
theorem dL_law_489 : decode cL_law 489 = .ok (.iload_n 3, 1) := by decide +kernel
theorem dL_law_490 : decode cL_law 490 = .ok (.iconst 1, 1) := by decide +kernel
theorem dL_law_491 : decode cL_law 491 = .ok (.iadd, 1) := by decide +kernel
theorem dL_law_492 : decode cL_law 492 = .ok (.iaload, 1) := by decide +kernel
theorem dL_law_493 : decode cL_law 493 = .ok (.aload_n 0, 1) := by decide +kernel
theorem dL_law_494 : decode cL_law 494 = .ok (.iload_n 3, 1) := by decide +kernel
theorem dL_law_495 : decode cL_law 495 = .ok (.iconst 2, 1) := by decide +kernel
theorem dL_law_496 : decode cL_law 496 = .ok (.iadd, 1) := by decide +kernel
theorem dL_law_497 : decode cL_law 497 = .ok (.iaload, 1) := by decide +kernel
theorem dL_law_498 : decode cL_law 498 = .ok (.invokevirtual 71, 3) := by decide +kernel
theorem dL_law_501 : decode cL_law 501 = .ok (.aload_n 2, 1) := by decide +kernel
theorem dL_law_502 : decode cL_law 502 = .ok (.aload_n 0, 1) := by decide +kernel
theorem dL_law_503 : decode cL_law 503 = .ok (.iload_n 3, 1) := by decide +kernel
theorem dL_law_504 : decode cL_law 504 = .ok (.iconst 1, 1) := by decide +kernel
theorem dL_law_505 : decode cL_law 505 = .ok (.iadd, 1) := by decide +kernel
theorem dL_law_506 : decode cL_law 506 = .ok (.iaload, 1) := by decide +kernel
theorem dL_law_507 : decode cL_law 507 = .ok (.aload_n 0, 1) := by decide +kernel
theorem dL_law_508 : decode cL_law 508 = .ok (.iload_n 3, 1) := by decide +kernel
theorem dL_law_509 : decode cL_law 509 = .ok (.iconst 2, 1) := by decide +kernel
theorem dL_law_510 : decode cL_law 510 = .ok (.iadd, 1) := by decide +kernel
theorem dL_law_511 : decode cL_law 511 = .ok (.iaload, 1) := by decide +kernel
theorem dL_law_512 : decode cL_law 512 = .ok (.invokevirtual 75, 3) := by decide +kernel
theorem dL_law_515 : decode cL_law 515 = .ok (.if_icmp .eq 183, 3) := by decide +kernel
theorem dL_law_518 : decode cL_law 518 = .ok (.iconst 0, 1) := by decide +kernel
theorem dL_law_519 : decode cL_law 519 = .ok (.ireturn, 1) := by decide +kernel
theorem dL_law_520 : decode cL_law 520 = .ok (.aload_n 1, 1) := by decide +kernel
theorem dL_law_521 : decode cL_law 521 = .ok (.invokevirtual 76, 3) := by decide +kernel
theorem dL_law_524 : decode cL_law 524 = .ok (.aload_n 2, 1) := by decide +kernel
theorem dL_law_525 : decode cL_law 525 = .ok (.invokevirtual 80, 3) := by decide +kernel
theorem dL_law_528 : decode cL_law 528 = .ok (.if_icmp .eq 170, 3) := by decide +kernel
theorem dL_law_531 : decode cL_law 531 = .ok (.iconst 0, 1) := by decide +kernel
theorem dL_law_532 : decode cL_law 532 = .ok (.ireturn, 1) := by decide +kernel
theorem dL_law_533 : decode cL_law 533 = .ok (.aload_n 1, 1) := by decide +kernel
theorem dL_law_534 : decode cL_law 534 = .ok (.aload_n 0, 1) := by decide +kernel
theorem dL_law_535 : decode cL_law 535 = .ok (.iload_n 3, 1) := by decide +kernel
theorem dL_law_536 : decode cL_law 536 = .ok (.iconst 1, 1) := by decide +kernel
theorem dL_law_537 : decode cL_law 537 = .ok (.iadd, 1) := by decide +kernel
theorem dL_law_538 : decode cL_law 538 = .ok (.iaload, 1) := by decide +kernel
theorem dL_law_539 : decode cL_law 539 = .ok (.aload_n 0, 1) := by decide +kernel
theorem dL_law_540 : decode cL_law 540 = .ok (.iload_n 3, 1) := by decide +kernel
theorem dL_law_541 : decode cL_law 541 = .ok (.iconst 2, 1) := by decide +kernel
theorem dL_law_542 : decode cL_law 542 = .ok (.iadd, 1) := by decide +kernel
theorem dL_law_543 : decode cL_law 543 = .ok (.iaload, 1) := by decide +kernel
theorem dL_law_544 : decode cL_law 544 = .ok (.invokevirtual 81, 3) := by decide +kernel
theorem dL_law_547 : decode cL_law 547 = .ok (.aload_n 2, 1) := by decide +kernel
theorem dL_law_548 : decode cL_law 548 = .ok (.aload_n 0, 1) := by decide +kernel
theorem dL_law_549 : decode cL_law 549 = .ok (.iload_n 3, 1) := by decide +kernel
theorem dL_law_550 : decode cL_law 550 = .ok (.iconst 1, 1) := by decide +kernel
theorem dL_law_551 : decode cL_law 551 = .ok (.iadd, 1) := by decide +kernel
theorem dL_law_552 : decode cL_law 552 = .ok (.iaload, 1) := by decide +kernel
theorem dL_law_553 : decode cL_law 553 = .ok (.aload_n 0, 1) := by decide +kernel
theorem dL_law_554 : decode cL_law 554 = .ok (.iload_n 3, 1) := by decide +kernel
theorem dL_law_555 : decode cL_law 555 = .ok (.iconst 2, 1) := by decide +kernel
theorem dL_law_556 : decode cL_law 556 = .ok (.iadd, 1) := by decide +kernel
theorem dL_law_557 : decode cL_law 557 = .ok (.iaload, 1) := by decide +kernel
theorem dL_law_558 : decode cL_law 558 = .ok (.invokevirtual 84, 3) := by decide +kernel
theorem dL_law_561 : decode cL_law 561 = .ok (.if_icmp .eq 137, 3) := by decide +kernel
theorem dL_law_564 : decode cL_law 564 = .ok (.iconst 0, 1) := by decide +kernel
theorem dL_law_565 : decode cL_law 565 = .ok (.ireturn, 1) := by decide +kernel
theorem dL_law_566 : decode cL_law 566 = .ok (.aload_n 1, 1) := by decide +kernel
theorem dL_law_567 : decode cL_law 567 = .ok (.aload_n 0, 1) := by decide +kernel
theorem dL_law_568 : decode cL_law 568 = .ok (.iload_n 3, 1) := by decide +kernel
theorem dL_law_569 : decode cL_law 569 = .ok (.iconst 1, 1) := by decide +kernel
theorem dL_law_570 : decode cL_law 570 = .ok (.iadd, 1) := by decide +kernel
theorem dL_law_571 : decode cL_law 571 = .ok (.iaload, 1) := by decide +kernel
theorem dL_law_572 : decode cL_law 572 = .ok (.aload_n 0, 1) := by decide +kernel
theorem dL_law_573 : decode cL_law 573 = .ok (.iload_n 3, 1) := by decide +kernel
theorem dL_law_574 : decode cL_law 574 = .ok (.iconst 2, 1) := by decide +kernel
theorem dL_law_575 : decode cL_law 575 = .ok (.iadd, 1) := by decide +kernel
theorem dL_law_576 : decode cL_law 576 = .ok (.iaload, 1) := by decide +kernel
theorem dL_law_577 : decode cL_law 577 = .ok (.invokevirtual 85, 3) := by decide +kernel
theorem dL_law_580 : decode cL_law 580 = .ok (.aload_n 2, 1) := by decide +kernel
theorem dL_law_581 : decode cL_law 581 = .ok (.aload_n 0, 1) := by decide +kernel
theorem dL_law_582 : decode cL_law 582 = .ok (.iload_n 3, 1) := by decide +kernel
theorem dL_law_583 : decode cL_law 583 = .ok (.iconst 1, 1) := by decide +kernel
theorem dL_law_584 : decode cL_law 584 = .ok (.iadd, 1) := by decide +kernel
theorem dL_law_585 : decode cL_law 585 = .ok (.iaload, 1) := by decide +kernel
theorem dL_law_586 : decode cL_law 586 = .ok (.aload_n 0, 1) := by decide +kernel
theorem dL_law_587 : decode cL_law 587 = .ok (.iload_n 3, 1) := by decide +kernel
theorem dL_law_588 : decode cL_law 588 = .ok (.iconst 2, 1) := by decide +kernel
theorem dL_law_589 : decode cL_law 589 = .ok (.iadd, 1) := by decide +kernel
theorem dL_law_590 : decode cL_law 590 = .ok (.iaload, 1) := by decide +kernel
theorem dL_law_591 : decode cL_law 591 = .ok (.invokevirtual 88, 3) := by decide +kernel
theorem dL_law_594 : decode cL_law 594 = .ok (.if_icmp .eq 104, 3) := by decide +kernel
theorem dL_law_597 : decode cL_law 597 = .ok (.iconst 0, 1) := by decide +kernel
theorem dL_law_598 : decode cL_law 598 = .ok (.ireturn, 1) := by decide +kernel
theorem dL_law_599 : decode cL_law 599 = .ok (.aload_n 1, 1) := by decide +kernel
theorem dL_law_600 : decode cL_law 600 = .ok (.aload_n 0, 1) := by decide +kernel
theorem dL_law_601 : decode cL_law 601 = .ok (.iload_n 3, 1) := by decide +kernel
theorem dL_law_602 : decode cL_law 602 = .ok (.iconst 1, 1) := by decide +kernel
theorem dL_law_603 : decode cL_law 603 = .ok (.iadd, 1) := by decide +kernel
theorem dL_law_604 : decode cL_law 604 = .ok (.iaload, 1) := by decide +kernel
theorem dL_law_605 : decode cL_law 605 = .ok (.aload_n 0, 1) := by decide +kernel
theorem dL_law_606 : decode cL_law 606 = .ok (.iload_n 3, 1) := by decide +kernel
theorem dL_law_607 : decode cL_law 607 = .ok (.iconst 2, 1) := by decide +kernel
theorem dL_law_608 : decode cL_law 608 = .ok (.iadd, 1) := by decide +kernel
theorem dL_law_609 : decode cL_law 609 = .ok (.iaload, 1) := by decide +kernel
theorem dL_law_610 : decode cL_law 610 = .ok (.invokevirtual 89, 3) := by decide +kernel
theorem dL_law_613 : decode cL_law 613 = .ok (.aload_n 2, 1) := by decide +kernel
theorem dL_law_614 : decode cL_law 614 = .ok (.aload_n 0, 1) := by decide +kernel
theorem dL_law_615 : decode cL_law 615 = .ok (.iload_n 3, 1) := by decide +kernel
theorem dL_law_616 : decode cL_law 616 = .ok (.iconst 1, 1) := by decide +kernel
theorem dL_law_617 : decode cL_law 617 = .ok (.iadd, 1) := by decide +kernel
theorem dL_law_618 : decode cL_law 618 = .ok (.iaload, 1) := by decide +kernel
theorem dL_law_619 : decode cL_law 619 = .ok (.aload_n 0, 1) := by decide +kernel
theorem dL_law_620 : decode cL_law 620 = .ok (.iload_n 3, 1) := by decide +kernel
theorem dL_law_621 : decode cL_law 621 = .ok (.iconst 2, 1) := by decide +kernel
theorem dL_law_622 : decode cL_law 622 = .ok (.iadd, 1) := by decide +kernel
theorem dL_law_623 : decode cL_law 623 = .ok (.iaload, 1) := by decide +kernel
theorem dL_law_624 : decode cL_law 624 = .ok (.invokevirtual 92, 3) := by decide +kernel
theorem dL_law_627 : decode cL_law 627 = .ok (.if_icmp .eq 71, 3) := by decide +kernel
theorem dL_law_630 : decode cL_law 630 = .ok (.iconst 0, 1) := by decide +kernel
theorem dL_law_631 : decode cL_law 631 = .ok (.ireturn, 1) := by decide +kernel
theorem dL_law_632 : decode cL_law 632 = .ok (.aload_n 1, 1) := by decide +kernel
theorem dL_law_633 : decode cL_law 633 = .ok (.aload_n 0, 1) := by decide +kernel
theorem dL_law_634 : decode cL_law 634 = .ok (.iload_n 3, 1) := by decide +kernel
theorem dL_law_635 : decode cL_law 635 = .ok (.iconst 1, 1) := by decide +kernel
theorem dL_law_636 : decode cL_law 636 = .ok (.iadd, 1) := by decide +kernel
theorem dL_law_637 : decode cL_law 637 = .ok (.iaload, 1) := by decide +kernel
theorem dL_law_638 : decode cL_law 638 = .ok (.aload_n 0, 1) := by decide +kernel
theorem dL_law_639 : decode cL_law 639 = .ok (.iload_n 3, 1) := by decide +kernel
theorem dL_law_640 : decode cL_law 640 = .ok (.iconst 2, 1) := by decide +kernel
theorem dL_law_641 : decode cL_law 641 = .ok (.iadd, 1) := by decide +kernel
theorem dL_law_642 : decode cL_law 642 = .ok (.iaload, 1) := by decide +kernel
theorem dL_law_643 : decode cL_law 643 = .ok (.aload_n 0, 1) := by decide +kernel
theorem dL_law_644 : decode cL_law 644 = .ok (.iload_n 3, 1) := by decide +kernel
theorem dL_law_645 : decode cL_law 645 = .ok (.iconst 3, 1) := by decide +kernel
theorem dL_law_646 : decode cL_law 646 = .ok (.iadd, 1) := by decide +kernel
theorem dL_law_647 : decode cL_law 647 = .ok (.iaload, 1) := by decide +kernel
theorem dL_law_648 : decode cL_law 648 = .ok (.invokevirtual 93, 3) := by decide +kernel
theorem dL_law_651 : decode cL_law 651 = .ok (.aload_n 2, 1) := by decide +kernel
theorem dL_law_652 : decode cL_law 652 = .ok (.aload_n 0, 1) := by decide +kernel
theorem dL_law_653 : decode cL_law 653 = .ok (.iload_n 3, 1) := by decide +kernel
theorem dL_law_654 : decode cL_law 654 = .ok (.iconst 1, 1) := by decide +kernel
theorem dL_law_655 : decode cL_law 655 = .ok (.iadd, 1) := by decide +kernel
theorem dL_law_656 : decode cL_law 656 = .ok (.iaload, 1) := by decide +kernel
theorem dL_law_657 : decode cL_law 657 = .ok (.aload_n 0, 1) := by decide +kernel
theorem dL_law_658 : decode cL_law 658 = .ok (.iload_n 3, 1) := by decide +kernel
theorem dL_law_659 : decode cL_law 659 = .ok (.iconst 2, 1) := by decide +kernel
theorem dL_law_660 : decode cL_law 660 = .ok (.iadd, 1) := by decide +kernel
theorem dL_law_661 : decode cL_law 661 = .ok (.iaload, 1) := by decide +kernel
theorem dL_law_662 : decode cL_law 662 = .ok (.aload_n 0, 1) := by decide +kernel
theorem dL_law_663 : decode cL_law 663 = .ok (.iload_n 3, 1) := by decide +kernel
theorem dL_law_664 : decode cL_law 664 = .ok (.iconst 3, 1) := by decide +kernel
theorem dL_law_665 : decode cL_law 665 = .ok (.iadd, 1) := by decide +kernel
theorem dL_law_666 : decode cL_law 666 = .ok (.iaload, 1) := by decide +kernel
theorem dL_law_667 : decode cL_law 667 = .ok (.invokevirtual 97, 3) := by decide +kernel
theorem dL_law_670 : decode cL_law 670 = .ok (.if_icmp .eq 28, 3) := by decide +kernel
theorem dL_law_673 : decode cL_law 673 = .ok (.iconst 0, 1) := by decide +kernel
theorem dL_law_674 : decode cL_law 674 = .ok (.ireturn, 1) := by decide +kernel
theorem dL_law_675 : decode cL_law 675 = .ok (.aload_n 1, 1) := by decide +kernel
theorem dL_law_676 : decode cL_law 676 = .ok (.aload_n 0, 1) := by decide +kernel
theorem dL_law_677 : decode cL_law 677 = .ok (.iload_n 3, 1) := by decide +kernel
theorem dL_law_678 : decode cL_law 678 = .ok (.iconst 1, 1) := by decide +kernel
theorem dL_law_679 : decode cL_law 679 = .ok (.iadd, 1) := by decide +kernel
theorem dL_law_680 : decode cL_law 680 = .ok (.iaload, 1) := by decide +kernel
theorem dL_law_681 : decode cL_law 681 = .ok (.invokevirtual 98, 3) := by decide +kernel
theorem dL_law_684 : decode cL_law 684 = .ok (.aload_n 2, 1) := by decide +kernel
theorem dL_law_685 : decode cL_law 685 = .ok (.aload_n 0, 1) := by decide +kernel
theorem dL_law_686 : decode cL_law 686 = .ok (.iload_n 3, 1) := by decide +kernel
theorem dL_law_687 : decode cL_law 687 = .ok (.iconst 1, 1) := by decide +kernel
theorem dL_law_688 : decode cL_law 688 = .ok (.iadd, 1) := by decide +kernel
theorem dL_law_689 : decode cL_law 689 = .ok (.iaload, 1) := by decide +kernel
theorem dL_law_690 : decode cL_law 690 = .ok (.invokevirtual 101, 3) := by decide +kernel
theorem dL_law_693 : decode cL_law 693 = .ok (.if_icmp .eq 5, 3) := by decide +kernel
theorem dL_law_696 : decode cL_law 696 = .ok (.iconst 0, 1) := by decide +kernel
theorem dL_law_697 : decode cL_law 697 = .ok (.ireturn, 1) := by decide +kernel
theorem dL_law_698 : decode cL_law 698 = .ok (.iinc 3 5, 3) := by decide +kernel
theorem dL_law_701 : decode cL_law 701 = .ok (.goto (-683), 3) := by decide +kernel
theorem dL_law_704 : decode cL_law 704 = .ok (.iconst 1, 1) := by decide +kernel
theorem dL_law_705 : decode cL_law 705 = .ok (.ireturn, 1) := by decide +kernel
theorem q53 : (Jvm.Cond.initialized "FarTypewriterLaw") ∈ lw_all := lw_g (lw_at lw_m1 0 rfl) rfl
set_option maxRecDepth 100000
theorem q75 : (Jvm.Cond.classLink "FarTypewriterLaw" (7 : Nat) "FarTypewriter") ∈ lw_all := lw_g (lw_at lw_m1 22 rfl) rfl
theorem q77 : (Jvm.Cond.methodLink "FarTypewriterLaw" (9 : Nat) ({ cls := "FarTypewriter", name := "<init>", desc := "()V" } : Jvm.MethodName)) ∈ lw_all := lw_g (lw_at lw_m1 24 rfl) rfl
theorem q361 : (Jvm.Cond.methodLink "FarTypewriterLaw" (13 : Nat) ({ cls := "FarTypewriter", name := "open", desc := "(III)Z" } : Jvm.MethodName)) ∈ lw_all := lw_g (lw_at lw_m2 68 rfl) rfl
theorem q392 : (Jvm.Cond.methodLink "FarTypewriterLaw" (18 : Nat) ({ cls := "FarTypewriter", name := "program", desc := "(I)I" } : Jvm.MethodName)) ∈ lw_all := lw_g (lw_at lw_m2 99 rfl) rfl
theorem q396 : (Jvm.Cond.methodLink "FarTypewriterLaw" (27 : Nat) ({ cls := "FarTypewriter", name := "write", desc := "(I)Z" } : Jvm.MethodName)) ∈ lw_all := lw_g (lw_at lw_m2 103 rfl) rfl
theorem q420 : (Jvm.Cond.methodLink "FarTypewriterLaw" (32 : Nat) ({ cls := "FarTypewriter", name := "move", desc := "(II)Z" } : Jvm.MethodName)) ∈ lw_all := lw_g (lw_at lw_m2 127 rfl) rfl
theorem q427 : (Jvm.Cond.methodLink "FarTypewriterLaw" (37 : Nat) ({ cls := "FarTypewriter", name := "wipe", desc := "(I)Z" } : Jvm.MethodName)) ∈ lw_all := lw_g (lw_at lw_m2 134 rfl) rfl
theorem q505 : (Jvm.Cond.methodLink "FarTypewriterLaw" (41 : Nat) ({ cls := "FarTypewriter", name := "scroll", desc := "(I)Z" } : Jvm.MethodName)) ∈ lw_all := lw_g (lw_at lw_m2 212 rfl) rfl
theorem q510 : (Jvm.Cond.methodLink "FarTypewriterLaw" (45 : Nat) ({ cls := "FarTypewriter", name := "pen", desc := "(I)I" } : Jvm.MethodName)) ∈ lw_all := lw_g (lw_at lw_m2 217 rfl) rfl
theorem q514 : (Jvm.Cond.methodLink "FarTypewriterLaw" (23 : Nat) ({ cls := "FarTypewriter", name := "key", desc := "(I)I" } : Jvm.MethodName)) ∈ lw_all := lw_g (lw_at lw_m2 221 rfl) rfl
theorem q549 : (Jvm.Cond.methodLink "FarTypewriterLaw" (49 : Nat) ({ cls := "FarTypewriter", name := "tick", desc := "()I" } : Jvm.MethodName)) ∈ lw_all := lw_g (lw_at lw_m3 16 rfl) rfl
theorem q616 : (Jvm.Cond.methodLink "FarTypewriterLaw" (54 : Nat) ({ cls := "FarTypewriter", name := "round", desc := "()I" } : Jvm.MethodName)) ∈ lw_all := lw_g (lw_at lw_m3 83 rfl) rfl
theorem q710 : (Jvm.Cond.methodLink "FarTypewriterLaw" (58 : Nat) ({ cls := "FarTypewriter", name := "carry", desc := "(IIII)I" } : Jvm.MethodName)) ∈ lw_all := lw_g (lw_at lw_m3 177 rfl) rfl
theorem q714 : (Jvm.Cond.methodLink "FarTypewriterLaw" (63 : Nat) ({ cls := "FarTypewriter", name := "roam", desc := "()I" } : Jvm.MethodName)) ∈ lw_all := lw_g (lw_at lw_m3 181 rfl) rfl
theorem q718 : (Jvm.Cond.methodLink "FarTypewriterLaw" (67 : Nat) ({ cls := "FarTypewriter", name := "cell", desc := "(IIII)I" } : Jvm.MethodName)) ∈ lw_all := lw_g (lw_at lw_m3 185 rfl) rfl
theorem q726 : (Jvm.Cond.methodLink "FarTypewriterLaw" (71 : Nat) ({ cls := "FarTypewriter", name := "cursor", desc := "(II)I" } : Jvm.MethodName)) ∈ lw_all := lw_g (lw_at lw_m3 193 rfl) rfl
theorem q730 : (Jvm.Cond.methodLink "FarTypewriterLaw" (76 : Nat) ({ cls := "FarTypewriter", name := "alike", desc := "()Z" } : Jvm.MethodName)) ∈ lw_all := lw_g (lw_at lw_m3 197 rfl) rfl
theorem q734 : (Jvm.Cond.methodLink "FarTypewriterLaw" (81 : Nat) ({ cls := "FarTypewriter", name := "state", desc := "(II)I" } : Jvm.MethodName)) ∈ lw_all := lw_g (lw_at lw_m3 201 rfl) rfl
theorem q748 : (Jvm.Cond.methodLink "FarTypewriterLaw" (85 : Nat) ({ cls := "FarTypewriter", name := "kept", desc := "(II)I" } : Jvm.MethodName)) ∈ lw_all := lw_g (lw_at lw_m3 215 rfl) rfl
theorem q752 : (Jvm.Cond.methodLink "FarTypewriterLaw" (89 : Nat) ({ cls := "FarTypewriter", name := "guess", desc := "(II)I" } : Jvm.MethodName)) ∈ lw_all := lw_g (lw_at lw_m3 219 rfl) rfl
theorem q756 : (Jvm.Cond.methodLink "FarTypewriterLaw" (93 : Nat) ({ cls := "FarTypewriter", name := "letter", desc := "(III)I" } : Jvm.MethodName)) ∈ lw_all := lw_g (lw_at lw_m3 223 rfl) rfl
theorem q760 : (Jvm.Cond.methodLink "FarTypewriterLaw" (98 : Nat) ({ cls := "FarTypewriter", name := "count", desc := "(I)I" } : Jvm.MethodName)) ∈ lw_all := lw_g (lw_at lw_m3 227 rfl) rfl
theorem q764 : (Jvm.Cond.classLink "FarTypewriterLaw" (10 : Nat) "FarTypewriterModel") ∈ lw_all := lw_g (lw_at lw_m3 231 rfl) rfl
theorem q766 : (Jvm.Cond.methodLink "FarTypewriterLaw" (12 : Nat) ({ cls := "FarTypewriterModel", name := "<init>", desc := "()V" } : Jvm.MethodName)) ∈ lw_all := lw_g (lw_at lw_m3 233 rfl) rfl
theorem q918 : (Jvm.Cond.methodLink "FarTypewriterLaw" (17 : Nat) ({ cls := "FarTypewriterModel", name := "open", desc := "(III)Z" } : Jvm.MethodName)) ∈ lw_all := lw_g (lw_at lw_m4 145 rfl) rfl
theorem q922 : (Jvm.Cond.methodLink "FarTypewriterLaw" (22 : Nat) ({ cls := "FarTypewriterModel", name := "program", desc := "(I)I" } : Jvm.MethodName)) ∈ lw_all := lw_g (lw_at lw_m4 149 rfl) rfl
theorem q926 : (Jvm.Cond.methodLink "FarTypewriterLaw" (31 : Nat) ({ cls := "FarTypewriterModel", name := "write", desc := "(I)Z" } : Jvm.MethodName)) ∈ lw_all := lw_g (lw_at lw_m4 153 rfl) rfl
theorem q949 : (Jvm.Cond.methodLink "FarTypewriterLaw" (36 : Nat) ({ cls := "FarTypewriterModel", name := "move", desc := "(II)Z" } : Jvm.MethodName)) ∈ lw_all := lw_g (lw_at lw_m4 176 rfl) rfl
theorem q956 : (Jvm.Cond.methodLink "FarTypewriterLaw" (40 : Nat) ({ cls := "FarTypewriterModel", name := "wipe", desc := "(I)Z" } : Jvm.MethodName)) ∈ lw_all := lw_g (lw_at lw_m4 183 rfl) rfl
theorem q960 : (Jvm.Cond.methodLink "FarTypewriterLaw" (44 : Nat) ({ cls := "FarTypewriterModel", name := "scroll", desc := "(I)Z" } : Jvm.MethodName)) ∈ lw_all := lw_g (lw_at lw_m4 187 rfl) rfl
theorem q964 : (Jvm.Cond.methodLink "FarTypewriterLaw" (48 : Nat) ({ cls := "FarTypewriterModel", name := "pen", desc := "(I)I" } : Jvm.MethodName)) ∈ lw_all := lw_g (lw_at lw_m4 191 rfl) rfl
theorem q968 : (Jvm.Cond.methodLink "FarTypewriterLaw" (53 : Nat) ({ cls := "FarTypewriterModel", name := "tick", desc := "()I" } : Jvm.MethodName)) ∈ lw_all := lw_g (lw_at lw_m4 195 rfl) rfl
theorem q1033 : (Jvm.Cond.methodLink "FarTypewriterLaw" (62 : Nat) ({ cls := "FarTypewriterModel", name := "carry", desc := "(IIII)I" } : Jvm.MethodName)) ∈ lw_all := lw_g (lw_at lw_m5 20 rfl) rfl
theorem q1097 : (Jvm.Cond.methodLink "FarTypewriterLaw" (57 : Nat) ({ cls := "FarTypewriterModel", name := "round", desc := "()I" } : Jvm.MethodName)) ∈ lw_all := lw_g (lw_at lw_m5 84 rfl) rfl
theorem q1102 : (Jvm.Cond.methodLink "FarTypewriterLaw" (66 : Nat) ({ cls := "FarTypewriterModel", name := "roam", desc := "()I" } : Jvm.MethodName)) ∈ lw_all := lw_g (lw_at lw_m5 89 rfl) rfl
theorem q1106 : (Jvm.Cond.methodLink "FarTypewriterLaw" (26 : Nat) ({ cls := "FarTypewriterModel", name := "key", desc := "(I)I" } : Jvm.MethodName)) ∈ lw_all := lw_g (lw_at lw_m5 93 rfl) rfl
theorem q1114 : (Jvm.Cond.methodLink "FarTypewriterLaw" (70 : Nat) ({ cls := "FarTypewriterModel", name := "cell", desc := "(IIII)I" } : Jvm.MethodName)) ∈ lw_all := lw_g (lw_at lw_m5 101 rfl) rfl
theorem q1122 : (Jvm.Cond.methodLink "FarTypewriterLaw" (75 : Nat) ({ cls := "FarTypewriterModel", name := "cursor", desc := "(II)I" } : Jvm.MethodName)) ∈ lw_all := lw_g (lw_at lw_m5 109 rfl) rfl
theorem q1126 : (Jvm.Cond.methodLink "FarTypewriterLaw" (80 : Nat) ({ cls := "FarTypewriterModel", name := "alike", desc := "()Z" } : Jvm.MethodName)) ∈ lw_all := lw_g (lw_at lw_m5 113 rfl) rfl
theorem q1130 : (Jvm.Cond.methodLink "FarTypewriterLaw" (84 : Nat) ({ cls := "FarTypewriterModel", name := "state", desc := "(II)I" } : Jvm.MethodName)) ∈ lw_all := lw_g (lw_at lw_m5 117 rfl) rfl
theorem q1134 : (Jvm.Cond.methodLink "FarTypewriterLaw" (88 : Nat) ({ cls := "FarTypewriterModel", name := "kept", desc := "(II)I" } : Jvm.MethodName)) ∈ lw_all := lw_g (lw_at lw_m5 121 rfl) rfl
theorem q1138 : (Jvm.Cond.methodLink "FarTypewriterLaw" (92 : Nat) ({ cls := "FarTypewriterModel", name := "guess", desc := "(II)I" } : Jvm.MethodName)) ∈ lw_all := lw_g (lw_at lw_m5 125 rfl) rfl
theorem q1142 : (Jvm.Cond.methodLink "FarTypewriterLaw" (97 : Nat) ({ cls := "FarTypewriterModel", name := "letter", desc := "(III)I" } : Jvm.MethodName)) ∈ lw_all := lw_g (lw_at lw_m5 129 rfl) rfl
theorem q1146 : (Jvm.Cond.methodLink "FarTypewriterLaw" (101 : Nat) ({ cls := "FarTypewriterModel", name := "count", desc := "(I)I" } : Jvm.MethodName)) ∈ lw_all := lw_g (lw_at lw_m5 133 rfl) rfl
