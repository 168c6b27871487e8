set_option maxRecDepth 100000
abbrev cL_law : ByteArray := code
theorem dL_law_0 : decode cL_law 0 = .ok (.new 8, 3) := by decide +kernel
theorem dL_law_3 : decode cL_law 3 = .ok (.dup, 1) := by decide +kernel
theorem dL_law_4 : decode cL_law 4 = .ok (.invokespecial 15, 3) := by decide +kernel
theorem dL_law_7 : decode cL_law 7 = .ok (.astore_n 1, 1) := by decide +kernel
theorem dL_law_8 : decode cL_law 8 = .ok (.new 16, 3) := by decide +kernel
theorem dL_law_11 : decode cL_law 11 = .ok (.dup, 1) := by decide +kernel
theorem dL_law_12 : decode cL_law 12 = .ok (.invokespecial 18, 3) := by decide +kernel
theorem dL_law_15 : decode cL_law 15 = .ok (.astore_n 2, 1) := by decide +kernel
theorem dL_law_16 : decode cL_law 16 = .ok (.iconst 1, 1) := by decide +kernel
theorem dL_law_17 : decode cL_law 17 = .ok (.newarray .long, 2) := by decide +kernel
theorem dL_law_19 : decode cL_law 19 = .ok (.astore_n 3, 1) := by decide +kernel
theorem dL_law_20 : decode cL_law 20 = .ok (.iconst 0, 1) := by decide +kernel
theorem dL_law_21 : decode cL_law 21 = .ok (.istore 4, 2) := by decide +kernel
theorem dL_law_23 : decode cL_law 23 = .ok (.iload 4, 2) := by decide +kernel
theorem dL_law_25 : decode cL_law 25 = .ok (.aload_n 0, 1) := by decide +kernel
theorem dL_law_26 : decode cL_law 26 = .ok (.arraylength, 1) := by decide +kernel
theorem dL_law_27 : decode cL_law 27 = .ok (.bipush 9, 2) := by decide +kernel
theorem dL_law_29 : decode cL_law 29 = .ok (.isub, 1) := by decide +kernel
theorem dL_law_30 : decode cL_law 30 = .ok (.if_icmp .gt 1567, 3) := by decide +kernel
theorem dL_law_33 : decode cL_law 33 = .ok (.aload_n 0, 1) := by decide +kernel
theorem dL_law_34 : decode cL_law 34 = .ok (.iload 4, 2) := by decide +kernel
theorem dL_law_36 : decode cL_law 36 = .ok (.iaload, 1) := by decide +kernel
theorem dL_law_37 : decode cL_law 37 = .ok (.bipush 63, 2) := by decide +kernel
theorem dL_law_39 : decode cL_law 39 = .ok (.iand, 1) := by decide +kernel
theorem dL_law_40 : decode cL_law 40 = .ok (.tableswitch 1551 0 32 #[148, 197, 210, 259, 308, 357, 418, 455, 492, 565, 590, 603, 616, 653, 799, 824, 861, 886, 923, 972, 1009, 1034, 1096, 1145, 1182, 1219, 1256, 1305, 1366, 1427, 1476, 1513, 1526], 148) := by decide +kernel
theorem dL_law_188 : decode cL_law 188 = .ok (.aload_n 1, 1) := by decide +kernel
theorem dL_law_189 : decode cL_law 189 = .ok (.aload_n 0, 1) := by decide +kernel
theorem dL_law_190 : decode cL_law 190 = .ok (.iload 4, 2) := by decide +kernel
theorem dL_law_192 : decode cL_law 192 = .ok (.iconst 1, 1) := by decide +kernel
theorem dL_law_193 : decode cL_law 193 = .ok (.iadd, 1) := by decide +kernel
theorem dL_law_194 : decode cL_law 194 = .ok (.iaload, 1) := by decide +kernel
theorem dL_law_195 : decode cL_law 195 = .ok (.aload_n 0, 1) := by decide +kernel
theorem dL_law_196 : decode cL_law 196 = .ok (.iload 4, 2) := by decide +kernel
theorem dL_law_198 : decode cL_law 198 = .ok (.iconst 2, 1) := by decide +kernel
theorem dL_law_199 : decode cL_law 199 = .ok (.iadd, 1) := by decide +kernel
theorem dL_law_200 : decode cL_law 200 = .ok (.iaload, 1) := by decide +kernel
theorem dL_law_201 : decode cL_law 201 = .ok (.aload_n 0, 1) := by decide +kernel
theorem dL_law_202 : decode cL_law 202 = .ok (.iload 4, 2) := by decide +kernel
theorem dL_law_204 : decode cL_law 204 = .ok (.iconst 3, 1) := by decide +kernel
theorem dL_law_205 : decode cL_law 205 = .ok (.iadd, 1) := by decide +kernel
theorem dL_law_206 : decode cL_law 206 = .ok (.iaload, 1) := by decide +kernel
theorem dL_law_207 : decode cL_law 207 = .ok (.invokevirtual 19, 3) := by decide +kernel
theorem dL_law_210 : decode cL_law 210 = .ok (.aload_n 2, 1) := by decide +kernel
theorem dL_law_211 : decode cL_law 211 = .ok (.aload_n 0, 1) := by decide +kernel
theorem dL_law_212 : decode cL_law 212 = .ok (.iload 4, 2) := by decide +kernel
theorem dL_law_214 : decode cL_law 214 = .ok (.iconst 1, 1) := by decide +kernel
theorem dL_law_215 : decode cL_law 215 = .ok (.iadd, 1) := by decide +kernel
theorem dL_law_216 : decode cL_law 216 = .ok (.iaload, 1) := by decide +kernel
theorem dL_law_217 : decode cL_law 217 = .ok (.aload_n 0, 1) := by decide +kernel
theorem dL_law_218 : decode cL_law 218 = .ok (.iload 4, 2) := by decide +kernel
theorem dL_law_220 : decode cL_law 220 = .ok (.iconst 2, 1) := by decide +kernel
theorem dL_law_221 : decode cL_law 221 = .ok (.iadd, 1) := by decide +kernel
theorem dL_law_222 : decode cL_law 222 = .ok (.iaload, 1) := by decide +kernel
theorem dL_law_223 : decode cL_law 223 = .ok (.aload_n 0, 1) := by decide +kernel
theorem dL_law_224 : decode cL_law 224 = .ok (.iload 4, 2) := by decide +kernel
theorem dL_law_226 : decode cL_law 226 = .ok (.iconst 3, 1) := by decide +kernel
theorem dL_law_227 : decode cL_law 227 = .ok (.iadd, 1) := by decide +kernel
theorem dL_law_228 : decode cL_law 228 = .ok (.iaload, 1) := by decide +kernel
theorem dL_law_229 : decode cL_law 229 = .ok (.invokevirtual 23, 3) := by decide +kernel
theorem dL_law_232 : decode cL_law 232 = .ok (.if_icmp .eq 1359, 3) := by decide +kernel
theorem dL_law_235 : decode cL_law 235 = .ok (.iconst 0, 1) := by decide +kernel
theorem dL_law_236 : decode cL_law 236 = .ok (.ireturn, 1) := by decide +kernel
theorem dL_law_237 : decode cL_law 237 = .ok (.aload_n 1, 1) := by decide +kernel
theorem dL_law_238 : decode cL_law 238 = .ok (.invokevirtual 24, 3) := by decide +kernel
theorem dL_law_241 : decode cL_law 241 = .ok (.aload_n 2, 1) := by decide +kernel
theorem dL_law_242 : decode cL_law 242 = .ok (.invokevirtual 28, 3) := by decide +kernel
theorem dL_law_245 : decode cL_law 245 = .ok (.if_icmp .eq 1346, 3) := by decide +kernel
theorem dL_law_248 : decode cL_law 248 = .ok (.iconst 0, 1) := by decide +kernel
theorem dL_law_249 : decode cL_law 249 = .ok (.ireturn, 1) := by decide +kernel
theorem dL_law_250 : decode cL_law 250 = .ok (.aload_n 1, 1) := by decide +kernel
theorem dL_law_251 : decode cL_law 251 = .ok (.aload_n 0, 1) := by decide +kernel
theorem dL_law_252 : decode cL_law 252 = .ok (.iload 4, 2) := by decide +kernel
theorem dL_law_254 : decode cL_law 254 = .ok (.iconst 1, 1) := by decide +kernel
theorem dL_law_255 : decode cL_law 255 = .ok (.iadd, 1) := by decide +kernel
theorem dL_law_256 : decode cL_law 256 = .ok (.iaload, 1) := by decide +kernel
theorem dL_law_257 : decode cL_law 257 = .ok (.aload_n 0, 1) := by decide +kernel
theorem dL_law_258 : decode cL_law 258 = .ok (.iload 4, 2) := by decide +kernel
theorem dL_law_260 : decode cL_law 260 = .ok (.iconst 2, 1) := by decide +kernel
theorem dL_law_261 : decode cL_law 261 = .ok (.iadd, 1) := by decide +kernel
theorem dL_law_262 : decode cL_law 262 = .ok (.iaload, 1) := by decide +kernel
theorem dL_law_263 : decode cL_law 263 = .ok (.aload_n 0, 1) := by decide +kernel
theorem dL_law_264 : decode cL_law 264 = .ok (.iload 4, 2) := by decide +kernel
theorem dL_law_266 : decode cL_law 266 = .ok (.iconst 3, 1) := by decide +kernel
theorem dL_law_267 : decode cL_law 267 = .ok (.iadd, 1) := by decide +kernel
theorem dL_law_268 : decode cL_law 268 = .ok (.iaload, 1) := by decide +kernel
theorem dL_law_269 : decode cL_law 269 = .ok (.invokevirtual 29, 3) := by decide +kernel
theorem dL_law_272 : decode cL_law 272 = .ok (.aload_n 2, 1) := by decide +kernel
theorem dL_law_273 : decode cL_law 273 = .ok (.aload_n 0, 1) := by decide +kernel
theorem dL_law_274 : decode cL_law 274 = .ok (.iload 4, 2) := by decide +kernel
theorem dL_law_276 : decode cL_law 276 = .ok (.iconst 1, 1) := by decide +kernel
theorem dL_law_277 : decode cL_law 277 = .ok (.iadd, 1) := by decide +kernel
theorem dL_law_278 : decode cL_law 278 = .ok (.iaload, 1) := by decide +kernel
theorem dL_law_279 : decode cL_law 279 = .ok (.aload_n 0, 1) := by decide +kernel
theorem dL_law_280 : decode cL_law 280 = .ok (.iload 4, 2) := by decide +kernel
theorem dL_law_282 : decode cL_law 282 = .ok (.iconst 2, 1) := by decide +kernel
theorem dL_law_283 : decode cL_law 283 = .ok (.iadd, 1) := by decide +kernel
theorem dL_law_284 : decode cL_law 284 = .ok (.iaload, 1) := by decide +kernel
theorem dL_law_285 : decode cL_law 285 = .ok (.aload_n 0, 1) := by decide +kernel
theorem dL_law_286 : decode cL_law 286 = .ok (.iload 4, 2) := by decide +kernel
theorem dL_law_288 : decode cL_law 288 = .ok (.iconst 3, 1) := by decide +kernel
theorem dL_law_289 : decode cL_law 289 = .ok (.iadd, 1) := by decide +kernel
theorem dL_law_290 : decode cL_law 290 = .ok (.iaload, 1) := by decide +kernel
theorem dL_law_291 : decode cL_law 291 = .ok (.invokevirtual 33, 3) := by decide +kernel
theorem dL_law_294 : decode cL_law 294 = .ok (.if_icmp .eq 1297, 3) := by decide +kernel
theorem dL_law_297 : decode cL_law 297 = .ok (.iconst 0, 1) := by decide +kernel
theorem dL_law_298 : decode cL_law 298 = .ok (.ireturn, 1) := by decide +kernel
theorem dL_law_299 : decode cL_law 299 = .ok (.aload_n 1, 1) := by decide +kernel
theorem dL_law_300 : decode cL_law 300 = .ok (.aload_n 0, 1) := by decide +kernel
theorem dL_law_301 : decode cL_law 301 = .ok (.iload 4, 2) := by decide +kernel
theorem dL_law_303 : decode cL_law 303 = .ok (.iconst 1, 1) := by decide +kernel
theorem dL_law_304 : decode cL_law 304 = .ok (.iadd, 1) := by decide +kernel
theorem dL_law_305 : decode cL_law 305 = .ok (.iaload, 1) := by decide +kernel
theorem dL_law_306 : decode cL_law 306 = .ok (.aload_n 0, 1) := by decide +kernel
theorem dL_law_307 : decode cL_law 307 = .ok (.iload 4, 2) := by decide +kernel
theorem dL_law_309 : decode cL_law 309 = .ok (.iconst 2, 1) := by decide +kernel
theorem dL_law_310 : decode cL_law 310 = .ok (.iadd, 1) := by decide +kernel
theorem dL_law_311 : decode cL_law 311 = .ok (.iaload, 1) := by decide +kernel
theorem dL_law_312 : decode cL_law 312 = .ok (.aload_n 0, 1) := by decide +kernel
theorem dL_law_313 : decode cL_law 313 = .ok (.iload 4, 2) := by decide +kernel
theorem dL_law_315 : decode cL_law 315 = .ok (.iconst 3, 1) := by decide +kernel
theorem dL_law_316 : decode cL_law 316 = .ok (.iadd, 1) := by decide +kernel
theorem dL_law_317 : decode cL_law 317 = .ok (.iaload, 1) := by decide +kernel
theorem dL_law_318 : decode cL_law 318 = .ok (.invokevirtual 34, 3) := by decide +kernel
theorem dL_law_321 : decode cL_law 321 = .ok (.aload_n 2, 1) := by decide +kernel
theorem dL_law_322 : decode cL_law 322 = .ok (.aload_n 0, 1) := by decide +kernel
theorem dL_law_323 : decode cL_law 323 = .ok (.iload 4, 2) := by decide +kernel
theorem dL_law_325 : decode cL_law 325 = .ok (.iconst 1, 1) := by decide +kernel
theorem dL_law_326 : decode cL_law 326 = .ok (.iadd, 1) := by decide +kernel
theorem dL_law_327 : decode cL_law 327 = .ok (.iaload, 1) := by decide +kernel
theorem dL_law_328 : decode cL_law 328 = .ok (.aload_n 0, 1) := by decide +kernel
theorem dL_law_329 : decode cL_law 329 = .ok (.iload 4, 2) := by decide +kernel
theorem dL_law_331 : decode cL_law 331 = .ok (.iconst 2, 1) := by decide +kernel
theorem dL_law_332 : decode cL_law 332 = .ok (.iadd, 1) := by decide +kernel
theorem dL_law_333 : decode cL_law 333 = .ok (.iaload, 1) := by decide +kernel
theorem dL_law_334 : decode cL_law 334 = .ok (.aload_n 0, 1) := by decide +kernel
theorem dL_law_335 : decode cL_law 335 = .ok (.iload 4, 2) := by decide +kernel
theorem dL_law_337 : decode cL_law 337 = .ok (.iconst 3, 1) := by decide +kernel
theorem dL_law_338 : decode cL_law 338 = .ok (.iadd, 1) := by decide +kernel
theorem dL_law_339 : decode cL_law 339 = .ok (.iaload, 1) := by decide +kernel
theorem dL_law_340 : decode cL_law 340 = .ok (.invokevirtual 37, 3) := by decide +kernel
theorem dL_law_343 : decode cL_law 343 = .ok (.if_icmp .eq 1248, 3) := by decide +kernel
theorem dL_law_346 : decode cL_law 346 = .ok (.iconst 0, 1) := by decide +kernel
theorem dL_law_347 : decode cL_law 347 = .ok (.ireturn, 1) := by decide +kernel
theorem dL_law_348 : decode cL_law 348 = .ok (.aload_n 1, 1) := by decide +kernel
theorem dL_law_349 : decode cL_law 349 = .ok (.aload_n 0, 1) := by decide +kernel
theorem dL_law_350 : decode cL_law 350 = .ok (.iload 4, 2) := by decide +kernel
theorem dL_law_352 : decode cL_law 352 = .ok (.iconst 1, 1) := by decide +kernel
theorem dL_law_353 : decode cL_law 353 = .ok (.iadd, 1) := by decide +kernel
theorem dL_law_354 : decode cL_law 354 = .ok (.iaload, 1) := by decide +kernel
theorem dL_law_355 : decode cL_law 355 = .ok (.aload_n 0, 1) := by decide +kernel
theorem dL_law_356 : decode cL_law 356 = .ok (.iload 4, 2) := by decide +kernel
theorem dL_law_358 : decode cL_law 358 = .ok (.iconst 2, 1) := by decide +kernel
theorem dL_law_359 : decode cL_law 359 = .ok (.iadd, 1) := by decide +kernel
theorem dL_law_360 : decode cL_law 360 = .ok (.iaload, 1) := by decide +kernel
theorem dL_law_361 : decode cL_law 361 = .ok (.aload_n 0, 1) := by decide +kernel
theorem dL_law_362 : decode cL_law 362 = .ok (.iload 4, 2) := by decide +kernel
theorem dL_law_364 : decode cL_law 364 = .ok (.iconst 3, 1) := by decide +kernel
theorem dL_law_365 : decode cL_law 365 = .ok (.iadd, 1) := by decide +kernel
theorem dL_law_366 : decode cL_law 366 = .ok (.iaload, 1) := by decide +kernel
theorem dL_law_367 : decode cL_law 367 = .ok (.invokevirtual 38, 3) := by decide +kernel
theorem dL_law_370 : decode cL_law 370 = .ok (.aload_n 2, 1) := by decide +kernel
theorem dL_law_371 : decode cL_law 371 = .ok (.aload_n 0, 1) := by decide +kernel
theorem dL_law_372 : decode cL_law 372 = .ok (.iload 4, 2) := by decide +kernel
theorem dL_law_374 : decode cL_law 374 = .ok (.iconst 1, 1) := by decide +kernel
theorem dL_law_375 : decode cL_law 375 = .ok (.iadd, 1) := by decide +kernel
theorem dL_law_376 : decode cL_law 376 = .ok (.iaload, 1) := by decide +kernel
theorem dL_law_377 : decode cL_law 377 = .ok (.aload_n 0, 1) := by decide +kernel
theorem dL_law_378 : decode cL_law 378 = .ok (.iload 4, 2) := by decide +kernel
theorem dL_law_380 : decode cL_law 380 = .ok (.iconst 2, 1) := by decide +kernel
theorem dL_law_381 : decode cL_law 381 = .ok (.iadd, 1) := by decide +kernel
theorem dL_law_382 : decode cL_law 382 = .ok (.iaload, 1) := by decide +kernel
theorem dL_law_383 : decode cL_law 383 = .ok (.aload_n 0, 1) := by decide +kernel
theorem dL_law_384 : decode cL_law 384 = .ok (.iload 4, 2) := by decide +kernel
theorem dL_law_386 : decode cL_law 386 = .ok (.iconst 3, 1) := by decide +kernel
theorem dL_law_387 : decode cL_law 387 = .ok (.iadd, 1) := by decide +kernel
theorem dL_law_388 : decode cL_law 388 = .ok (.iaload, 1) := by decide +kernel
theorem dL_law_389 : decode cL_law 389 = .ok (.invokevirtual 41, 3) := by decide +kernel
theorem dL_law_392 : decode cL_law 392 = .ok (.if_icmp .eq 1199, 3) := by decide +kernel
theorem dL_law_395 : decode cL_law 395 = .ok (.iconst 0, 1) := by decide +kernel
theorem dL_law_396 : decode cL_law 396 = .ok (.ireturn, 1) := by decide +kernel
theorem dL_law_397 : decode cL_law 397 = .ok (.aload_n 1, 1) := by decide +kernel
theorem dL_law_398 : decode cL_law 398 = .ok (.aload_n 0, 1) := by decide +kernel
theorem dL_law_399 : decode cL_law 399 = .ok (.iload 4, 2) := by decide +kernel
theorem dL_law_401 : decode cL_law 401 = .ok (.iconst 1, 1) := by decide +kernel
theorem dL_law_402 : decode cL_law 402 = .ok (.iadd, 1) := by decide +kernel
theorem dL_law_403 : decode cL_law 403 = .ok (.iaload, 1) := by decide +kernel
theorem dL_law_404 : decode cL_law 404 = .ok (.aload_n 0, 1) := by decide +kernel
theorem dL_law_405 : decode cL_law 405 = .ok (.iload 4, 2) := by decide +kernel
theorem dL_law_407 : decode cL_law 407 = .ok (.iconst 2, 1) := by decide +kernel
theorem dL_law_408 : decode cL_law 408 = .ok (.iadd, 1) := by decide +kernel
theorem dL_law_409 : decode cL_law 409 = .ok (.iaload, 1) := by decide +kernel
theorem dL_law_410 : decode cL_law 410 = .ok (.aload_n 0, 1) := by decide +kernel
theorem dL_law_411 : decode cL_law 411 = .ok (.iload 4, 2) := by decide +kernel
theorem dL_law_413 : decode cL_law 413 = .ok (.iconst 3, 1) := by decide +kernel
theorem dL_law_414 : decode cL_law 414 = .ok (.iadd, 1) := by decide +kernel
theorem dL_law_415 : decode cL_law 415 = .ok (.iaload, 1) := by decide +kernel
theorem dL_law_416 : decode cL_law 416 = .ok (.aload_n 0, 1) := by decide +kernel
theorem dL_law_417 : decode cL_law 417 = .ok (.iload 4, 2) := by decide +kernel
theorem dL_law_419 : decode cL_law 419 = .ok (.iconst 4, 1) := by decide +kernel
theorem dL_law_420 : decode cL_law 420 = .ok (.iadd, 1) := by decide +kernel
theorem dL_law_421 : decode cL_law 421 = .ok (.iaload, 1) := by decide +kernel
theorem dL_law_422 : decode cL_law 422 = .ok (.invokevirtual 42, 3) := by decide +kernel
theorem dL_law_425 : decode cL_law 425 = .ok (.aload_n 2, 1) := by decide +kernel
theorem dL_law_426 : decode cL_law 426 = .ok (.aload_n 0, 1) := by decide +kernel
theorem dL_law_427 : decode cL_law 427 = .ok (.iload 4, 2) := by decide +kernel
theorem dL_law_429 : decode cL_law 429 = .ok (.iconst 1, 1) := by decide +kernel
theorem dL_law_430 : decode cL_law 430 = .ok (.iadd, 1) := by decide +kernel
theorem dL_law_431 : decode cL_law 431 = .ok (.iaload, 1) := by decide +kernel
theorem dL_law_432 : decode cL_law 432 = .ok (.aload_n 0, 1) := by decide +kernel
theorem dL_law_433 : decode cL_law 433 = .ok (.iload 4, 2) := by decide +kernel
theorem dL_law_435 : decode cL_law 435 = .ok (.iconst 2, 1) := by decide +kernel
theorem dL_law_436 : decode cL_law 436 = .ok (.iadd, 1) := by decide +kernel
theorem dL_law_437 : decode cL_law 437 = .ok (.iaload, 1) := by decide +kernel
theorem dL_law_438 : decode cL_law 438 = .ok (.aload_n 0, 1) := by decide +kernel
theorem dL_law_439 : decode cL_law 439 = .ok (.iload 4, 2) := by decide +kernel
theorem dL_law_441 : decode cL_law 441 = .ok (.iconst 3, 1) := by decide +kernel
theorem dL_law_442 : decode cL_law 442 = .ok (.iadd, 1) := by decide +kernel
theorem dL_law_443 : decode cL_law 443 = .ok (.iaload, 1) := by decide +kernel
theorem dL_law_444 : decode cL_law 444 = .ok (.aload_n 0, 1) := by decide +kernel
theorem dL_law_445 : decode cL_law 445 = .ok (.iload 4, 2) := by decide +kernel
theorem dL_law_447 : decode cL_law 447 = .ok (.iconst 4, 1) := by decide +kernel
theorem dL_law_448 : decode cL_law 448 = .ok (.iadd, 1) := by decide +kernel
theorem dL_law_449 : decode cL_law 449 = .ok (.iaload, 1) := by decide +kernel
theorem dL_law_450 : decode cL_law 450 = .ok (.invokevirtual 46, 3) := by decide +kernel
theorem dL_law_453 : decode cL_law 453 = .ok (.if_icmp .eq 1138, 3) := by decide +kernel
theorem dL_law_456 : decode cL_law 456 = .ok (.iconst 0, 1) := by decide +kernel
theorem dL_law_457 : decode cL_law 457 = .ok (.ireturn, 1) := by decide +kernel
theorem dL_law_458 : decode cL_law 458 = .ok (.aload_n 1, 1) := by decide +kernel
theorem dL_law_459 : decode cL_law 459 = .ok (.aload_n 0, 1) := by decide +kernel
theorem dL_law_460 : decode cL_law 460 = .ok (.iload 4, 2) := by decide +kernel
theorem dL_law_462 : decode cL_law 462 = .ok (.iconst 1, 1) := by decide +kernel
theorem dL_law_463 : decode cL_law 463 = .ok (.iadd, 1) := by decide +kernel
theorem dL_law_464 : decode cL_law 464 = .ok (.iaload, 1) := by decide +kernel
theorem dL_law_465 : decode cL_law 465 = .ok (.aload_n 0, 1) := by decide +kernel
theorem dL_law_466 : decode cL_law 466 = .ok (.iload 4, 2) := by decide +kernel
theorem dL_law_468 : decode cL_law 468 = .ok (.iconst 2, 1) := by decide +kernel
theorem dL_law_469 : decode cL_law 469 = .ok (.iadd, 1) := by decide +kernel
theorem dL_law_470 : decode cL_law 470 = .ok (.iaload, 1) := by decide +kernel
theorem dL_law_471 : decode cL_law 471 = .ok (.invokevirtual 47, 3) := by decide +kernel
theorem dL_law_474 : decode cL_law 474 = .ok (.aload_n 2, 1) := by decide +kernel
theorem dL_law_475 : decode cL_law 475 = .ok (.aload_n 0, 1) := by decide +kernel
theorem dL_law_476 : decode cL_law 476 = .ok (.iload 4, 2) := by decide +kernel
theorem dL_law_478 : decode cL_law 478 = .ok (.iconst 1, 1) := by decide +kernel
theorem dL_law_479 : decode cL_law 479 = .ok (.iadd, 1) := by decide +kernel
theorem dL_law_480 : decode cL_law 480 = .ok (.iaload, 1) := by decide +kernel
theorem dL_law_481 : decode cL_law 481 = .ok (.aload_n 0, 1) := by decide +kernel
theorem dL_law_482 : decode cL_law 482 = .ok (.iload 4, 2) := by decide +kernel
theorem dL_law_484 : decode cL_law 484 = .ok (.iconst 2, 1) := by decide +kernel
theorem dL_law_485 : decode cL_law 485 = .ok (.iadd, 1) := by decide +kernel
theorem dL_law_486 : decode cL_law 486 = .ok (.iaload, 1) := by decide +kernel
theorem dL_law_487 : decode cL_law 487 = .ok (.invokevirtual 51, 3) := by decide +kernel
theorem dL_law_490 : decode cL_law 490 = .ok (.if_icmp .eq 1101, 3) := by decide +kernel
theorem dL_law_493 : decode cL_law 493 = .ok (.iconst 0, 1) := by decide +kernel
theorem dL_law_494 : decode cL_law 494 = .ok (.ireturn, 1) := by decide +kernel
theorem dL_law_495 : decode cL_law 495 = .ok (.aload_n 1, 1) := by decide +kernel
theorem dL_law_496 : decode cL_law 496 = .ok (.aload_n 0, 1) := by decide +kernel
theorem dL_law_497 : decode cL_law 497 = .ok (.iload 4, 2) := by decide +kernel
theorem dL_law_499 : decode cL_law 499 = .ok (.iconst 1, 1) := by decide +kernel
theorem dL_law_500 : decode cL_law 500 = .ok (.iadd, 1) := by decide +kernel
theorem dL_law_501 : decode cL_law 501 = .ok (.iaload, 1) := by decide +kernel
theorem dL_law_502 : decode cL_law 502 = .ok (.aload_n 0, 1) := by decide +kernel
theorem dL_law_503 : decode cL_law 503 = .ok (.iload 4, 2) := by decide +kernel
theorem dL_law_505 : decode cL_law 505 = .ok (.iconst 2, 1) := by decide +kernel
theorem dL_law_506 : decode cL_law 506 = .ok (.iadd, 1) := by decide +kernel
theorem dL_law_507 : decode cL_law 507 = .ok (.iaload, 1) := by decide +kernel
theorem dL_law_508 : decode cL_law 508 = .ok (.invokevirtual 52, 3) := by decide +kernel
theorem dL_law_511 : decode cL_law 511 = .ok (.aload_n 2, 1) := by decide +kernel
theorem dL_law_512 : decode cL_law 512 = .ok (.aload_n 0, 1) := by decide +kernel
theorem dL_law_513 : decode cL_law 513 = .ok (.iload 4, 2) := by decide +kernel
theorem dL_law_515 : decode cL_law 515 = .ok (.iconst 1, 1) := by decide +kernel
theorem dL_law_516 : decode cL_law 516 = .ok (.iadd, 1) := by decide +kernel
theorem dL_law_517 : decode cL_law 517 = .ok (.iaload, 1) := by decide +kernel
theorem dL_law_518 : decode cL_law 518 = .ok (.aload_n 0, 1) := by decide +kernel
theorem dL_law_519 : decode cL_law 519 = .ok (.iload 4, 2) := by decide +kernel
theorem dL_law_521 : decode cL_law 521 = .ok (.iconst 2, 1) := by decide +kernel
theorem dL_law_522 : decode cL_law 522 = .ok (.iadd, 1) := by decide +kernel
theorem dL_law_523 : decode cL_law 523 = .ok (.iaload, 1) := by decide +kernel
theorem dL_law_524 : decode cL_law 524 = .ok (.invokevirtual 55, 3) := by decide +kernel
theorem dL_law_527 : decode cL_law 527 = .ok (.if_icmp .eq 1064, 3) := by decide +kernel
theorem dL_law_530 : decode cL_law 530 = .ok (.iconst 0, 1) := by decide +kernel
theorem dL_law_531 : decode cL_law 531 = .ok (.ireturn, 1) := by decide +kernel
theorem dL_law_532 : decode cL_law 532 = .ok (.aload_n 1, 1) := by decide +kernel
theorem dL_law_533 : decode cL_law 533 = .ok (.aload_n 0, 1) := by decide +kernel
theorem dL_law_534 : decode cL_law 534 = .ok (.iload 4, 2) := by decide +kernel
theorem dL_law_536 : decode cL_law 536 = .ok (.iconst 1, 1) := by decide +kernel
theorem dL_law_537 : decode cL_law 537 = .ok (.iadd, 1) := by decide +kernel
theorem dL_law_538 : decode cL_law 538 = .ok (.iaload, 1) := by decide +kernel
theorem dL_law_539 : decode cL_law 539 = .ok (.aload_n 0, 1) := by decide +kernel
theorem dL_law_540 : decode cL_law 540 = .ok (.iload 4, 2) := by decide +kernel
theorem dL_law_542 : decode cL_law 542 = .ok (.iconst 2, 1) := by decide +kernel
theorem dL_law_543 : decode cL_law 543 = .ok (.iadd, 1) := by decide +kernel
theorem dL_law_544 : decode cL_law 544 = .ok (.iaload, 1) := by decide +kernel
theorem dL_law_545 : decode cL_law 545 = .ok (.aload_n 0, 1) := by decide +kernel
theorem dL_law_546 : decode cL_law 546 = .ok (.iload 4, 2) := by decide +kernel
theorem dL_law_548 : decode cL_law 548 = .ok (.iconst 3, 1) := by decide +kernel
theorem dL_law_549 : decode cL_law 549 = .ok (.iadd, 1) := by decide +kernel
theorem dL_law_550 : decode cL_law 550 = .ok (.iaload, 1) := by decide +kernel
theorem dL_law_551 : decode cL_law 551 = .ok (.aload_n 0, 1) := by decide +kernel
theorem dL_law_552 : decode cL_law 552 = .ok (.iload 4, 2) := by decide +kernel
theorem dL_law_554 : decode cL_law 554 = .ok (.iconst 4, 1) := by decide +kernel
theorem dL_law_555 : decode cL_law 555 = .ok (.iadd, 1) := by decide +kernel
theorem dL_law_556 : decode cL_law 556 = .ok (.iaload, 1) := by decide +kernel
theorem dL_law_557 : decode cL_law 557 = .ok (.aload_n 0, 1) := by decide +kernel
theorem dL_law_558 : decode cL_law 558 = .ok (.iload 4, 2) := by decide +kernel
theorem dL_law_560 : decode cL_law 560 = .ok (.iconst 5, 1) := by decide +kernel
theorem dL_law_561 : decode cL_law 561 = .ok (.iadd, 1) := by decide +kernel
theorem dL_law_562 : decode cL_law 562 = .ok (.iaload, 1) := by decide +kernel
theorem dL_law_563 : decode cL_law 563 = .ok (.invokevirtual 56, 3) := by decide +kernel
theorem dL_law_566 : decode cL_law 566 = .ok (.aload_n 2, 1) := by decide +kernel
theorem dL_law_567 : decode cL_law 567 = .ok (.aload_n 0, 1) := by decide +kernel
theorem dL_law_568 : decode cL_law 568 = .ok (.iload 4, 2) := by decide +kernel
theorem dL_law_570 : decode cL_law 570 = .ok (.iconst 1, 1) := by decide +kernel
theorem dL_law_571 : decode cL_law 571 = .ok (.iadd, 1) := by decide +kernel
theorem dL_law_572 : decode cL_law 572 = .ok (.iaload, 1) := by decide +kernel
theorem dL_law_573 : decode cL_law 573 = .ok (.aload_n 0, 1) := by decide +kernel
theorem dL_law_574 : decode cL_law 574 = .ok (.iload 4, 2) := by decide +kernel
theorem dL_law_576 : decode cL_law 576 = .ok (.iconst 2, 1) := by decide +kernel
theorem dL_law_577 : decode cL_law 577 = .ok (.iadd, 1) := by decide +kernel
theorem dL_law_578 : decode cL_law 578 = .ok (.iaload, 1) := by decide +kernel
theorem dL_law_579 : decode cL_law 579 = .ok (.aload_n 0, 1) := by decide +kernel
theorem dL_law_580 : decode cL_law 580 = .ok (.iload 4, 2) := by decide +kernel
theorem dL_law_582 : decode cL_law 582 = .ok (.iconst 3, 1) := by decide +kernel
theorem dL_law_583 : decode cL_law 583 = .ok (.iadd, 1) := by decide +kernel
theorem dL_law_584 : decode cL_law 584 = .ok (.iaload, 1) := by decide +kernel
theorem dL_law_585 : decode cL_law 585 = .ok (.aload_n 0, 1) := by decide +kernel
theorem dL_law_586 : decode cL_law 586 = .ok (.iload 4, 2) := by decide +kernel
theorem dL_law_588 : decode cL_law 588 = .ok (.iconst 4, 1) := by decide +kernel
theorem dL_law_589 : decode cL_law 589 = .ok (.iadd, 1) := by decide +kernel
theorem dL_law_590 : decode cL_law 590 = .ok (.iaload, 1) := by decide +kernel
theorem dL_law_591 : decode cL_law 591 = .ok (.aload_n 0, 1) := by decide +kernel
theorem dL_law_592 : decode cL_law 592 = .ok (.iload 4, 2) := by decide +kernel
theorem dL_law_594 : decode cL_law 594 = .ok (.iconst 5, 1) := by decide +kernel
theorem dL_law_595 : decode cL_law 595 = .ok (.iadd, 1) := by decide +kernel
theorem dL_law_596 : decode cL_law 596 = .ok (.iaload, 1) := by decide +kernel
theorem dL_law_597 : decode cL_law 597 = .ok (.invokevirtual 60, 3) := by decide +kernel
theorem dL_law_600 : decode cL_law 600 = .ok (.if_icmp .eq 991, 3) := by decide +kernel
theorem dL_law_603 : decode cL_law 603 = .ok (.iconst 0, 1) := by decide +kernel
theorem dL_law_604 : decode cL_law 604 = .ok (.ireturn, 1) := by decide +kernel
theorem dL_law_605 : decode cL_law 605 = .ok (.aload_n 1, 1) := by decide +kernel
theorem dL_law_606 : decode cL_law 606 = .ok (.aload_n 0, 1) := by decide +kernel
theorem dL_law_607 : decode cL_law 607 = .ok (.iload 4, 2) := by decide +kernel
theorem dL_law_609 : decode cL_law 609 = .ok (.iconst 1, 1) := by decide +kernel
theorem dL_law_610 : decode cL_law 610 = .ok (.iadd, 1) := by decide +kernel
theorem dL_law_611 : decode cL_law 611 = .ok (.iaload, 1) := by decide +kernel
theorem dL_law_612 : decode cL_law 612 = .ok (.invokevirtual 61, 3) := by decide +kernel
theorem dL_law_615 : decode cL_law 615 = .ok (.aload_n 2, 1) := by decide +kernel
theorem dL_law_616 : decode cL_law 616 = .ok (.aload_n 0, 1) := by decide +kernel
theorem dL_law_617 : decode cL_law 617 = .ok (.iload 4, 2) := by decide +kernel
theorem dL_law_619 : decode cL_law 619 = .ok (.iconst 1, 1) := by decide +kernel
theorem dL_law_620 : decode cL_law 620 = .ok (.iadd, 1) := by decide +kernel
theorem dL_law_621 : decode cL_law 621 = .ok (.iaload, 1) := by decide +kernel
theorem dL_law_622 : decode cL_law 622 = .ok (.invokevirtual 65, 3) := by decide +kernel
theorem dL_law_625 : decode cL_law 625 = .ok (.if_icmp .eq 966, 3) := by decide +kernel
theorem dL_law_628 : decode cL_law 628 = .ok (.iconst 0, 1) := by decide +kernel
theorem dL_law_629 : decode cL_law 629 = .ok (.ireturn, 1) := by decide +kernel
theorem dL_law_630 : decode cL_law 630 = .ok (.aload_n 1, 1) := by decide +kernel
theorem dL_law_631 : decode cL_law 631 = .ok (.invokevirtual 66, 3) := by decide +kernel
theorem dL_law_634 : decode cL_law 634 = .ok (.aload_n 2, 1) := by decide +kernel
theorem dL_law_635 : decode cL_law 635 = .ok (.invokevirtual 69, 3) := by decide +kernel
theorem dL_law_638 : decode cL_law 638 = .ok (.if_icmp .eq 953, 3) := by decide +kernel
theorem dL_law_641 : decode cL_law 641 = .ok (.iconst 0, 1) := by decide +kernel
theorem dL_law_642 : decode cL_law 642 = .ok (.ireturn, 1) := by decide +kernel
theorem dL_law_643 : decode cL_law 643 = .ok (.aload_n 1, 1) := by decide +kernel
theorem dL_law_644 : decode cL_law 644 = .ok (.invokevirtual 70, 3) := by decide +kernel
theorem dL_law_647 : decode cL_law 647 = .ok (.aload_n 2, 1) := by decide +kernel
theorem dL_law_648 : decode cL_law 648 = .ok (.invokevirtual 73, 3) := by decide +kernel
theorem dL_law_651 : decode cL_law 651 = .ok (.if_icmp .eq 940, 3) := by decide +kernel
theorem dL_law_654 : decode cL_law 654 = .ok (.iconst 0, 1) := by decide +kernel
theorem dL_law_655 : decode cL_law 655 = .ok (.ireturn, 1) := by decide +kernel
theorem dL_law_656 : decode cL_law 656 = .ok (.aload_n 1, 1) := by decide +kernel
theorem dL_law_657 : decode cL_law 657 = .ok (.aload_n 0, 1) := by decide +kernel
theorem dL_law_658 : decode cL_law 658 = .ok (.iload 4, 2) := by decide +kernel
theorem dL_law_660 : decode cL_law 660 = .ok (.iconst 1, 1) := by decide +kernel
theorem dL_law_661 : decode cL_law 661 = .ok (.iadd, 1) := by decide +kernel
theorem dL_law_662 : decode cL_law 662 = .ok (.iaload, 1) := by decide +kernel
theorem dL_law_663 : decode cL_law 663 = .ok (.aload_n 0, 1) := by decide +kernel
theorem dL_law_664 : decode cL_law 664 = .ok (.iload 4, 2) := by decide +kernel
theorem dL_law_666 : decode cL_law 666 = .ok (.iconst 2, 1) := by decide +kernel
theorem dL_law_667 : decode cL_law 667 = .ok (.iadd, 1) := by decide +kernel
theorem dL_law_668 : decode cL_law 668 = .ok (.iaload, 1) := by decide +kernel
theorem dL_law_669 : decode cL_law 669 = .ok (.invokevirtual 74, 3) := by decide +kernel
theorem dL_law_672 : decode cL_law 672 = .ok (.aload_n 2, 1) := by decide +kernel
theorem dL_law_673 : decode cL_law 673 = .ok (.aload_n 0, 1) := by decide +kernel
theorem dL_law_674 : decode cL_law 674 = .ok (.iload 4, 2) := by decide +kernel
theorem dL_law_676 : decode cL_law 676 = .ok (.iconst 1, 1) := by decide +kernel
theorem dL_law_677 : decode cL_law 677 = .ok (.iadd, 1) := by decide +kernel
theorem dL_law_678 : decode cL_law 678 = .ok (.iaload, 1) := by decide +kernel
theorem dL_law_679 : decode cL_law 679 = .ok (.aload_n 0, 1) := by decide +kernel
theorem dL_law_680 : decode cL_law 680 = .ok (.iload 4, 2) := by decide +kernel
theorem dL_law_682 : decode cL_law 682 = .ok (.iconst 2, 1) := by decide +kernel
theorem dL_law_683 : decode cL_law 683 = .ok (.iadd, 1) := by decide +kernel
theorem dL_law_684 : decode cL_law 684 = .ok (.iaload, 1) := by decide +kernel
theorem dL_law_685 : decode cL_law 685 = .ok (.invokevirtual 78, 3) := by decide +kernel
theorem dL_law_688 : decode cL_law 688 = .ok (.if_icmp .eq 903, 3) := by decide +kernel
theorem dL_law_691 : decode cL_law 691 = .ok (.iconst 0, 1) := by decide +kernel
theorem dL_law_692 : decode cL_law 692 = .ok (.ireturn, 1) := by decide +kernel
theorem dL_law_693 : decode cL_law 693 = .ok (.aload_n 1, 1) := by decide +kernel
theorem dL_law_694 : decode cL_law 694 = .ok (.aload_n 0, 1) := by decide +kernel
theorem dL_law_695 : decode cL_law 695 = .ok (.iload 4, 2) := by decide +kernel
theorem dL_law_697 : decode cL_law 697 = .ok (.iconst 1, 1) := by decide +kernel
theorem dL_law_698 : decode cL_law 698 = .ok (.iadd, 1) := by decide +kernel
theorem dL_law_699 : decode cL_law 699 = .ok (.iaload, 1) := by decide +kernel
theorem dL_law_700 : decode cL_law 700 = .ok (.aload_n 0, 1) := by decide +kernel
theorem dL_law_701 : decode cL_law 701 = .ok (.iload 4, 2) := by decide +kernel
theorem dL_law_703 : decode cL_law 703 = .ok (.iconst 2, 1) := by decide +kernel
theorem dL_law_704 : decode cL_law 704 = .ok (.iadd, 1) := by decide +kernel
theorem dL_law_705 : decode cL_law 705 = .ok (.iaload, 1) := by decide +kernel
theorem dL_law_706 : decode cL_law 706 = .ok (.aload_n 0, 1) := by decide +kernel
theorem dL_law_707 : decode cL_law 707 = .ok (.iload 4, 2) := by decide +kernel
theorem dL_law_709 : decode cL_law 709 = .ok (.iconst 3, 1) := by decide +kernel
theorem dL_law_710 : decode cL_law 710 = .ok (.iadd, 1) := by decide +kernel
theorem dL_law_711 : decode cL_law 711 = .ok (.iaload, 1) := by decide +kernel
theorem dL_law_712 : decode cL_law 712 = .ok (.aload_n 0, 1) := by decide +kernel
theorem dL_law_713 : decode cL_law 713 = .ok (.iload 4, 2) := by decide +kernel
theorem dL_law_715 : decode cL_law 715 = .ok (.iconst 4, 1) := by decide +kernel
theorem dL_law_716 : decode cL_law 716 = .ok (.iadd, 1) := by decide +kernel
theorem dL_law_717 : decode cL_law 717 = .ok (.iaload, 1) := by decide +kernel
theorem dL_law_718 : decode cL_law 718 = .ok (.aload_n 0, 1) := by decide +kernel
theorem dL_law_719 : decode cL_law 719 = .ok (.iload 4, 2) := by decide +kernel
theorem dL_law_721 : decode cL_law 721 = .ok (.iconst 5, 1) := by decide +kernel
theorem dL_law_722 : decode cL_law 722 = .ok (.iadd, 1) := by decide +kernel
theorem dL_law_723 : decode cL_law 723 = .ok (.iaload, 1) := by decide +kernel
theorem dL_law_724 : decode cL_law 724 = .ok (.aload_n 0, 1) := by decide +kernel
theorem dL_law_725 : decode cL_law 725 = .ok (.iload 4, 2) := by decide +kernel
theorem dL_law_727 : decode cL_law 727 = .ok (.bipush 6, 2) := by decide +kernel
theorem dL_law_729 : decode cL_law 729 = .ok (.iadd, 1) := by decide +kernel
theorem dL_law_730 : decode cL_law 730 = .ok (.iaload, 1) := by decide +kernel
theorem dL_law_731 : decode cL_law 731 = .ok (.aload_n 0, 1) := by decide +kernel
theorem dL_law_732 : decode cL_law 732 = .ok (.iload 4, 2) := by decide +kernel
theorem dL_law_734 : decode cL_law 734 = .ok (.bipush 7, 2) := by decide +kernel
theorem dL_law_736 : decode cL_law 736 = .ok (.iadd, 1) := by decide +kernel
theorem dL_law_737 : decode cL_law 737 = .ok (.iaload, 1) := by decide +kernel
theorem dL_law_738 : decode cL_law 738 = .ok (.aload_n 0, 1) := by decide +kernel
theorem dL_law_739 : decode cL_law 739 = .ok (.iload 4, 2) := by decide +kernel
theorem dL_law_741 : decode cL_law 741 = .ok (.bipush 8, 2) := by decide +kernel
theorem dL_law_743 : decode cL_law 743 = .ok (.iadd, 1) := by decide +kernel
theorem dL_law_744 : decode cL_law 744 = .ok (.iaload, 1) := by decide +kernel
theorem dL_law_745 : decode cL_law 745 = .ok (.aload_n 3, 1) := by decide +kernel
theorem dL_law_746 : decode cL_law 746 = .ok (.invokestatic 79, 3) := by decide +kernel
theorem dL_law_749 : decode cL_law 749 = .ok (.istore 5, 2) := by decide +kernel
theorem dL_law_751 : decode cL_law 751 = .ok (.aload_n 2, 1) := by decide +kernel
theorem dL_law_752 : decode cL_law 752 = .ok (.aload_n 0, 1) := by decide +kernel
theorem dL_law_753 : decode cL_law 753 = .ok (.iload 4, 2) := by decide +kernel
theorem dL_law_755 : decode cL_law 755 = .ok (.iconst 1, 1) := by decide +kernel
theorem dL_law_756 : decode cL_law 756 = .ok (.iadd, 1) := by decide +kernel
theorem dL_law_757 : decode cL_law 757 = .ok (.iaload, 1) := by decide +kernel
theorem dL_law_758 : decode cL_law 758 = .ok (.aload_n 0, 1) := by decide +kernel
theorem dL_law_759 : decode cL_law 759 = .ok (.iload 4, 2) := by decide +kernel
theorem dL_law_761 : decode cL_law 761 = .ok (.iconst 2, 1) := by decide +kernel
theorem dL_law_762 : decode cL_law 762 = .ok (.iadd, 1) := by decide +kernel
theorem dL_law_763 : decode cL_law 763 = .ok (.iaload, 1) := by decide +kernel
theorem dL_law_764 : decode cL_law 764 = .ok (.aload_n 0, 1) := by decide +kernel
theorem dL_law_765 : decode cL_law 765 = .ok (.iload 4, 2) := by decide +kernel
theorem dL_law_767 : decode cL_law 767 = .ok (.iconst 3, 1) := by decide +kernel
theorem dL_law_768 : decode cL_law 768 = .ok (.iadd, 1) := by decide +kernel
theorem dL_law_769 : decode cL_law 769 = .ok (.iaload, 1) := by decide +kernel
theorem dL_law_770 : decode cL_law 770 = .ok (.aload_n 0, 1) := by decide +kernel
theorem dL_law_771 : decode cL_law 771 = .ok (.iload 4, 2) := by decide +kernel
theorem dL_law_773 : decode cL_law 773 = .ok (.iconst 4, 1) := by decide +kernel
theorem dL_law_774 : decode cL_law 774 = .ok (.iadd, 1) := by decide +kernel
theorem dL_law_775 : decode cL_law 775 = .ok (.iaload, 1) := by decide +kernel
theorem dL_law_776 : decode cL_law 776 = .ok (.aload_n 0, 1) := by decide +kernel
theorem dL_law_777 : decode cL_law 777 = .ok (.iload 4, 2) := by decide +kernel
theorem dL_law_779 : decode cL_law 779 = .ok (.iconst 5, 1) := by decide +kernel
theorem dL_law_780 : decode cL_law 780 = .ok (.iadd, 1) := by decide +kernel
theorem dL_law_781 : decode cL_law 781 = .ok (.iaload, 1) := by decide +kernel
theorem dL_law_782 : decode cL_law 782 = .ok (.aload_n 0, 1) := by decide +kernel
theorem dL_law_783 : decode cL_law 783 = .ok (.iload 4, 2) := by decide +kernel
theorem dL_law_785 : decode cL_law 785 = .ok (.bipush 6, 2) := by decide +kernel
theorem dL_law_787 : decode cL_law 787 = .ok (.iadd, 1) := by decide +kernel
theorem dL_law_788 : decode cL_law 788 = .ok (.iaload, 1) := by decide +kernel
theorem dL_law_789 : decode cL_law 789 = .ok (.aload_n 0, 1) := by decide +kernel
theorem dL_law_790 : decode cL_law 790 = .ok (.iload 4, 2) := by decide +kernel
theorem dL_law_792 : decode cL_law 792 = .ok (.bipush 7, 2) := by decide +kernel
theorem dL_law_794 : decode cL_law 794 = .ok (.iadd, 1) := by decide +kernel
theorem dL_law_795 : decode cL_law 795 = .ok (.iaload, 1) := by decide +kernel
theorem dL_law_796 : decode cL_law 796 = .ok (.aload_n 0, 1) := by decide +kernel
theorem dL_law_797 : decode cL_law 797 = .ok (.iload 4, 2) := by decide +kernel
theorem dL_law_799 : decode cL_law 799 = .ok (.bipush 8, 2) := by decide +kernel
theorem dL_law_801 : decode cL_law 801 = .ok (.iadd, 1) := by decide +kernel
theorem dL_law_802 : decode cL_law 802 = .ok (.iaload, 1) := by decide +kernel
theorem dL_law_803 : decode cL_law 803 = .ok (.invokevirtual 84, 3) := by decide +kernel
theorem dL_law_806 : decode cL_law 806 = .ok (.istore 6, 2) := by decide +kernel
theorem dL_law_808 : decode cL_law 808 = .ok (.aload_n 2, 1) := by decide +kernel
theorem dL_law_809 : decode cL_law 809 = .ok (.invokevirtual 85, 3) := by decide +kernel
theorem dL_law_812 : decode cL_law 812 = .ok (.iload 5, 2) := by decide +kernel
theorem dL_law_814 : decode cL_law 814 = .ok (.if_icmp .eq 5, 3) := by decide +kernel
theorem dL_law_817 : decode cL_law 817 = .ok (.iconst 0, 1) := by decide +kernel
theorem dL_law_818 : decode cL_law 818 = .ok (.ireturn, 1) := by decide +kernel
theorem dL_law_819 : decode cL_law 819 = .ok (.iload 5, 2) := by decide +kernel
theorem dL_law_821 : decode cL_law 821 = .ok (.ifCond .ne 15, 3) := by decide +kernel
theorem dL_law_824 : decode cL_law 824 = .ok (.aload_n 3, 1) := by decide +kernel
theorem dL_law_825 : decode cL_law 825 = .ok (.iconst 0, 1) := by decide +kernel
theorem dL_law_826 : decode cL_law 826 = .ok (.laload, 1) := by decide +kernel
theorem dL_law_827 : decode cL_law 827 = .ok (.iload 6, 2) := by decide +kernel
theorem dL_law_829 : decode cL_law 829 = .ok (.i2l, 1) := by decide +kernel
theorem dL_law_830 : decode cL_law 830 = .ok (.lcmp, 1) := by decide +kernel
theorem dL_law_831 : decode cL_law 831 = .ok (.ifCond .eq 5, 3) := by decide +kernel
theorem dL_law_834 : decode cL_law 834 = .ok (.iconst 0, 1) := by decide +kernel
theorem dL_law_835 : decode cL_law 835 = .ok (.ireturn, 1) := by decide +kernel
theorem dL_law_836 : decode cL_law 836 = .ok (.goto 755, 3) := by decide +kernel
theorem dL_law_839 : decode cL_law 839 = .ok (.aload_n 1, 1) := by decide +kernel
theorem dL_law_840 : decode cL_law 840 = .ok (.aload_n 0, 1) := by decide +kernel
theorem dL_law_841 : decode cL_law 841 = .ok (.iload 4, 2) := by decide +kernel
theorem dL_law_843 : decode cL_law 843 = .ok (.iconst 1, 1) := by decide +kernel
theorem dL_law_844 : decode cL_law 844 = .ok (.iadd, 1) := by decide +kernel
theorem dL_law_845 : decode cL_law 845 = .ok (.iaload, 1) := by decide +kernel
theorem dL_law_846 : decode cL_law 846 = .ok (.invokevirtual 88, 3) := by decide +kernel
theorem dL_law_849 : decode cL_law 849 = .ok (.aload_n 2, 1) := by decide +kernel
theorem dL_law_850 : decode cL_law 850 = .ok (.aload_n 0, 1) := by decide +kernel
theorem dL_law_851 : decode cL_law 851 = .ok (.iload 4, 2) := by decide +kernel
theorem dL_law_853 : decode cL_law 853 = .ok (.iconst 1, 1) := by decide +kernel
theorem dL_law_854 : decode cL_law 854 = .ok (.iadd, 1) := by decide +kernel
theorem dL_law_855 : decode cL_law 855 = .ok (.iaload, 1) := by decide +kernel
theorem dL_law_856 : decode cL_law 856 = .ok (.invokevirtual 91, 3) := by decide +kernel
theorem dL_law_859 : decode cL_law 859 = .ok (.if_icmp .eq 732, 3) := by decide +kernel
theorem dL_law_862 : decode cL_law 862 = .ok (.iconst 0, 1) := by decide +kernel
theorem dL_law_863 : decode cL_law 863 = .ok (.ireturn, 1) := by decide +kernel
theorem dL_law_864 : decode cL_law 864 = .ok (.aload_n 1, 1) := by decide +kernel
theorem dL_law_865 : decode cL_law 865 = .ok (.aload_n 0, 1) := by decide +kernel
theorem dL_law_866 : decode cL_law 866 = .ok (.iload 4, 2) := by decide +kernel
theorem dL_law_868 : decode cL_law 868 = .ok (.iconst 1, 1) := by decide +kernel
theorem dL_law_869 : decode cL_law 869 = .ok (.iadd, 1) := by decide +kernel
theorem dL_law_870 : decode cL_law 870 = .ok (.iaload, 1) := by decide +kernel
theorem dL_law_871 : decode cL_law 871 = .ok (.aload_n 0, 1) := by decide +kernel
theorem dL_law_872 : decode cL_law 872 = .ok (.iload 4, 2) := by decide +kernel
theorem dL_law_874 : decode cL_law 874 = .ok (.iconst 2, 1) := by decide +kernel
theorem dL_law_875 : decode cL_law 875 = .ok (.iadd, 1) := by decide +kernel
theorem dL_law_876 : decode cL_law 876 = .ok (.iaload, 1) := by decide +kernel
theorem dL_law_877 : decode cL_law 877 = .ok (.invokevirtual 92, 3) := by decide +kernel
theorem dL_law_880 : decode cL_law 880 = .ok (.aload_n 2, 1) := by decide +kernel
theorem dL_law_881 : decode cL_law 881 = .ok (.aload_n 0, 1) := by decide +kernel
theorem dL_law_882 : decode cL_law 882 = .ok (.iload 4, 2) := by decide +kernel
theorem dL_law_884 : decode cL_law 884 = .ok (.iconst 1, 1) := by decide +kernel
theorem dL_law_885 : decode cL_law 885 = .ok (.iadd, 1) := by decide +kernel
theorem dL_law_886 : decode cL_law 886 = .ok (.iaload, 1) := by decide +kernel
theorem dL_law_887 : decode cL_law 887 = .ok (.aload_n 0, 1) := by decide +kernel
theorem dL_law_888 : decode cL_law 888 = .ok (.iload 4, 2) := by decide +kernel
theorem dL_law_890 : decode cL_law 890 = .ok (.iconst 2, 1) := by decide +kernel
theorem dL_law_891 : decode cL_law 891 = .ok (.iadd, 1) := by decide +kernel
theorem dL_law_892 : decode cL_law 892 = .ok (.iaload, 1) := by decide +kernel
theorem dL_law_893 : decode cL_law 893 = .ok (.invokevirtual 95, 3) := by decide +kernel
theorem dL_law_896 : decode cL_law 896 = .ok (.if_icmp .eq 695, 3) := by decide +kernel
theorem dL_law_899 : decode cL_law 899 = .ok (.iconst 0, 1) := by decide +kernel
theorem dL_law_900 : decode cL_law 900 = .ok (.ireturn, 1) := by decide +kernel
theorem dL_law_901 : decode cL_law 901 = .ok (.aload_n 1, 1) := by decide +kernel
theorem dL_law_902 : decode cL_law 902 = .ok (.aload_n 0, 1) := by decide +kernel
theorem dL_law_903 : decode cL_law 903 = .ok (.iload 4, 2) := by decide +kernel
theorem dL_law_905 : decode cL_law 905 = .ok (.iconst 1, 1) := by decide +kernel
theorem dL_law_906 : decode cL_law 906 = .ok (.iadd, 1) := by decide +kernel
theorem dL_law_907 : decode cL_law 907 = .ok (.iaload, 1) := by decide +kernel
theorem dL_law_908 : decode cL_law 908 = .ok (.invokevirtual 96, 3) := by decide +kernel
theorem dL_law_911 : decode cL_law 911 = .ok (.aload_n 2, 1) := by decide +kernel
theorem dL_law_912 : decode cL_law 912 = .ok (.aload_n 0, 1) := by decide +kernel
theorem dL_law_913 : decode cL_law 913 = .ok (.iload 4, 2) := by decide +kernel
theorem dL_law_915 : decode cL_law 915 = .ok (.iconst 1, 1) := by decide +kernel
theorem dL_law_916 : decode cL_law 916 = .ok (.iadd, 1) := by decide +kernel
theorem dL_law_917 : decode cL_law 917 = .ok (.iaload, 1) := by decide +kernel
theorem dL_law_918 : decode cL_law 918 = .ok (.invokevirtual 100, 3) := by decide +kernel
theorem dL_law_921 : decode cL_law 921 = .ok (.if_icmp .eq 670, 3) := by decide +kernel
theorem dL_law_924 : decode cL_law 924 = .ok (.iconst 0, 1) := by decide +kernel
theorem dL_law_925 : decode cL_law 925 = .ok (.ireturn, 1) := by decide +kernel
theorem dL_law_926 : decode cL_law 926 = .ok (.aload_n 1, 1) := by decide +kernel
theorem dL_law_927 : decode cL_law 927 = .ok (.aload_n 0, 1) := by decide +kernel
theorem dL_law_928 : decode cL_law 928 = .ok (.iload 4, 2) := by decide +kernel
theorem dL_law_930 : decode cL_law 930 = .ok (.iconst 1, 1) := by decide +kernel
theorem dL_law_931 : decode cL_law 931 = .ok (.iadd, 1) := by decide +kernel
theorem dL_law_932 : decode cL_law 932 = .ok (.iaload, 1) := by decide +kernel
theorem dL_law_933 : decode cL_law 933 = .ok (.aload_n 0, 1) := by decide +kernel
theorem dL_law_934 : decode cL_law 934 = .ok (.iload 4, 2) := by decide +kernel
theorem dL_law_936 : decode cL_law 936 = .ok (.iconst 2, 1) := by decide +kernel
theorem dL_law_937 : decode cL_law 937 = .ok (.iadd, 1) := by decide +kernel
theorem dL_law_938 : decode cL_law 938 = .ok (.iaload, 1) := by decide +kernel
theorem dL_law_939 : decode cL_law 939 = .ok (.invokevirtual 101, 3) := by decide +kernel
theorem dL_law_942 : decode cL_law 942 = .ok (.aload_n 2, 1) := by decide +kernel
theorem dL_law_943 : decode cL_law 943 = .ok (.aload_n 0, 1) := by decide +kernel
theorem dL_law_944 : decode cL_law 944 = .ok (.iload 4, 2) := by decide +kernel
theorem dL_law_946 : decode cL_law 946 = .ok (.iconst 1, 1) := by decide +kernel
theorem dL_law_947 : decode cL_law 947 = .ok (.iadd, 1) := by decide +kernel
theorem dL_law_948 : decode cL_law 948 = .ok (.iaload, 1) := by decide +kernel
theorem dL_law_949 : decode cL_law 949 = .ok (.aload_n 0, 1) := by decide +kernel
theorem dL_law_950 : decode cL_law 950 = .ok (.iload 4, 2) := by decide +kernel
theorem dL_law_952 : decode cL_law 952 = .ok (.iconst 2, 1) := by decide +kernel
theorem dL_law_953 : decode cL_law 953 = .ok (.iadd, 1) := by decide +kernel
theorem dL_law_954 : decode cL_law 954 = .ok (.iaload, 1) := by decide +kernel
theorem dL_law_955 : decode cL_law 955 = .ok (.invokevirtual 104, 3) := by decide +kernel
theorem dL_law_958 : decode cL_law 958 = .ok (.if_icmp .eq 633, 3) := by decide +kernel
theorem dL_law_961 : decode cL_law 961 = .ok (.iconst 0, 1) := by decide +kernel
theorem dL_law_962 : decode cL_law 962 = .ok (.ireturn, 1) := by decide +kernel
theorem dL_law_963 : decode cL_law 963 = .ok (.aload_n 1, 1) := by decide +kernel
theorem dL_law_964 : decode cL_law 964 = .ok (.aload_n 0, 1) := by decide +kernel
theorem dL_law_965 : decode cL_law 965 = .ok (.iload 4, 2) := by decide +kernel
theorem dL_law_967 : decode cL_law 967 = .ok (.iconst 1, 1) := by decide +kernel
theorem dL_law_968 : decode cL_law 968 = .ok (.iadd, 1) := by decide +kernel
theorem dL_law_969 : decode cL_law 969 = .ok (.iaload, 1) := by decide +kernel
theorem dL_law_970 : decode cL_law 970 = .ok (.aload_n 0, 1) := by decide +kernel
theorem dL_law_971 : decode cL_law 971 = .ok (.iload 4, 2) := by decide +kernel
theorem dL_law_973 : decode cL_law 973 = .ok (.iconst 2, 1) := by decide +kernel
theorem dL_law_974 : decode cL_law 974 = .ok (.iadd, 1) := by decide +kernel
theorem dL_law_975 : decode cL_law 975 = .ok (.iaload, 1) := by decide +kernel
theorem dL_law_976 : decode cL_law 976 = .ok (.aload_n 0, 1) := by decide +kernel
theorem dL_law_977 : decode cL_law 977 = .ok (.iload 4, 2) := by decide +kernel
theorem dL_law_979 : decode cL_law 979 = .ok (.iconst 3, 1) := by decide +kernel
theorem dL_law_980 : decode cL_law 980 = .ok (.iadd, 1) := by decide +kernel
theorem dL_law_981 : decode cL_law 981 = .ok (.iaload, 1) := by decide +kernel
theorem dL_law_982 : decode cL_law 982 = .ok (.invokevirtual 105, 3) := by decide +kernel
theorem dL_law_985 : decode cL_law 985 = .ok (.aload_n 2, 1) := by decide +kernel
theorem dL_law_986 : decode cL_law 986 = .ok (.aload_n 0, 1) := by decide +kernel
theorem dL_law_987 : decode cL_law 987 = .ok (.iload 4, 2) := by decide +kernel
theorem dL_law_989 : decode cL_law 989 = .ok (.iconst 1, 1) := by decide +kernel
theorem dL_law_990 : decode cL_law 990 = .ok (.iadd, 1) := by decide +kernel
theorem dL_law_991 : decode cL_law 991 = .ok (.iaload, 1) := by decide +kernel
theorem dL_law_992 : decode cL_law 992 = .ok (.aload_n 0, 1) := by decide +kernel
theorem dL_law_993 : decode cL_law 993 = .ok (.iload 4, 2) := by decide +kernel
theorem dL_law_995 : decode cL_law 995 = .ok (.iconst 2, 1) := by decide +kernel
theorem dL_law_996 : decode cL_law 996 = .ok (.iadd, 1) := by decide +kernel
theorem dL_law_997 : decode cL_law 997 = .ok (.iaload, 1) := by decide +kernel
theorem dL_law_998 : decode cL_law 998 = .ok (.aload_n 0, 1) := by decide +kernel
theorem dL_law_999 : decode cL_law 999 = .ok (.iload 4, 2) := by decide +kernel
theorem dL_law_1001 : decode cL_law 1001 = .ok (.iconst 3, 1) := by decide +kernel
theorem dL_law_1002 : decode cL_law 1002 = .ok (.iadd, 1) := by decide +kernel
theorem dL_law_1003 : decode cL_law 1003 = .ok (.iaload, 1) := by decide +kernel
theorem dL_law_1004 : decode cL_law 1004 = .ok (.invokevirtual 108, 3) := by decide +kernel
theorem dL_law_1007 : decode cL_law 1007 = .ok (.if_icmp .eq 584, 3) := by decide +kernel
theorem dL_law_1010 : decode cL_law 1010 = .ok (.iconst 0, 1) := by decide +kernel
theorem dL_law_1011 : decode cL_law 1011 = .ok (.ireturn, 1) := by decide +kernel
theorem dL_law_1012 : decode cL_law 1012 = .ok (.aload_n 1, 1) := by decide +kernel
theorem dL_law_1013 : decode cL_law 1013 = .ok (.aload_n 0, 1) := by decide +kernel
theorem dL_law_1014 : decode cL_law 1014 = .ok (.iload 4, 2) := by decide +kernel
theorem dL_law_1016 : decode cL_law 1016 = .ok (.iconst 1, 1) := by decide +kernel
theorem dL_law_1017 : decode cL_law 1017 = .ok (.iadd, 1) := by decide +kernel
theorem dL_law_1018 : decode cL_law 1018 = .ok (.iaload, 1) := by decide +kernel
theorem dL_law_1019 : decode cL_law 1019 = .ok (.aload_n 0, 1) := by decide +kernel
theorem dL_law_1020 : decode cL_law 1020 = .ok (.iload 4, 2) := by decide +kernel
theorem dL_law_1022 : decode cL_law 1022 = .ok (.iconst 2, 1) := by decide +kernel
theorem dL_law_1023 : decode cL_law 1023 = .ok (.iadd, 1) := by decide +kernel
theorem dL_law_1024 : decode cL_law 1024 = .ok (.iaload, 1) := by decide +kernel
theorem dL_law_1025 : decode cL_law 1025 = .ok (.invokevirtual 109, 3) := by decide +kernel
theorem dL_law_1028 : decode cL_law 1028 = .ok (.aload_n 2, 1) := by decide +kernel
theorem dL_law_1029 : decode cL_law 1029 = .ok (.aload_n 0, 1) := by decide +kernel
theorem dL_law_1030 : decode cL_law 1030 = .ok (.iload 4, 2) := by decide +kernel
theorem dL_law_1032 : decode cL_law 1032 = .ok (.iconst 1, 1) := by decide +kernel
theorem dL_law_1033 : decode cL_law 1033 = .ok (.iadd, 1) := by decide +kernel
theorem dL_law_1034 : decode cL_law 1034 = .ok (.iaload, 1) := by decide +kernel
theorem dL_law_1035 : decode cL_law 1035 = .ok (.aload_n 0, 1) := by decide +kernel
theorem dL_law_1036 : decode cL_law 1036 = .ok (.iload 4, 2) := by decide +kernel
theorem dL_law_1038 : decode cL_law 1038 = .ok (.iconst 2, 1) := by decide +kernel
theorem dL_law_1039 : decode cL_law 1039 = .ok (.iadd, 1) := by decide +kernel
theorem dL_law_1040 : decode cL_law 1040 = .ok (.iaload, 1) := by decide +kernel
theorem dL_law_1041 : decode cL_law 1041 = .ok (.invokevirtual 112, 3) := by decide +kernel
theorem dL_law_1044 : decode cL_law 1044 = .ok (.if_icmp .eq 547, 3) := by decide +kernel
theorem dL_law_1047 : decode cL_law 1047 = .ok (.iconst 0, 1) := by decide +kernel
theorem dL_law_1048 : decode cL_law 1048 = .ok (.ireturn, 1) := by decide +kernel
theorem dL_law_1049 : decode cL_law 1049 = .ok (.aload_n 1, 1) := by decide +kernel
theorem dL_law_1050 : decode cL_law 1050 = .ok (.aload_n 0, 1) := by decide +kernel
theorem dL_law_1051 : decode cL_law 1051 = .ok (.iload 4, 2) := by decide +kernel
theorem dL_law_1053 : decode cL_law 1053 = .ok (.iconst 1, 1) := by decide +kernel
theorem dL_law_1054 : decode cL_law 1054 = .ok (.iadd, 1) := by decide +kernel
theorem dL_law_1055 : decode cL_law 1055 = .ok (.iaload, 1) := by decide +kernel
theorem dL_law_1056 : decode cL_law 1056 = .ok (.invokevirtual 113, 3) := by decide +kernel
theorem dL_law_1059 : decode cL_law 1059 = .ok (.aload_n 2, 1) := by decide +kernel
theorem dL_law_1060 : decode cL_law 1060 = .ok (.aload_n 0, 1) := by decide +kernel
theorem dL_law_1061 : decode cL_law 1061 = .ok (.iload 4, 2) := by decide +kernel
theorem dL_law_1063 : decode cL_law 1063 = .ok (.iconst 1, 1) := by decide +kernel
theorem dL_law_1064 : decode cL_law 1064 = .ok (.iadd, 1) := by decide +kernel
theorem dL_law_1065 : decode cL_law 1065 = .ok (.iaload, 1) := by decide +kernel
theorem dL_law_1066 : decode cL_law 1066 = .ok (.invokevirtual 116, 3) := by decide +kernel
theorem dL_law_1069 : decode cL_law 1069 = .ok (.if_icmp .eq 522, 3) := by decide +kernel
theorem dL_law_1072 : decode cL_law 1072 = .ok (.iconst 0, 1) := by decide +kernel
theorem dL_law_1073 : decode cL_law 1073 = .ok (.ireturn, 1) := by decide +kernel
theorem dL_law_1074 : decode cL_law 1074 = .ok (.aload_n 1, 1) := by decide +kernel
theorem dL_law_1075 : decode cL_law 1075 = .ok (.aload_n 0, 1) := by decide +kernel
theorem dL_law_1076 : decode cL_law 1076 = .ok (.iload 4, 2) := by decide +kernel
theorem dL_law_1078 : decode cL_law 1078 = .ok (.iconst 1, 1) := by decide +kernel
theorem dL_law_1079 : decode cL_law 1079 = .ok (.iadd, 1) := by decide +kernel
theorem dL_law_1080 : decode cL_law 1080 = .ok (.iaload, 1) := by decide +kernel
theorem dL_law_1081 : decode cL_law 1081 = .ok (.aload_n 0, 1) := by decide +kernel
theorem dL_law_1082 : decode cL_law 1082 = .ok (.iload 4, 2) := by decide +kernel
theorem dL_law_1084 : decode cL_law 1084 = .ok (.iconst 2, 1) := by decide +kernel
theorem dL_law_1085 : decode cL_law 1085 = .ok (.iadd, 1) := by decide +kernel
theorem dL_law_1086 : decode cL_law 1086 = .ok (.iaload, 1) := by decide +kernel
theorem dL_law_1087 : decode cL_law 1087 = .ok (.aload_n 0, 1) := by decide +kernel
theorem dL_law_1088 : decode cL_law 1088 = .ok (.iload 4, 2) := by decide +kernel
theorem dL_law_1090 : decode cL_law 1090 = .ok (.iconst 3, 1) := by decide +kernel
theorem dL_law_1091 : decode cL_law 1091 = .ok (.iadd, 1) := by decide +kernel
theorem dL_law_1092 : decode cL_law 1092 = .ok (.iaload, 1) := by decide +kernel
theorem dL_law_1093 : decode cL_law 1093 = .ok (.aload_n 0, 1) := by decide +kernel
theorem dL_law_1094 : decode cL_law 1094 = .ok (.iload 4, 2) := by decide +kernel
theorem dL_law_1096 : decode cL_law 1096 = .ok (.iconst 4, 1) := by decide +kernel
theorem dL_law_1097 : decode cL_law 1097 = .ok (.iadd, 1) := by decide +kernel
theorem dL_law_1098 : decode cL_law 1098 = .ok (.iaload, 1) := by decide +kernel
theorem dL_law_1099 : decode cL_law 1099 = .ok (.invokevirtual 117, 3) := by decide +kernel
theorem dL_law_1102 : decode cL_law 1102 = .ok (.aload_n 2, 1) := by decide +kernel
theorem dL_law_1103 : decode cL_law 1103 = .ok (.aload_n 0, 1) := by decide +kernel
theorem dL_law_1104 : decode cL_law 1104 = .ok (.iload 4, 2) := by decide +kernel
theorem dL_law_1106 : decode cL_law 1106 = .ok (.iconst 1, 1) := by decide +kernel
theorem dL_law_1107 : decode cL_law 1107 = .ok (.iadd, 1) := by decide +kernel
theorem dL_law_1108 : decode cL_law 1108 = .ok (.iaload, 1) := by decide +kernel
theorem dL_law_1109 : decode cL_law 1109 = .ok (.aload_n 0, 1) := by decide +kernel
theorem dL_law_1110 : decode cL_law 1110 = .ok (.iload 4, 2) := by decide +kernel
theorem dL_law_1112 : decode cL_law 1112 = .ok (.iconst 2, 1) := by decide +kernel
theorem dL_law_1113 : decode cL_law 1113 = .ok (.iadd, 1) := by decide +kernel
theorem dL_law_1114 : decode cL_law 1114 = .ok (.iaload, 1) := by decide +kernel
theorem dL_law_1115 : decode cL_law 1115 = .ok (.aload_n 0, 1) := by decide +kernel
theorem dL_law_1116 : decode cL_law 1116 = .ok (.iload 4, 2) := by decide +kernel
theorem dL_law_1118 : decode cL_law 1118 = .ok (.iconst 3, 1) := by decide +kernel
theorem dL_law_1119 : decode cL_law 1119 = .ok (.iadd, 1) := by decide +kernel
theorem dL_law_1120 : decode cL_law 1120 = .ok (.iaload, 1) := by decide +kernel
theorem dL_law_1121 : decode cL_law 1121 = .ok (.aload_n 0, 1) := by decide +kernel
theorem dL_law_1122 : decode cL_law 1122 = .ok (.iload 4, 2) := by decide +kernel
theorem dL_law_1124 : decode cL_law 1124 = .ok (.iconst 4, 1) := by decide +kernel
theorem dL_law_1125 : decode cL_law 1125 = .ok (.iadd, 1) := by decide +kernel
theorem dL_law_1126 : decode cL_law 1126 = .ok (.iaload, 1) := by decide +kernel
theorem dL_law_1127 : decode cL_law 1127 = .ok (.invokevirtual 121, 3) := by decide +kernel
theorem dL_law_1130 : decode cL_law 1130 = .ok (.lcmp, 1) := by decide +kernel
theorem dL_law_1131 : decode cL_law 1131 = .ok (.ifCond .eq 460, 3) := by decide +kernel
theorem dL_law_1134 : decode cL_law 1134 = .ok (.iconst 0, 1) := by decide +kernel
theorem dL_law_1135 : decode cL_law 1135 = .ok (.ireturn, 1) := by decide +kernel
theorem dL_law_1136 : decode cL_law 1136 = .ok (.aload_n 1, 1) := by decide +kernel
theorem dL_law_1137 : decode cL_law 1137 = .ok (.aload_n 0, 1) := by decide +kernel
theorem dL_law_1138 : decode cL_law 1138 = .ok (.iload 4, 2) := by decide +kernel
theorem dL_law_1140 : decode cL_law 1140 = .ok (.iconst 1, 1) := by decide +kernel
theorem dL_law_1141 : decode cL_law 1141 = .ok (.iadd, 1) := by decide +kernel
theorem dL_law_1142 : decode cL_law 1142 = .ok (.iaload, 1) := by decide +kernel
theorem dL_law_1143 : decode cL_law 1143 = .ok (.aload_n 0, 1) := by decide +kernel
theorem dL_law_1144 : decode cL_law 1144 = .ok (.iload 4, 2) := by decide +kernel
theorem dL_law_1146 : decode cL_law 1146 = .ok (.iconst 2, 1) := by decide +kernel
theorem dL_law_1147 : decode cL_law 1147 = .ok (.iadd, 1) := by decide +kernel
theorem dL_law_1148 : decode cL_law 1148 = .ok (.iaload, 1) := by decide +kernel
theorem dL_law_1149 : decode cL_law 1149 = .ok (.aload_n 0, 1) := by decide +kernel
theorem dL_law_1150 : decode cL_law 1150 = .ok (.iload 4, 2) := by decide +kernel
theorem dL_law_1152 : decode cL_law 1152 = .ok (.iconst 3, 1) := by decide +kernel
theorem dL_law_1153 : decode cL_law 1153 = .ok (.iadd, 1) := by decide +kernel
theorem dL_law_1154 : decode cL_law 1154 = .ok (.iaload, 1) := by decide +kernel
theorem dL_law_1155 : decode cL_law 1155 = .ok (.invokevirtual 122, 3) := by decide +kernel
theorem dL_law_1158 : decode cL_law 1158 = .ok (.aload_n 2, 1) := by decide +kernel
theorem dL_law_1159 : decode cL_law 1159 = .ok (.aload_n 0, 1) := by decide +kernel
theorem dL_law_1160 : decode cL_law 1160 = .ok (.iload 4, 2) := by decide +kernel
theorem dL_law_1162 : decode cL_law 1162 = .ok (.iconst 1, 1) := by decide +kernel
theorem dL_law_1163 : decode cL_law 1163 = .ok (.iadd, 1) := by decide +kernel
theorem dL_law_1164 : decode cL_law 1164 = .ok (.iaload, 1) := by decide +kernel
theorem dL_law_1165 : decode cL_law 1165 = .ok (.aload_n 0, 1) := by decide +kernel
theorem dL_law_1166 : decode cL_law 1166 = .ok (.iload 4, 2) := by decide +kernel
theorem dL_law_1168 : decode cL_law 1168 = .ok (.iconst 2, 1) := by decide +kernel
theorem dL_law_1169 : decode cL_law 1169 = .ok (.iadd, 1) := by decide +kernel
theorem dL_law_1170 : decode cL_law 1170 = .ok (.iaload, 1) := by decide +kernel
theorem dL_law_1171 : decode cL_law 1171 = .ok (.aload_n 0, 1) := by decide +kernel
theorem dL_law_1172 : decode cL_law 1172 = .ok (.iload 4, 2) := by decide +kernel
theorem dL_law_1174 : decode cL_law 1174 = .ok (.iconst 3, 1) := by decide +kernel
theorem dL_law_1175 : decode cL_law 1175 = .ok (.iadd, 1) := by decide +kernel
theorem dL_law_1176 : decode cL_law 1176 = .ok (.iaload, 1) := by decide +kernel
theorem dL_law_1177 : decode cL_law 1177 = .ok (.invokevirtual 125, 3) := by decide +kernel
theorem dL_law_1180 : decode cL_law 1180 = .ok (.if_icmp .eq 411, 3) := by decide +kernel
theorem dL_law_1183 : decode cL_law 1183 = .ok (.iconst 0, 1) := by decide +kernel
theorem dL_law_1184 : decode cL_law 1184 = .ok (.ireturn, 1) := by decide +kernel
theorem dL_law_1185 : decode cL_law 1185 = .ok (.aload_n 1, 1) := by decide +kernel
theorem dL_law_1186 : decode cL_law 1186 = .ok (.aload_n 0, 1) := by decide +kernel
theorem dL_law_1187 : decode cL_law 1187 = .ok (.iload 4, 2) := by decide +kernel
theorem dL_law_1189 : decode cL_law 1189 = .ok (.iconst 1, 1) := by decide +kernel
theorem dL_law_1190 : decode cL_law 1190 = .ok (.iadd, 1) := by decide +kernel
theorem dL_law_1191 : decode cL_law 1191 = .ok (.iaload, 1) := by decide +kernel
theorem dL_law_1192 : decode cL_law 1192 = .ok (.aload_n 0, 1) := by decide +kernel
theorem dL_law_1193 : decode cL_law 1193 = .ok (.iload 4, 2) := by decide +kernel
theorem dL_law_1195 : decode cL_law 1195 = .ok (.iconst 2, 1) := by decide +kernel
theorem dL_law_1196 : decode cL_law 1196 = .ok (.iadd, 1) := by decide +kernel
theorem dL_law_1197 : decode cL_law 1197 = .ok (.iaload, 1) := by decide +kernel
theorem dL_law_1198 : decode cL_law 1198 = .ok (.invokevirtual 126, 3) := by decide +kernel
theorem dL_law_1201 : decode cL_law 1201 = .ok (.aload_n 2, 1) := by decide +kernel
theorem dL_law_1202 : decode cL_law 1202 = .ok (.aload_n 0, 1) := by decide +kernel
theorem dL_law_1203 : decode cL_law 1203 = .ok (.iload 4, 2) := by decide +kernel
theorem dL_law_1205 : decode cL_law 1205 = .ok (.iconst 1, 1) := by decide +kernel
theorem dL_law_1206 : decode cL_law 1206 = .ok (.iadd, 1) := by decide +kernel
theorem dL_law_1207 : decode cL_law 1207 = .ok (.iaload, 1) := by decide +kernel
theorem dL_law_1208 : decode cL_law 1208 = .ok (.aload_n 0, 1) := by decide +kernel
theorem dL_law_1209 : decode cL_law 1209 = .ok (.iload 4, 2) := by decide +kernel
theorem dL_law_1211 : decode cL_law 1211 = .ok (.iconst 2, 1) := by decide +kernel
theorem dL_law_1212 : decode cL_law 1212 = .ok (.iadd, 1) := by decide +kernel
theorem dL_law_1213 : decode cL_law 1213 = .ok (.iaload, 1) := by decide +kernel
theorem dL_law_1214 : decode cL_law 1214 = .ok (.invokevirtual 129, 3) := by decide +kernel
theorem dL_law_1217 : decode cL_law 1217 = .ok (.if_icmp .eq 374, 3) := by decide +kernel
theorem dL_law_1220 : decode cL_law 1220 = .ok (.iconst 0, 1) := by decide +kernel
theorem dL_law_1221 : decode cL_law 1221 = .ok (.ireturn, 1) := by decide +kernel
theorem dL_law_1222 : decode cL_law 1222 = .ok (.aload_n 1, 1) := by decide +kernel
theorem dL_law_1223 : decode cL_law 1223 = .ok (.aload_n 0, 1) := by decide +kernel
theorem dL_law_1224 : decode cL_law 1224 = .ok (.iload 4, 2) := by decide +kernel
theorem dL_law_1226 : decode cL_law 1226 = .ok (.iconst 1, 1) := by decide +kernel
theorem dL_law_1227 : decode cL_law 1227 = .ok (.iadd, 1) := by decide +kernel
theorem dL_law_1228 : decode cL_law 1228 = .ok (.iaload, 1) := by decide +kernel
theorem dL_law_1229 : decode cL_law 1229 = .ok (.aload_n 0, 1) := by decide +kernel
theorem dL_law_1230 : decode cL_law 1230 = .ok (.iload 4, 2) := by decide +kernel
theorem dL_law_1232 : decode cL_law 1232 = .ok (.iconst 2, 1) := by decide +kernel
theorem dL_law_1233 : decode cL_law 1233 = .ok (.iadd, 1) := by decide +kernel
theorem dL_law_1234 : decode cL_law 1234 = .ok (.iaload, 1) := by decide +kernel
theorem dL_law_1235 : decode cL_law 1235 = .ok (.invokevirtual 130, 3) := by decide +kernel
theorem dL_law_1238 : decode cL_law 1238 = .ok (.aload_n 2, 1) := by decide +kernel
theorem dL_law_1239 : decode cL_law 1239 = .ok (.aload_n 0, 1) := by decide +kernel
theorem dL_law_1240 : decode cL_law 1240 = .ok (.iload 4, 2) := by decide +kernel
theorem dL_law_1242 : decode cL_law 1242 = .ok (.iconst 1, 1) := by decide +kernel
theorem dL_law_1243 : decode cL_law 1243 = .ok (.iadd, 1) := by decide +kernel
theorem dL_law_1244 : decode cL_law 1244 = .ok (.iaload, 1) := by decide +kernel
theorem dL_law_1245 : decode cL_law 1245 = .ok (.aload_n 0, 1) := by decide +kernel
theorem dL_law_1246 : decode cL_law 1246 = .ok (.iload 4, 2) := by decide +kernel
theorem dL_law_1248 : decode cL_law 1248 = .ok (.iconst 2, 1) := by decide +kernel
theorem dL_law_1249 : decode cL_law 1249 = .ok (.iadd, 1) := by decide +kernel
theorem dL_law_1250 : decode cL_law 1250 = .ok (.iaload, 1) := by decide +kernel
theorem dL_law_1251 : decode cL_law 1251 = .ok (.invokevirtual 133, 3) := by decide +kernel
theorem dL_law_1254 : decode cL_law 1254 = .ok (.if_icmp .eq 337, 3) := by decide +kernel
theorem dL_law_1257 : decode cL_law 1257 = .ok (.iconst 0, 1) := by decide +kernel
theorem dL_law_1258 : decode cL_law 1258 = .ok (.ireturn, 1) := by decide +kernel
theorem dL_law_1259 : decode cL_law 1259 = .ok (.aload_n 1, 1) := by decide +kernel
theorem dL_law_1260 : decode cL_law 1260 = .ok (.aload_n 0, 1) := by decide +kernel
theorem dL_law_1261 : decode cL_law 1261 = .ok (.iload 4, 2) := by decide +kernel
theorem dL_law_1263 : decode cL_law 1263 = .ok (.iconst 1, 1) := by decide +kernel
theorem dL_law_1264 : decode cL_law 1264 = .ok (.iadd, 1) := by decide +kernel
theorem dL_law_1265 : decode cL_law 1265 = .ok (.iaload, 1) := by decide +kernel
theorem dL_law_1266 : decode cL_law 1266 = .ok (.aload_n 0, 1) := by decide +kernel
theorem dL_law_1267 : decode cL_law 1267 = .ok (.iload 4, 2) := by decide +kernel
theorem dL_law_1269 : decode cL_law 1269 = .ok (.iconst 2, 1) := by decide +kernel
theorem dL_law_1270 : decode cL_law 1270 = .ok (.iadd, 1) := by decide +kernel
theorem dL_law_1271 : decode cL_law 1271 = .ok (.iaload, 1) := by decide +kernel
theorem dL_law_1272 : decode cL_law 1272 = .ok (.invokevirtual 134, 3) := by decide +kernel
theorem dL_law_1275 : decode cL_law 1275 = .ok (.aload_n 2, 1) := by decide +kernel
theorem dL_law_1276 : decode cL_law 1276 = .ok (.aload_n 0, 1) := by decide +kernel
theorem dL_law_1277 : decode cL_law 1277 = .ok (.iload 4, 2) := by decide +kernel
theorem dL_law_1279 : decode cL_law 1279 = .ok (.iconst 1, 1) := by decide +kernel
theorem dL_law_1280 : decode cL_law 1280 = .ok (.iadd, 1) := by decide +kernel
theorem dL_law_1281 : decode cL_law 1281 = .ok (.iaload, 1) := by decide +kernel
theorem dL_law_1282 : decode cL_law 1282 = .ok (.aload_n 0, 1) := by decide +kernel
theorem dL_law_1283 : decode cL_law 1283 = .ok (.iload 4, 2) := by decide +kernel
theorem dL_law_1285 : decode cL_law 1285 = .ok (.iconst 2, 1) := by decide +kernel
theorem dL_law_1286 : decode cL_law 1286 = .ok (.iadd, 1) := by decide +kernel
theorem dL_law_1287 : decode cL_law 1287 = .ok (.iaload, 1) := by decide +kernel
theorem dL_law_1288 : decode cL_law 1288 = .ok (.invokevirtual 137, 3) := by decide +kernel
theorem dL_law_1291 : decode cL_law 1291 = .ok (.if_icmp .eq 300, 3) := by decide +kernel
theorem dL_law_1294 : decode cL_law 1294 = .ok (.iconst 0, 1) := by decide +kernel
theorem dL_law_1295 : decode cL_law 1295 = .ok (.ireturn, 1) := by decide +kernel
theorem dL_law_1296 : decode cL_law 1296 = .ok (.aload_n 1, 1) := by decide +kernel
theorem dL_law_1297 : decode cL_law 1297 = .ok (.aload_n 0, 1) := by decide +kernel
theorem dL_law_1298 : decode cL_law 1298 = .ok (.iload 4, 2) := by decide +kernel
theorem dL_law_1300 : decode cL_law 1300 = .ok (.iconst 1, 1) := by decide +kernel
theorem dL_law_1301 : decode cL_law 1301 = .ok (.iadd, 1) := by decide +kernel
theorem dL_law_1302 : decode cL_law 1302 = .ok (.iaload, 1) := by decide +kernel
theorem dL_law_1303 : decode cL_law 1303 = .ok (.aload_n 0, 1) := by decide +kernel
theorem dL_law_1304 : decode cL_law 1304 = .ok (.iload 4, 2) := by decide +kernel
theorem dL_law_1306 : decode cL_law 1306 = .ok (.iconst 2, 1) := by decide +kernel
theorem dL_law_1307 : decode cL_law 1307 = .ok (.iadd, 1) := by decide +kernel
theorem dL_law_1308 : decode cL_law 1308 = .ok (.iaload, 1) := by decide +kernel
theorem dL_law_1309 : decode cL_law 1309 = .ok (.aload_n 0, 1) := by decide +kernel
theorem dL_law_1310 : decode cL_law 1310 = .ok (.iload 4, 2) := by decide +kernel
theorem dL_law_1312 : decode cL_law 1312 = .ok (.iconst 3, 1) := by decide +kernel
theorem dL_law_1313 : decode cL_law 1313 = .ok (.iadd, 1) := by decide +kernel
theorem dL_law_1314 : decode cL_law 1314 = .ok (.iaload, 1) := by decide +kernel
theorem dL_law_1315 : decode cL_law 1315 = .ok (.invokevirtual 138, 3) := by decide +kernel
theorem dL_law_1318 : decode cL_law 1318 = .ok (.aload_n 2, 1) := by decide +kernel
theorem dL_law_1319 : decode cL_law 1319 = .ok (.aload_n 0, 1) := by decide +kernel
theorem dL_law_1320 : decode cL_law 1320 = .ok (.iload 4, 2) := by decide +kernel
theorem dL_law_1322 : decode cL_law 1322 = .ok (.iconst 1, 1) := by decide +kernel
theorem dL_law_1323 : decode cL_law 1323 = .ok (.iadd, 1) := by decide +kernel
theorem dL_law_1324 : decode cL_law 1324 = .ok (.iaload, 1) := by decide +kernel
theorem dL_law_1325 : decode cL_law 1325 = .ok (.aload_n 0, 1) := by decide +kernel
theorem dL_law_1326 : decode cL_law 1326 = .ok (.iload 4, 2) := by decide +kernel
theorem dL_law_1328 : decode cL_law 1328 = .ok (.iconst 2, 1) := by decide +kernel
theorem dL_law_1329 : decode cL_law 1329 = .ok (.iadd, 1) := by decide +kernel
theorem dL_law_1330 : decode cL_law 1330 = .ok (.iaload, 1) := by decide +kernel
theorem dL_law_1331 : decode cL_law 1331 = .ok (.aload_n 0, 1) := by decide +kernel
theorem dL_law_1332 : decode cL_law 1332 = .ok (.iload 4, 2) := by decide +kernel
theorem dL_law_1334 : decode cL_law 1334 = .ok (.iconst 3, 1) := by decide +kernel
theorem dL_law_1335 : decode cL_law 1335 = .ok (.iadd, 1) := by decide +kernel
theorem dL_law_1336 : decode cL_law 1336 = .ok (.iaload, 1) := by decide +kernel
theorem dL_law_1337 : decode cL_law 1337 = .ok (.invokevirtual 141, 3) := by decide +kernel
theorem dL_law_1340 : decode cL_law 1340 = .ok (.if_icmp .eq 251, 3) := by decide +kernel
theorem dL_law_1343 : decode cL_law 1343 = .ok (.iconst 0, 1) := by decide +kernel
theorem dL_law_1344 : decode cL_law 1344 = .ok (.ireturn, 1) := by decide +kernel
theorem dL_law_1345 : decode cL_law 1345 = .ok (.aload_n 1, 1) := by decide +kernel
theorem dL_law_1346 : decode cL_law 1346 = .ok (.aload_n 0, 1) := by decide +kernel
theorem dL_law_1347 : decode cL_law 1347 = .ok (.iload 4, 2) := by decide +kernel
theorem dL_law_1349 : decode cL_law 1349 = .ok (.iconst 1, 1) := by decide +kernel
theorem dL_law_1350 : decode cL_law 1350 = .ok (.iadd, 1) := by decide +kernel
theorem dL_law_1351 : decode cL_law 1351 = .ok (.iaload, 1) := by decide +kernel
theorem dL_law_1352 : decode cL_law 1352 = .ok (.aload_n 0, 1) := by decide +kernel
theorem dL_law_1353 : decode cL_law 1353 = .ok (.iload 4, 2) := by decide +kernel
theorem dL_law_1355 : decode cL_law 1355 = .ok (.iconst 2, 1) := by decide +kernel
theorem dL_law_1356 : decode cL_law 1356 = .ok (.iadd, 1) := by decide +kernel
theorem dL_law_1357 : decode cL_law 1357 = .ok (.iaload, 1) := by decide +kernel
theorem dL_law_1358 : decode cL_law 1358 = .ok (.aload_n 0, 1) := by decide +kernel
theorem dL_law_1359 : decode cL_law 1359 = .ok (.iload 4, 2) := by decide +kernel
theorem dL_law_1361 : decode cL_law 1361 = .ok (.iconst 3, 1) := by decide +kernel
theorem dL_law_1362 : decode cL_law 1362 = .ok (.iadd, 1) := by decide +kernel
theorem dL_law_1363 : decode cL_law 1363 = .ok (.iaload, 1) := by decide +kernel
theorem dL_law_1364 : decode cL_law 1364 = .ok (.aload_n 0, 1) := by decide +kernel
theorem dL_law_1365 : decode cL_law 1365 = .ok (.iload 4, 2) := by decide +kernel
theorem dL_law_1367 : decode cL_law 1367 = .ok (.iconst 4, 1) := by decide +kernel
theorem dL_law_1368 : decode cL_law 1368 = .ok (.iadd, 1) := by decide +kernel
theorem dL_law_1369 : decode cL_law 1369 = .ok (.iaload, 1) := by decide +kernel
theorem dL_law_1370 : decode cL_law 1370 = .ok (.invokevirtual 142, 3) := by decide +kernel
theorem dL_law_1373 : decode cL_law 1373 = .ok (.aload_n 2, 1) := by decide +kernel
theorem dL_law_1374 : decode cL_law 1374 = .ok (.aload_n 0, 1) := by decide +kernel
theorem dL_law_1375 : decode cL_law 1375 = .ok (.iload 4, 2) := by decide +kernel
theorem dL_law_1377 : decode cL_law 1377 = .ok (.iconst 1, 1) := by decide +kernel
theorem dL_law_1378 : decode cL_law 1378 = .ok (.iadd, 1) := by decide +kernel
theorem dL_law_1379 : decode cL_law 1379 = .ok (.iaload, 1) := by decide +kernel
theorem dL_law_1380 : decode cL_law 1380 = .ok (.aload_n 0, 1) := by decide +kernel
theorem dL_law_1381 : decode cL_law 1381 = .ok (.iload 4, 2) := by decide +kernel
theorem dL_law_1383 : decode cL_law 1383 = .ok (.iconst 2, 1) := by decide +kernel
theorem dL_law_1384 : decode cL_law 1384 = .ok (.iadd, 1) := by decide +kernel
theorem dL_law_1385 : decode cL_law 1385 = .ok (.iaload, 1) := by decide +kernel
theorem dL_law_1386 : decode cL_law 1386 = .ok (.aload_n 0, 1) := by decide +kernel
theorem dL_law_1387 : decode cL_law 1387 = .ok (.iload 4, 2) := by decide +kernel
theorem dL_law_1389 : decode cL_law 1389 = .ok (.iconst 3, 1) := by decide +kernel
theorem dL_law_1390 : decode cL_law 1390 = .ok (.iadd, 1) := by decide +kernel
theorem dL_law_1391 : decode cL_law 1391 = .ok (.iaload, 1) := by decide +kernel
theorem dL_law_1392 : decode cL_law 1392 = .ok (.aload_n 0, 1) := by decide +kernel
theorem dL_law_1393 : decode cL_law 1393 = .ok (.iload 4, 2) := by decide +kernel
theorem dL_law_1395 : decode cL_law 1395 = .ok (.iconst 4, 1) := by decide +kernel
theorem dL_law_1396 : decode cL_law 1396 = .ok (.iadd, 1) := by decide +kernel
theorem dL_law_1397 : decode cL_law 1397 = .ok (.iaload, 1) := by decide +kernel
theorem dL_law_1398 : decode cL_law 1398 = .ok (.invokevirtual 145, 3) := by decide +kernel
theorem dL_law_1401 : decode cL_law 1401 = .ok (.if_icmp .eq 190, 3) := by decide +kernel
theorem dL_law_1404 : decode cL_law 1404 = .ok (.iconst 0, 1) := by decide +kernel
theorem dL_law_1405 : decode cL_law 1405 = .ok (.ireturn, 1) := by decide +kernel
theorem dL_law_1406 : decode cL_law 1406 = .ok (.aload_n 1, 1) := by decide +kernel
theorem dL_law_1407 : decode cL_law 1407 = .ok (.aload_n 0, 1) := by decide +kernel
theorem dL_law_1408 : decode cL_law 1408 = .ok (.iload 4, 2) := by decide +kernel
theorem dL_law_1410 : decode cL_law 1410 = .ok (.iconst 1, 1) := by decide +kernel
theorem dL_law_1411 : decode cL_law 1411 = .ok (.iadd, 1) := by decide +kernel
theorem dL_law_1412 : decode cL_law 1412 = .ok (.iaload, 1) := by decide +kernel
theorem dL_law_1413 : decode cL_law 1413 = .ok (.aload_n 0, 1) := by decide +kernel
theorem dL_law_1414 : decode cL_law 1414 = .ok (.iload 4, 2) := by decide +kernel
theorem dL_law_1416 : decode cL_law 1416 = .ok (.iconst 2, 1) := by decide +kernel
theorem dL_law_1417 : decode cL_law 1417 = .ok (.iadd, 1) := by decide +kernel
theorem dL_law_1418 : decode cL_law 1418 = .ok (.iaload, 1) := by decide +kernel
theorem dL_law_1419 : decode cL_law 1419 = .ok (.aload_n 0, 1) := by decide +kernel
theorem dL_law_1420 : decode cL_law 1420 = .ok (.iload 4, 2) := by decide +kernel
theorem dL_law_1422 : decode cL_law 1422 = .ok (.iconst 3, 1) := by decide +kernel
theorem dL_law_1423 : decode cL_law 1423 = .ok (.iadd, 1) := by decide +kernel
theorem dL_law_1424 : decode cL_law 1424 = .ok (.iaload, 1) := by decide +kernel
theorem dL_law_1425 : decode cL_law 1425 = .ok (.aload_n 0, 1) := by decide +kernel
theorem dL_law_1426 : decode cL_law 1426 = .ok (.iload 4, 2) := by decide +kernel
theorem dL_law_1428 : decode cL_law 1428 = .ok (.iconst 4, 1) := by decide +kernel
theorem dL_law_1429 : decode cL_law 1429 = .ok (.iadd, 1) := by decide +kernel
theorem dL_law_1430 : decode cL_law 1430 = .ok (.iaload, 1) := by decide +kernel
theorem dL_law_1431 : decode cL_law 1431 = .ok (.invokevirtual 146, 3) := by decide +kernel
theorem dL_law_1434 : decode cL_law 1434 = .ok (.aload_n 2, 1) := by decide +kernel
theorem dL_law_1435 : decode cL_law 1435 = .ok (.aload_n 0, 1) := by decide +kernel
theorem dL_law_1436 : decode cL_law 1436 = .ok (.iload 4, 2) := by decide +kernel
theorem dL_law_1438 : decode cL_law 1438 = .ok (.iconst 1, 1) := by decide +kernel
theorem dL_law_1439 : decode cL_law 1439 = .ok (.iadd, 1) := by decide +kernel
theorem dL_law_1440 : decode cL_law 1440 = .ok (.iaload, 1) := by decide +kernel
theorem dL_law_1441 : decode cL_law 1441 = .ok (.aload_n 0, 1) := by decide +kernel
theorem dL_law_1442 : decode cL_law 1442 = .ok (.iload 4, 2) := by decide +kernel
theorem dL_law_1444 : decode cL_law 1444 = .ok (.iconst 2, 1) := by decide +kernel
theorem dL_law_1445 : decode cL_law 1445 = .ok (.iadd, 1) := by decide +kernel
theorem dL_law_1446 : decode cL_law 1446 = .ok (.iaload, 1) := by decide +kernel
theorem dL_law_1447 : decode cL_law 1447 = .ok (.aload_n 0, 1) := by decide +kernel
theorem dL_law_1448 : decode cL_law 1448 = .ok (.iload 4, 2) := by decide +kernel
theorem dL_law_1450 : decode cL_law 1450 = .ok (.iconst 3, 1) := by decide +kernel
theorem dL_law_1451 : decode cL_law 1451 = .ok (.iadd, 1) := by decide +kernel
theorem dL_law_1452 : decode cL_law 1452 = .ok (.iaload, 1) := by decide +kernel
theorem dL_law_1453 : decode cL_law 1453 = .ok (.aload_n 0, 1) := by decide +kernel
theorem dL_law_1454 : decode cL_law 1454 = .ok (.iload 4, 2) := by decide +kernel
theorem dL_law_1456 : decode cL_law 1456 = .ok (.iconst 4, 1) := by decide +kernel
theorem dL_law_1457 : decode cL_law 1457 = .ok (.iadd, 1) := by decide +kernel
theorem dL_law_1458 : decode cL_law 1458 = .ok (.iaload, 1) := by decide +kernel
theorem dL_law_1459 : decode cL_law 1459 = .ok (.invokevirtual 149, 3) := by decide +kernel
theorem dL_law_1462 : decode cL_law 1462 = .ok (.if_icmp .eq 129, 3) := by decide +kernel
theorem dL_law_1465 : decode cL_law 1465 = .ok (.iconst 0, 1) := by decide +kernel
theorem dL_law_1466 : decode cL_law 1466 = .ok (.ireturn, 1) := by decide +kernel
theorem dL_law_1467 : decode cL_law 1467 = .ok (.aload_n 1, 1) := by decide +kernel
theorem dL_law_1468 : decode cL_law 1468 = .ok (.aload_n 0, 1) := by decide +kernel
theorem dL_law_1469 : decode cL_law 1469 = .ok (.iload 4, 2) := by decide +kernel
theorem dL_law_1471 : decode cL_law 1471 = .ok (.iconst 1, 1) := by decide +kernel
theorem dL_law_1472 : decode cL_law 1472 = .ok (.iadd, 1) := by decide +kernel
theorem dL_law_1473 : decode cL_law 1473 = .ok (.iaload, 1) := by decide +kernel
theorem dL_law_1474 : decode cL_law 1474 = .ok (.aload_n 0, 1) := by decide +kernel
theorem dL_law_1475 : decode cL_law 1475 = .ok (.iload 4, 2) := by decide +kernel
theorem dL_law_1477 : decode cL_law 1477 = .ok (.iconst 2, 1) := by decide +kernel
theorem dL_law_1478 : decode cL_law 1478 = .ok (.iadd, 1) := by decide +kernel
theorem dL_law_1479 : decode cL_law 1479 = .ok (.iaload, 1) := by decide +kernel
theorem dL_law_1480 : decode cL_law 1480 = .ok (.aload_n 0, 1) := by decide +kernel
theorem dL_law_1481 : decode cL_law 1481 = .ok (.iload 4, 2) := by decide +kernel
theorem dL_law_1483 : decode cL_law 1483 = .ok (.iconst 3, 1) := by decide +kernel
theorem dL_law_1484 : decode cL_law 1484 = .ok (.iadd, 1) := by decide +kernel
theorem dL_law_1485 : decode cL_law 1485 = .ok (.iaload, 1) := by decide +kernel
theorem dL_law_1486 : decode cL_law 1486 = .ok (.invokevirtual 150, 3) := by decide +kernel
theorem dL_law_1489 : decode cL_law 1489 = .ok (.aload_n 2, 1) := by decide +kernel
theorem dL_law_1490 : decode cL_law 1490 = .ok (.aload_n 0, 1) := by decide +kernel
theorem dL_law_1491 : decode cL_law 1491 = .ok (.iload 4, 2) := by decide +kernel
theorem dL_law_1493 : decode cL_law 1493 = .ok (.iconst 1, 1) := by decide +kernel
theorem dL_law_1494 : decode cL_law 1494 = .ok (.iadd, 1) := by decide +kernel
theorem dL_law_1495 : decode cL_law 1495 = .ok (.iaload, 1) := by decide +kernel
theorem dL_law_1496 : decode cL_law 1496 = .ok (.aload_n 0, 1) := by decide +kernel
theorem dL_law_1497 : decode cL_law 1497 = .ok (.iload 4, 2) := by decide +kernel
theorem dL_law_1499 : decode cL_law 1499 = .ok (.iconst 2, 1) := by decide +kernel
theorem dL_law_1500 : decode cL_law 1500 = .ok (.iadd, 1) := by decide +kernel
theorem dL_law_1501 : decode cL_law 1501 = .ok (.iaload, 1) := by decide +kernel
theorem dL_law_1502 : decode cL_law 1502 = .ok (.aload_n 0, 1) := by decide +kernel
theorem dL_law_1503 : decode cL_law 1503 = .ok (.iload 4, 2) := by decide +kernel
theorem dL_law_1505 : decode cL_law 1505 = .ok (.iconst 3, 1) := by decide +kernel
theorem dL_law_1506 : decode cL_law 1506 = .ok (.iadd, 1) := by decide +kernel
theorem dL_law_1507 : decode cL_law 1507 = .ok (.iaload, 1) := by decide +kernel
theorem dL_law_1508 : decode cL_law 1508 = .ok (.invokevirtual 153, 3) := by decide +kernel
theorem dL_law_1511 : decode cL_law 1511 = .ok (.if_icmp .eq 80, 3) := by decide +kernel
theorem dL_law_1514 : decode cL_law 1514 = .ok (.iconst 0, 1) := by decide +kernel
theorem dL_law_1515 : decode cL_law 1515 = .ok (.ireturn, 1) := by decide +kernel
theorem dL_law_1516 : decode cL_law 1516 = .ok (.aload_n 1, 1) := by decide +kernel
theorem dL_law_1517 : decode cL_law 1517 = .ok (.aload_n 0, 1) := by decide +kernel
theorem dL_law_1518 : decode cL_law 1518 = .ok (.iload 4, 2) := by decide +kernel
theorem dL_law_1520 : decode cL_law 1520 = .ok (.iconst 1, 1) := by decide +kernel
theorem dL_law_1521 : decode cL_law 1521 = .ok (.iadd, 1) := by decide +kernel
theorem dL_law_1522 : decode cL_law 1522 = .ok (.iaload, 1) := by decide +kernel
theorem dL_law_1523 : decode cL_law 1523 = .ok (.aload_n 0, 1) := by decide +kernel
theorem dL_law_1524 : decode cL_law 1524 = .ok (.iload 4, 2) := by decide +kernel
theorem dL_law_1526 : decode cL_law 1526 = .ok (.iconst 2, 1) := by decide +kernel
theorem dL_law_1527 : decode cL_law 1527 = .ok (.iadd, 1) := by decide +kernel
theorem dL_law_1528 : decode cL_law 1528 = .ok (.iaload, 1) := by decide +kernel
theorem dL_law_1529 : decode cL_law 1529 = .ok (.invokevirtual 154, 3) := by decide +kernel
theorem dL_law_1532 : decode cL_law 1532 = .ok (.aload_n 2, 1) := by decide +kernel
theorem dL_law_1533 : decode cL_law 1533 = .ok (.aload_n 0, 1) := by decide +kernel
theorem dL_law_1534 : decode cL_law 1534 = .ok (.iload 4, 2) := by decide +kernel
theorem dL_law_1536 : decode cL_law 1536 = .ok (.iconst 1, 1) := by decide +kernel
theorem dL_law_1537 : decode cL_law 1537 = .ok (.iadd, 1) := by decide +kernel
theorem dL_law_1538 : decode cL_law 1538 = .ok (.iaload, 1) := by decide +kernel
theorem dL_law_1539 : decode cL_law 1539 = .ok (.aload_n 0, 1) := by decide +kernel
theorem dL_law_1540 : decode cL_law 1540 = .ok (.iload 4, 2) := by decide +kernel
theorem dL_law_1542 : decode cL_law 1542 = .ok (.iconst 2, 1) := by decide +kernel
theorem dL_law_1543 : decode cL_law 1543 = .ok (.iadd, 1) := by decide +kernel
theorem dL_law_1544 : decode cL_law 1544 = .ok (.iaload, 1) := by decide +kernel
theorem dL_law_1545 : decode cL_law 1545 = .ok (.invokevirtual 157, 3) := by decide +kernel
theorem dL_law_1548 : decode cL_law 1548 = .ok (.if_icmp .eq 43, 3) := by decide +kernel
theorem dL_law_1551 : decode cL_law 1551 = .ok (.iconst 0, 1) := by decide +kernel
theorem dL_law_1552 : decode cL_law 1552 = .ok (.ireturn, 1) := by decide +kernel
theorem dL_law_1553 : decode cL_law 1553 = .ok (.aload_n 1, 1) := by decide +kernel
theorem dL_law_1554 : decode cL_law 1554 = .ok (.invokevirtual 158, 3) := by decide +kernel
theorem dL_law_1557 : decode cL_law 1557 = .ok (.aload_n 2, 1) := by decide +kernel
theorem dL_law_1558 : decode cL_law 1558 = .ok (.invokevirtual 161, 3) := by decide +kernel
theorem dL_law_1561 : decode cL_law 1561 = .ok (.if_icmp .eq 30, 3) := by decide +kernel
theorem dL_law_1564 : decode cL_law 1564 = .ok (.iconst 0, 1) := by decide +kernel
theorem dL_law_1565 : decode cL_law 1565 = .ok (.ireturn, 1) := by decide +kernel
theorem dL_law_1566 : decode cL_law 1566 = .ok (.aload_n 1, 1) := by decide +kernel
theorem dL_law_1567 : decode cL_law 1567 = .ok (.aload_n 0, 1) := by decide +kernel
theorem dL_law_1568 : decode cL_law 1568 = .ok (.iload 4, 2) := by decide +kernel
theorem dL_law_1570 : decode cL_law 1570 = .ok (.iconst 1, 1) := by decide +kernel
theorem dL_law_1571 : decode cL_law 1571 = .ok (.iadd, 1) := by decide +kernel
theorem dL_law_1572 : decode cL_law 1572 = .ok (.iaload, 1) := by decide +kernel
theorem dL_law_1573 : decode cL_law 1573 = .ok (.invokevirtual 162, 3) := by decide +kernel
theorem dL_law_1576 : decode cL_law 1576 = .ok (.aload_n 2, 1) := by decide +kernel
theorem dL_law_1577 : decode cL_law 1577 = .ok (.aload_n 0, 1) := by decide +kernel
theorem dL_law_1578 : decode cL_law 1578 = .ok (.iload 4, 2) := by decide +kernel
theorem dL_law_1580 : decode cL_law 1580 = .ok (.iconst 1, 1) := by decide +kernel
theorem dL_law_1581 : decode cL_law 1581 = .ok (.iadd, 1) := by decide +kernel
theorem dL_law_1582 : decode cL_law 1582 = .ok (.iaload, 1) := by decide +kernel
theorem dL_law_1583 : decode cL_law 1583 = .ok (.invokevirtual 165, 3) := by decide +kernel
theorem dL_law_1586 : decode cL_law 1586 = .ok (.if_icmp .eq 5, 3) := by decide +kernel
theorem dL_law_1589 : decode cL_law 1589 = .ok (.iconst 0, 1) := by decide +kernel
theorem dL_law_1590 : decode cL_law 1590 = .ok (.ireturn, 1) := by decide +kernel
theorem dL_law_1591 : decode cL_law 1591 = .ok (.iinc 4 9, 3) := by decide +kernel
theorem dL_law_1594 : decode cL_law 1594 = .ok (.goto (-1571), 3) := by decide +kernel
theorem dL_law_1597 : decode cL_law 1597 = .ok (.iconst 1, 1) := by decide +kernel
theorem dL_law_1598 : decode cL_law 1598 = .ok (.ireturn, 1) := by decide +kernel
section
variable {p : Program} {l : Launch} {e : Env} {s : State} {m : MethodId} {below : List Frame} {meth : Method} {c : Code} {D : gD} {A : Nat → Prop} {ad : Nat → Nat} {τ : Shp} {σ : Mem} {b L : Nat} {xs : Nat → Int32}
set_option maxRecDepth 100000 in
set_option maxHeartbeats 8000000 in
theorem w_L_law_L23 (Z : Cz D (Ew D A) A cL_law 7 (some .boolean) RX0 p s m #[.ref b] meth c) (hX : va_X b L xs s s.heap) (hbl : b < s.heap.size) (hbA : ¬ A b) (hAs : ∀ q, A q → s.heap.size ≤ q) (htr : l.stackTraces = false) :
    ∀ (n : Nat) (σ : Mem) (τ1 : Shp) (v4 : Int32) (ad1 : Nat → Nat) (cl sl : Nat) (H : Heap) (locs : List Loc) (ls : Array Slot), Gx τ ad τ1 ad1 → ∀ (hu1 : sS τ1 0 = (10, 0)) (hu2 : sS τ1 200 = (24, 0)) (hu3 : sS τ1 300 = (4, 1)), St D A ad1 (sS τ1) σ s.heap H locs → Bd 0 0 room_1 τ1 cl sl → lv_has ls 7 [(0, .ref b), (1, .ref (ad1 0)), (2, .ref (ad1 200)), (3, .ref (ad1 300)), (4, .int v4)] → f_L_law_L23 L xs n σ τ1 v4 = some (1 : Int32) → W p l e room_1 s m #[.ref b] below meth c H locs cl sl (lw_Z below #[.ref b] s) (F0 m 23 ls []) := by
  have hx := Z.1
  have hb := Z.2.1
  have hown := Z.2.2.2.2.2.1
  have hts := Z.2.2.2.2.2.2.1
  intro n
  induction n with
  | zero => intro σ τ1 v4 ad1 cl sl H locs ls G hu1 hu2 hu3 hS B hl h; cases h
  | succ n ih =>
    intro σ τ1 v4 ad1 cl sl H locs ls G hu1 hu2 hu3 hS B hl h
    unfold f_L_law_L23 at h
    refine lv_iload hx hb dL_law_23 (lv_at hl 4 rfl) ?_
    refine lv_aload_n hx hb dL_law_25 rfl (lv_at hl 0 rfl) ?_
    refine h_slen Z hX hbl hbA hS dL_law_26 ?_
    refine lv_bipush (v := (9 : Int32)) hx hb dL_law_27 (by decide) ?_
    refine lv_isub hx hb dL_law_29 ?_
    refine lv_icmp_gt (tgt := 1597) hx hb dL_law_30 (by decide) (fun c15 => ?_) (fun c15 => ?_)
    · have h := if_t h c15
      refine lv_iconst (v := (1 : Int32)) hx hb dL_law_1597 (by decide) ?_
      exact l_ret Z hAs Z.2.2.1 hS B dL_law_1598 h
    · have h := if_f h c15
      refine lv_aload_n hx hb dL_law_33 rfl (lv_at hl 0 rfl) ?_
      refine lv_iload hx hb dL_law_34 (lv_at hl 4 rfl) ?_
      refine h_sld Z hX hbl hbA hS dL_law_36 h (fun x16 h => ?_)
      refine lv_bipush (v := (63 : Int32)) hx hb dL_law_37 (by decide) ?_
      refine lv_iand hx hb dL_law_39 ?_
      by_cases c17_0 : (x16 &&& (63 : Int32)) = (0 : Int32)
      · refine h_tsw (k := (0 : Int32)) (off := 148) (tgt := 188) Z dL_law_40 c17_0 (by decide) (by decide) rfl (by decide) ?_
        have h := if_t h c17_0
        refine lv_aload_n hx hb dL_law_188 rfl (lv_at hl 1 rfl) ?_
        refine lv_aload_n hx hb dL_law_189 rfl (lv_at hl 0 rfl) ?_
        refine lv_iload hx hb dL_law_190 (lv_at hl 4 rfl) ?_
        refine lv_iconst (v := (1 : Int32)) hx hb dL_law_192 (by decide) ?_
        refine lv_iadd hx hb dL_law_193 ?_
        refine h_sld Z hX hbl hbA hS dL_law_194 h (fun x18 h => ?_)
        refine lv_aload_n hx hb dL_law_195 rfl (lv_at hl 0 rfl) ?_
        refine lv_iload hx hb dL_law_196 (lv_at hl 4 rfl) ?_
        refine lv_iconst (v := (2 : Int32)) hx hb dL_law_198 (by decide) ?_
        refine lv_iadd hx hb dL_law_199 ?_
        refine h_sld Z hX hbl hbA hS dL_law_200 h (fun x19 h => ?_)
        refine lv_aload_n hx hb dL_law_201 rfl (lv_at hl 0 rfl) ?_
        refine lv_iload hx hb dL_law_202 (lv_at hl 4 rfl) ?_
        refine lv_iconst (v := (3 : Int32)) hx hb dL_law_204 (by decide) ?_
        refine lv_iadd hx hb dL_law_205 ?_
        refine h_sld Z hX hbl hbA hS dL_law_206 h (fun x20 h => ?_)
        refine h_cim hS h (fun z hz => h_rV (rest := []) Z hS hu1 rfl v_X0_19 (w_X1_grain hu1 hz) rfl rfl ⟨Nat.le_of_ble_eq_true rfl, Nat.le_of_ble_eq_true rfl⟩ rfl hl.1 rfl (Nat.le_of_ble_eq_true rfl) B.cl B.sl dL_law_207) (fun σ21 x22 H locs hS h => ?_)
        refine lv_aload_n hx hb dL_law_210 rfl (lv_at hl 2 rfl) ?_
        refine lv_aload_n hx hb dL_law_211 rfl (lv_at hl 0 rfl) ?_
        refine lv_iload hx hb dL_law_212 (lv_at hl 4 rfl) ?_
        refine lv_iconst (v := (1 : Int32)) hx hb dL_law_214 (by decide) ?_
        refine lv_iadd hx hb dL_law_215 ?_
        refine h_sld Z hX hbl hbA hS dL_law_216 h (fun x23 h => ?_)
        refine lv_aload_n hx hb dL_law_217 rfl (lv_at hl 0 rfl) ?_
        refine lv_iload hx hb dL_law_218 (lv_at hl 4 rfl) ?_
        refine lv_iconst (v := (2 : Int32)) hx hb dL_law_220 (by decide) ?_
        refine lv_iadd hx hb dL_law_221 ?_
        refine h_sld Z hX hbl hbA hS dL_law_222 h (fun x24 h => ?_)
        refine lv_aload_n hx hb dL_law_223 rfl (lv_at hl 0 rfl) ?_
        refine lv_iload hx hb dL_law_224 (lv_at hl 4 rfl) ?_
        refine lv_iconst (v := (3 : Int32)) hx hb dL_law_226 (by decide) ?_
        refine lv_iadd hx hb dL_law_227 ?_
        refine h_sld Z hX hbl hbA hS dL_law_228 h (fun x25 h => ?_)
        refine h_cim hS h (fun z hz => h_rV (rest := [.int x22]) Z hS hu2 rfl v_X0_23 (w_X6_grain hu2 hz) rfl rfl ⟨Nat.le_of_ble_eq_true rfl, Nat.le_of_ble_eq_true rfl⟩ rfl hl.1 rfl (Nat.le_of_ble_eq_true rfl) B.cl B.sl dL_law_229) (fun σ26 x27 H locs hS h => ?_)
        refine lv_icmp_eq (tgt := 1591) hx hb dL_law_232 (by decide) (fun c28 => ?_) (fun c28 => ?_)
        · have h := if_t h c28
          refine lv_iinc (v := (v4 + (9 : Int32))) (lv' := [(4, .int (v4 + (9 : Int32))), (0, .ref b), (1, .ref (ad1 0)), (2, .ref (ad1 200)), (3, .ref (ad1 300))]) hx hb dL_law_1591 hl (k := 4) rfl rfl (by decide) rfl (fun ls hl => ?_)
          refine lv_goto (tgt := 23) hx hb dL_law_1594 (by decide) ?_
          exact ih _ _ _ _ _ _ _ _ _ G hu1 hu2 hu3 hS B (lv_sub hl [1, 2, 3, 4, 0] rfl) h
        · have h := if_f h c28
          refine lv_iconst (v := (0 : Int32)) hx hb dL_law_235 (by decide) ?_
          exact l_ret Z hAs Z.2.2.1 hS B dL_law_236 h
      replace h := if_f h c17_0
      by_cases c17_1 : (x16 &&& (63 : Int32)) = (1 : Int32)
      · refine h_tsw (k := (1 : Int32)) (off := 197) (tgt := 237) Z dL_law_40 c17_1 (by decide) (by decide) rfl (by decide) ?_
        have h := if_t h c17_1
        refine lv_aload_n hx hb dL_law_237 rfl (lv_at hl 1 rfl) ?_
        refine a_callL (av := [.ref (ad1 0)]) (rest := []) Z hS B (en_V (rest := []) Z hS hu1 rfl v_X0_24 rfl rfl dL_law_238) (lw_meth q362) ⟨Nat.le_of_ble_eq_true rfl, Nat.le_of_ble_eq_true rfl⟩ hl.1 (Nat.le_of_ble_eq_true rfl) dL_law_238 h (fun z hz => w_X1_filter B.2.2.2.2.1 B.2.2.2.2.2 hu1 hz) (fun σ29 τ29 x30 ad29 H locs cl sl g29 hS B h => ?_)
        have G := G.trans g29
        have ea31 := g29.ad hu1
        replace hu1 := g29.sh hu1
        have ea32 := g29.ad hu2
        replace hu2 := g29.sh hu2
        have ea33 := g29.ad hu3
        replace hu3 := g29.sha hu3 (by decide)
        replace hl : lv_has ls 7 [(0, .ref b), (1, .ref (ad29 0)), (2, .ref (ad29 200)), (3, .ref (ad29 300)), (4, .int v4)] := by rw [ea31, ea32, ea33]; exact hl
        refine lv_aload_n hx hb dL_law_241 rfl (lv_at hl 2 rfl) ?_
        refine h_cim hS h (fun z hz => h_rV (rest := [.int x30]) Z hS hu2 rfl v_X0_28 (w_X6_filter hu2 hz) rfl rfl ⟨Nat.le_of_ble_eq_true rfl, Nat.le_of_ble_eq_true rfl⟩ rfl hl.1 rfl (Nat.le_of_ble_eq_true rfl) B.cl B.sl dL_law_242) (fun σ34 x35 H locs hS h => ?_)
        refine lv_icmp_eq (tgt := 1591) hx hb dL_law_245 (by decide) (fun c36 => ?_) (fun c36 => ?_)
        · have h := if_t h c36
          refine lv_iinc (v := (v4 + (9 : Int32))) (lv' := [(4, .int (v4 + (9 : Int32))), (0, .ref b), (1, .ref (ad29 0)), (2, .ref (ad29 200)), (3, .ref (ad29 300))]) hx hb dL_law_1591 hl (k := 4) rfl rfl (by decide) rfl (fun ls hl => ?_)
          refine lv_goto (tgt := 23) hx hb dL_law_1594 (by decide) ?_
          exact ih _ _ _ _ _ _ _ _ _ G hu1 hu2 hu3 hS B (lv_sub hl [1, 2, 3, 4, 0] rfl) h
        · have h := if_f h c36
          refine lv_iconst (v := (0 : Int32)) hx hb dL_law_248 (by decide) ?_
          exact l_ret Z hAs Z.2.2.1 hS B dL_law_249 h
      replace h := if_f h c17_1
      by_cases c17_2 : (x16 &&& (63 : Int32)) = (2 : Int32)
      · refine h_tsw (k := (2 : Int32)) (off := 210) (tgt := 250) Z dL_law_40 c17_2 (by decide) (by decide) rfl (by decide) ?_
        have h := if_t h c17_2
        refine lv_aload_n hx hb dL_law_250 rfl (lv_at hl 1 rfl) ?_
        refine lv_aload_n hx hb dL_law_251 rfl (lv_at hl 0 rfl) ?_
        refine lv_iload hx hb dL_law_252 (lv_at hl 4 rfl) ?_
        refine lv_iconst (v := (1 : Int32)) hx hb dL_law_254 (by decide) ?_
        refine lv_iadd hx hb dL_law_255 ?_
        refine h_sld Z hX hbl hbA hS dL_law_256 h (fun x37 h => ?_)
        refine lv_aload_n hx hb dL_law_257 rfl (lv_at hl 0 rfl) ?_
        refine lv_iload hx hb dL_law_258 (lv_at hl 4 rfl) ?_
        refine lv_iconst (v := (2 : Int32)) hx hb dL_law_260 (by decide) ?_
        refine lv_iadd hx hb dL_law_261 ?_
        refine h_sld Z hX hbl hbA hS dL_law_262 h (fun x38 h => ?_)
        refine lv_aload_n hx hb dL_law_263 rfl (lv_at hl 0 rfl) ?_
        refine lv_iload hx hb dL_law_264 (lv_at hl 4 rfl) ?_
        refine lv_iconst (v := (3 : Int32)) hx hb dL_law_266 (by decide) ?_
        refine lv_iadd hx hb dL_law_267 ?_
        refine h_sld Z hX hbl hbA hS dL_law_268 h (fun x39 h => ?_)
        refine a_callL (av := [.ref (ad1 0), .int x37, .int x38, .int x39]) (rest := []) Z hS B (en_V (rest := []) Z hS hu1 rfl v_X0_29 rfl rfl dL_law_269) (lw_meth q366) ⟨Nat.le_of_ble_eq_true rfl, Nat.le_of_ble_eq_true rfl⟩ hl.1 (Nat.le_of_ble_eq_true rfl) dL_law_269 h (fun z hz => w_X1_cell B.2.2.2.2.1 B.2.2.2.2.2 hu1 hz) (fun σ40 τ40 x41 ad40 H locs cl sl g40 hS B h => ?_)
        have G := G.trans g40
        have ea42 := g40.ad hu1
        replace hu1 := g40.sh hu1
        have ea43 := g40.ad hu2
        replace hu2 := g40.sh hu2
        have ea44 := g40.ad hu3
        replace hu3 := g40.sha hu3 (by decide)
        replace hl : lv_has ls 7 [(0, .ref b), (1, .ref (ad40 0)), (2, .ref (ad40 200)), (3, .ref (ad40 300)), (4, .int v4)] := by rw [ea42, ea43, ea44]; exact hl
        refine lv_aload_n hx hb dL_law_272 rfl (lv_at hl 2 rfl) ?_
        refine lv_aload_n hx hb dL_law_273 rfl (lv_at hl 0 rfl) ?_
        refine lv_iload hx hb dL_law_274 (lv_at hl 4 rfl) ?_
        refine lv_iconst (v := (1 : Int32)) hx hb dL_law_276 (by decide) ?_
        refine lv_iadd hx hb dL_law_277 ?_
        refine h_sld Z hX hbl hbA hS dL_law_278 h (fun x45 h => ?_)
        refine lv_aload_n hx hb dL_law_279 rfl (lv_at hl 0 rfl) ?_
        refine lv_iload hx hb dL_law_280 (lv_at hl 4 rfl) ?_
        refine lv_iconst (v := (2 : Int32)) hx hb dL_law_282 (by decide) ?_
        refine lv_iadd hx hb dL_law_283 ?_
        refine h_sld Z hX hbl hbA hS dL_law_284 h (fun x46 h => ?_)
        refine lv_aload_n hx hb dL_law_285 rfl (lv_at hl 0 rfl) ?_
        refine lv_iload hx hb dL_law_286 (lv_at hl 4 rfl) ?_
        refine lv_iconst (v := (3 : Int32)) hx hb dL_law_288 (by decide) ?_
        refine lv_iadd hx hb dL_law_289 ?_
        refine h_sld Z hX hbl hbA hS dL_law_290 h (fun x47 h => ?_)
        refine h_cim hS h (fun z hz => h_rV (rest := [.int x41]) Z hS hu2 rfl v_X0_33 (w_X6_cell hu2 hz) rfl rfl ⟨Nat.le_of_ble_eq_true rfl, Nat.le_of_ble_eq_true rfl⟩ rfl hl.1 rfl (Nat.le_of_ble_eq_true rfl) B.cl B.sl dL_law_291) (fun σ48 x49 H locs hS h => ?_)
        refine lv_icmp_eq (tgt := 1591) hx hb dL_law_294 (by decide) (fun c50 => ?_) (fun c50 => ?_)
        · have h := if_t h c50
          refine lv_iinc (v := (v4 + (9 : Int32))) (lv' := [(4, .int (v4 + (9 : Int32))), (0, .ref b), (1, .ref (ad40 0)), (2, .ref (ad40 200)), (3, .ref (ad40 300))]) hx hb dL_law_1591 hl (k := 4) rfl rfl (by decide) rfl (fun ls hl => ?_)
          refine lv_goto (tgt := 23) hx hb dL_law_1594 (by decide) ?_
          exact ih _ _ _ _ _ _ _ _ _ G hu1 hu2 hu3 hS B (lv_sub hl [1, 2, 3, 4, 0] rfl) h
        · have h := if_f h c50
          refine lv_iconst (v := (0 : Int32)) hx hb dL_law_297 (by decide) ?_
          exact l_ret Z hAs Z.2.2.1 hS B dL_law_298 h
      replace h := if_f h c17_2
      by_cases c17_3 : (x16 &&& (63 : Int32)) = (3 : Int32)
      · refine h_tsw (k := (3 : Int32)) (off := 259) (tgt := 299) Z dL_law_40 c17_3 (by decide) (by decide) rfl (by decide) ?_
        have h := if_t h c17_3
        refine lv_aload_n hx hb dL_law_299 rfl (lv_at hl 1 rfl) ?_
        refine lv_aload_n hx hb dL_law_300 rfl (lv_at hl 0 rfl) ?_
        refine lv_iload hx hb dL_law_301 (lv_at hl 4 rfl) ?_
        refine lv_iconst (v := (1 : Int32)) hx hb dL_law_303 (by decide) ?_
        refine lv_iadd hx hb dL_law_304 ?_
        refine h_sld Z hX hbl hbA hS dL_law_305 h (fun x51 h => ?_)
        refine lv_aload_n hx hb dL_law_306 rfl (lv_at hl 0 rfl) ?_
        refine lv_iload hx hb dL_law_307 (lv_at hl 4 rfl) ?_
        refine lv_iconst (v := (2 : Int32)) hx hb dL_law_309 (by decide) ?_
        refine lv_iadd hx hb dL_law_310 ?_
        refine h_sld Z hX hbl hbA hS dL_law_311 h (fun x52 h => ?_)
        refine lv_aload_n hx hb dL_law_312 rfl (lv_at hl 0 rfl) ?_
        refine lv_iload hx hb dL_law_313 (lv_at hl 4 rfl) ?_
        refine lv_iconst (v := (3 : Int32)) hx hb dL_law_315 (by decide) ?_
        refine lv_iadd hx hb dL_law_316 ?_
        refine h_sld Z hX hbl hbA hS dL_law_317 h (fun x53 h => ?_)
        refine h_cim hS h (fun z hz => h_rV (rest := []) Z hS hu1 rfl v_X0_34 (w_X1_set hu1 hz) rfl rfl ⟨Nat.le_of_ble_eq_true rfl, Nat.le_of_ble_eq_true rfl⟩ rfl hl.1 rfl (Nat.le_of_ble_eq_true rfl) B.cl B.sl dL_law_318) (fun σ54 x55 H locs hS h => ?_)
        refine lv_aload_n hx hb dL_law_321 rfl (lv_at hl 2 rfl) ?_
        refine lv_aload_n hx hb dL_law_322 rfl (lv_at hl 0 rfl) ?_
        refine lv_iload hx hb dL_law_323 (lv_at hl 4 rfl) ?_
        refine lv_iconst (v := (1 : Int32)) hx hb dL_law_325 (by decide) ?_
        refine lv_iadd hx hb dL_law_326 ?_
        refine h_sld Z hX hbl hbA hS dL_law_327 h (fun x56 h => ?_)
        refine lv_aload_n hx hb dL_law_328 rfl (lv_at hl 0 rfl) ?_
        refine lv_iload hx hb dL_law_329 (lv_at hl 4 rfl) ?_
        refine lv_iconst (v := (2 : Int32)) hx hb dL_law_331 (by decide) ?_
        refine lv_iadd hx hb dL_law_332 ?_
        refine h_sld Z hX hbl hbA hS dL_law_333 h (fun x57 h => ?_)
        refine lv_aload_n hx hb dL_law_334 rfl (lv_at hl 0 rfl) ?_
        refine lv_iload hx hb dL_law_335 (lv_at hl 4 rfl) ?_
        refine lv_iconst (v := (3 : Int32)) hx hb dL_law_337 (by decide) ?_
        refine lv_iadd hx hb dL_law_338 ?_
        refine h_sld Z hX hbl hbA hS dL_law_339 h (fun x58 h => ?_)
        refine h_cim hS h (fun z hz => h_rV (rest := [.int x55]) Z hS hu2 rfl v_X0_37 (w_X6_set hu2 hz) rfl rfl ⟨Nat.le_of_ble_eq_true rfl, Nat.le_of_ble_eq_true rfl⟩ rfl hl.1 rfl (Nat.le_of_ble_eq_true rfl) B.cl B.sl dL_law_340) (fun σ59 x60 H locs hS h => ?_)
        refine lv_icmp_eq (tgt := 1591) hx hb dL_law_343 (by decide) (fun c61 => ?_) (fun c61 => ?_)
        · have h := if_t h c61
          refine lv_iinc (v := (v4 + (9 : Int32))) (lv' := [(4, .int (v4 + (9 : Int32))), (0, .ref b), (1, .ref (ad1 0)), (2, .ref (ad1 200)), (3, .ref (ad1 300))]) hx hb dL_law_1591 hl (k := 4) rfl rfl (by decide) rfl (fun ls hl => ?_)
          refine lv_goto (tgt := 23) hx hb dL_law_1594 (by decide) ?_
          exact ih _ _ _ _ _ _ _ _ _ G hu1 hu2 hu3 hS B (lv_sub hl [1, 2, 3, 4, 0] rfl) h
        · have h := if_f h c61
          refine lv_iconst (v := (0 : Int32)) hx hb dL_law_346 (by decide) ?_
          exact l_ret Z hAs Z.2.2.1 hS B dL_law_347 h
      replace h := if_f h c17_3
      by_cases c17_4 : (x16 &&& (63 : Int32)) = (4 : Int32)
      · refine h_tsw (k := (4 : Int32)) (off := 308) (tgt := 348) Z dL_law_40 c17_4 (by decide) (by decide) rfl (by decide) ?_
        have h := if_t h c17_4
        refine lv_aload_n hx hb dL_law_348 rfl (lv_at hl 1 rfl) ?_
        refine lv_aload_n hx hb dL_law_349 rfl (lv_at hl 0 rfl) ?_
        refine lv_iload hx hb dL_law_350 (lv_at hl 4 rfl) ?_
        refine lv_iconst (v := (1 : Int32)) hx hb dL_law_352 (by decide) ?_
        refine lv_iadd hx hb dL_law_353 ?_
        refine h_sld Z hX hbl hbA hS dL_law_354 h (fun x62 h => ?_)
        refine lv_aload_n hx hb dL_law_355 rfl (lv_at hl 0 rfl) ?_
        refine lv_iload hx hb dL_law_356 (lv_at hl 4 rfl) ?_
        refine lv_iconst (v := (2 : Int32)) hx hb dL_law_358 (by decide) ?_
        refine lv_iadd hx hb dL_law_359 ?_
        refine h_sld Z hX hbl hbA hS dL_law_360 h (fun x63 h => ?_)
        refine lv_aload_n hx hb dL_law_361 rfl (lv_at hl 0 rfl) ?_
        refine lv_iload hx hb dL_law_362 (lv_at hl 4 rfl) ?_
        refine lv_iconst (v := (3 : Int32)) hx hb dL_law_364 (by decide) ?_
        refine lv_iadd hx hb dL_law_365 ?_
        refine h_sld Z hX hbl hbA hS dL_law_366 h (fun x64 h => ?_)
        refine h_ci hS h (fun z hz => h_rV (rest := []) Z hS hu1 rfl v_X0_38 (w_X1_celled hu1 hz) rfl rfl ⟨Nat.le_of_ble_eq_true rfl, Nat.le_of_ble_eq_true rfl⟩ rfl hl.1 rfl (Nat.le_of_ble_eq_true rfl) B.cl B.sl dL_law_367) (fun x65 H locs hS h => ?_)
        refine lv_aload_n hx hb dL_law_370 rfl (lv_at hl 2 rfl) ?_
        refine lv_aload_n hx hb dL_law_371 rfl (lv_at hl 0 rfl) ?_
        refine lv_iload hx hb dL_law_372 (lv_at hl 4 rfl) ?_
        refine lv_iconst (v := (1 : Int32)) hx hb dL_law_374 (by decide) ?_
        refine lv_iadd hx hb dL_law_375 ?_
        refine h_sld Z hX hbl hbA hS dL_law_376 h (fun x66 h => ?_)
        refine lv_aload_n hx hb dL_law_377 rfl (lv_at hl 0 rfl) ?_
        refine lv_iload hx hb dL_law_378 (lv_at hl 4 rfl) ?_
        refine lv_iconst (v := (2 : Int32)) hx hb dL_law_380 (by decide) ?_
        refine lv_iadd hx hb dL_law_381 ?_
        refine h_sld Z hX hbl hbA hS dL_law_382 h (fun x67 h => ?_)
        refine lv_aload_n hx hb dL_law_383 rfl (lv_at hl 0 rfl) ?_
        refine lv_iload hx hb dL_law_384 (lv_at hl 4 rfl) ?_
        refine lv_iconst (v := (3 : Int32)) hx hb dL_law_386 (by decide) ?_
        refine lv_iadd hx hb dL_law_387 ?_
        refine h_sld Z hX hbl hbA hS dL_law_388 h (fun x68 h => ?_)
        refine h_ci hS h (fun z hz => h_rV (rest := [.int x65]) Z hS hu2 rfl v_X0_41 (w_X6_celled hu2 hz) rfl rfl ⟨Nat.le_of_ble_eq_true rfl, Nat.le_of_ble_eq_true rfl⟩ rfl hl.1 rfl (Nat.le_of_ble_eq_true rfl) B.cl B.sl dL_law_389) (fun x69 H locs hS h => ?_)
        refine lv_icmp_eq (tgt := 1591) hx hb dL_law_392 (by decide) (fun c70 => ?_) (fun c70 => ?_)
        · have h := if_t h c70
          refine lv_iinc (v := (v4 + (9 : Int32))) (lv' := [(4, .int (v4 + (9 : Int32))), (0, .ref b), (1, .ref (ad1 0)), (2, .ref (ad1 200)), (3, .ref (ad1 300))]) hx hb dL_law_1591 hl (k := 4) rfl rfl (by decide) rfl (fun ls hl => ?_)
          refine lv_goto (tgt := 23) hx hb dL_law_1594 (by decide) ?_
          exact ih _ _ _ _ _ _ _ _ _ G hu1 hu2 hu3 hS B (lv_sub hl [1, 2, 3, 4, 0] rfl) h
        · have h := if_f h c70
          refine lv_iconst (v := (0 : Int32)) hx hb dL_law_395 (by decide) ?_
          exact l_ret Z hAs Z.2.2.1 hS B dL_law_396 h
      replace h := if_f h c17_4
      by_cases c17_5 : (x16 &&& (63 : Int32)) = (5 : Int32)
      · refine h_tsw (k := (5 : Int32)) (off := 357) (tgt := 397) Z dL_law_40 c17_5 (by decide) (by decide) rfl (by decide) ?_
        have h := if_t h c17_5
        refine lv_aload_n hx hb dL_law_397 rfl (lv_at hl 1 rfl) ?_
        refine lv_aload_n hx hb dL_law_398 rfl (lv_at hl 0 rfl) ?_
        refine lv_iload hx hb dL_law_399 (lv_at hl 4 rfl) ?_
        refine lv_iconst (v := (1 : Int32)) hx hb dL_law_401 (by decide) ?_
        refine lv_iadd hx hb dL_law_402 ?_
        refine h_sld Z hX hbl hbA hS dL_law_403 h (fun x71 h => ?_)
        refine lv_aload_n hx hb dL_law_404 rfl (lv_at hl 0 rfl) ?_
        refine lv_iload hx hb dL_law_405 (lv_at hl 4 rfl) ?_
        refine lv_iconst (v := (2 : Int32)) hx hb dL_law_407 (by decide) ?_
        refine lv_iadd hx hb dL_law_408 ?_
        refine h_sld Z hX hbl hbA hS dL_law_409 h (fun x72 h => ?_)
        refine lv_aload_n hx hb dL_law_410 rfl (lv_at hl 0 rfl) ?_
        refine lv_iload hx hb dL_law_411 (lv_at hl 4 rfl) ?_
        refine lv_iconst (v := (3 : Int32)) hx hb dL_law_413 (by decide) ?_
        refine lv_iadd hx hb dL_law_414 ?_
        refine h_sld Z hX hbl hbA hS dL_law_415 h (fun x73 h => ?_)
        refine lv_aload_n hx hb dL_law_416 rfl (lv_at hl 0 rfl) ?_
        refine lv_iload hx hb dL_law_417 (lv_at hl 4 rfl) ?_
        refine lv_iconst (v := (4 : Int32)) hx hb dL_law_419 (by decide) ?_
        refine lv_iadd hx hb dL_law_420 ?_
        refine h_sld Z hX hbl hbA hS dL_law_421 h (fun x74 h => ?_)
        refine h_ci hS h (fun z hz => h_rV (rest := []) Z hS hu1 rfl v_X0_42 (w_X1_held hu1 hz) rfl rfl ⟨Nat.le_of_ble_eq_true rfl, Nat.le_of_ble_eq_true rfl⟩ rfl hl.1 rfl (Nat.le_of_ble_eq_true rfl) B.cl B.sl dL_law_422) (fun x75 H locs hS h => ?_)
        refine lv_aload_n hx hb dL_law_425 rfl (lv_at hl 2 rfl) ?_
        refine lv_aload_n hx hb dL_law_426 rfl (lv_at hl 0 rfl) ?_
        refine lv_iload hx hb dL_law_427 (lv_at hl 4 rfl) ?_
        refine lv_iconst (v := (1 : Int32)) hx hb dL_law_429 (by decide) ?_
        refine lv_iadd hx hb dL_law_430 ?_
        refine h_sld Z hX hbl hbA hS dL_law_431 h (fun x76 h => ?_)
        refine lv_aload_n hx hb dL_law_432 rfl (lv_at hl 0 rfl) ?_
        refine lv_iload hx hb dL_law_433 (lv_at hl 4 rfl) ?_
        refine lv_iconst (v := (2 : Int32)) hx hb dL_law_435 (by decide) ?_
        refine lv_iadd hx hb dL_law_436 ?_
        refine h_sld Z hX hbl hbA hS dL_law_437 h (fun x77 h => ?_)
        refine lv_aload_n hx hb dL_law_438 rfl (lv_at hl 0 rfl) ?_
        refine lv_iload hx hb dL_law_439 (lv_at hl 4 rfl) ?_
        refine lv_iconst (v := (3 : Int32)) hx hb dL_law_441 (by decide) ?_
        refine lv_iadd hx hb dL_law_442 ?_
        refine h_sld Z hX hbl hbA hS dL_law_443 h (fun x78 h => ?_)
        refine lv_aload_n hx hb dL_law_444 rfl (lv_at hl 0 rfl) ?_
        refine lv_iload hx hb dL_law_445 (lv_at hl 4 rfl) ?_
        refine lv_iconst (v := (4 : Int32)) hx hb dL_law_447 (by decide) ?_
        refine lv_iadd hx hb dL_law_448 ?_
        refine h_sld Z hX hbl hbA hS dL_law_449 h (fun x79 h => ?_)
        refine h_ci hS h (fun z hz => h_rV (rest := [.int x75]) Z hS hu2 rfl v_X0_46 (w_X6_held hu2 hz) rfl rfl ⟨Nat.le_of_ble_eq_true rfl, Nat.le_of_ble_eq_true rfl⟩ rfl hl.1 rfl (Nat.le_of_ble_eq_true rfl) B.cl B.sl dL_law_450) (fun x80 H locs hS h => ?_)
        refine lv_icmp_eq (tgt := 1591) hx hb dL_law_453 (by decide) (fun c81 => ?_) (fun c81 => ?_)
        · have h := if_t h c81
          refine lv_iinc (v := (v4 + (9 : Int32))) (lv' := [(4, .int (v4 + (9 : Int32))), (0, .ref b), (1, .ref (ad1 0)), (2, .ref (ad1 200)), (3, .ref (ad1 300))]) hx hb dL_law_1591 hl (k := 4) rfl rfl (by decide) rfl (fun ls hl => ?_)
          refine lv_goto (tgt := 23) hx hb dL_law_1594 (by decide) ?_
          exact ih _ _ _ _ _ _ _ _ _ G hu1 hu2 hu3 hS B (lv_sub hl [1, 2, 3, 4, 0] rfl) h
        · have h := if_f h c81
          refine lv_iconst (v := (0 : Int32)) hx hb dL_law_456 (by decide) ?_
          exact l_ret Z hAs Z.2.2.1 hS B dL_law_457 h
      replace h := if_f h c17_5
      by_cases c17_6 : (x16 &&& (63 : Int32)) = (6 : Int32)
      · refine h_tsw (k := (6 : Int32)) (off := 418) (tgt := 458) Z dL_law_40 c17_6 (by decide) (by decide) rfl (by decide) ?_
        have h := if_t h c17_6
        refine lv_aload_n hx hb dL_law_458 rfl (lv_at hl 1 rfl) ?_
        refine lv_aload_n hx hb dL_law_459 rfl (lv_at hl 0 rfl) ?_
        refine lv_iload hx hb dL_law_460 (lv_at hl 4 rfl) ?_
        refine lv_iconst (v := (1 : Int32)) hx hb dL_law_462 (by decide) ?_
        refine lv_iadd hx hb dL_law_463 ?_
        refine h_sld Z hX hbl hbA hS dL_law_464 h (fun x82 h => ?_)
        refine lv_aload_n hx hb dL_law_465 rfl (lv_at hl 0 rfl) ?_
        refine lv_iload hx hb dL_law_466 (lv_at hl 4 rfl) ?_
        refine lv_iconst (v := (2 : Int32)) hx hb dL_law_468 (by decide) ?_
        refine lv_iadd hx hb dL_law_469 ?_
        refine h_sld Z hX hbl hbA hS dL_law_470 h (fun x83 h => ?_)
        refine h_ci hS h (fun z hz => h_rV (rest := []) Z hS hu1 rfl v_X0_47 (w_X1_told hu1 hz) rfl rfl ⟨Nat.le_of_ble_eq_true rfl, Nat.le_of_ble_eq_true rfl⟩ rfl hl.1 rfl (Nat.le_of_ble_eq_true rfl) B.cl B.sl dL_law_471) (fun x84 H locs hS h => ?_)
        refine lv_aload_n hx hb dL_law_474 rfl (lv_at hl 2 rfl) ?_
        refine lv_aload_n hx hb dL_law_475 rfl (lv_at hl 0 rfl) ?_
        refine lv_iload hx hb dL_law_476 (lv_at hl 4 rfl) ?_
        refine lv_iconst (v := (1 : Int32)) hx hb dL_law_478 (by decide) ?_
        refine lv_iadd hx hb dL_law_479 ?_
        refine h_sld Z hX hbl hbA hS dL_law_480 h (fun x85 h => ?_)
        refine lv_aload_n hx hb dL_law_481 rfl (lv_at hl 0 rfl) ?_
        refine lv_iload hx hb dL_law_482 (lv_at hl 4 rfl) ?_
        refine lv_iconst (v := (2 : Int32)) hx hb dL_law_484 (by decide) ?_
        refine lv_iadd hx hb dL_law_485 ?_
        refine h_sld Z hX hbl hbA hS dL_law_486 h (fun x86 h => ?_)
        refine h_ci hS h (fun z hz => h_rV (rest := [.int x84]) Z hS hu2 rfl v_X0_51 (w_X6_told hu2 hz) rfl rfl ⟨Nat.le_of_ble_eq_true rfl, Nat.le_of_ble_eq_true rfl⟩ rfl hl.1 rfl (Nat.le_of_ble_eq_true rfl) B.cl B.sl dL_law_487) (fun x87 H locs hS h => ?_)
        refine lv_icmp_eq (tgt := 1591) hx hb dL_law_490 (by decide) (fun c88 => ?_) (fun c88 => ?_)
        · have h := if_t h c88
          refine lv_iinc (v := (v4 + (9 : Int32))) (lv' := [(4, .int (v4 + (9 : Int32))), (0, .ref b), (1, .ref (ad1 0)), (2, .ref (ad1 200)), (3, .ref (ad1 300))]) hx hb dL_law_1591 hl (k := 4) rfl rfl (by decide) rfl (fun ls hl => ?_)
          refine lv_goto (tgt := 23) hx hb dL_law_1594 (by decide) ?_
          exact ih _ _ _ _ _ _ _ _ _ G hu1 hu2 hu3 hS B (lv_sub hl [1, 2, 3, 4, 0] rfl) h
        · have h := if_f h c88
          refine lv_iconst (v := (0 : Int32)) hx hb dL_law_493 (by decide) ?_
          exact l_ret Z hAs Z.2.2.1 hS B dL_law_494 h
      replace h := if_f h c17_6
      by_cases c17_7 : (x16 &&& (63 : Int32)) = (7 : Int32)
      · refine h_tsw (k := (7 : Int32)) (off := 455) (tgt := 495) Z dL_law_40 c17_7 (by decide) (by decide) rfl (by decide) ?_
        have h := if_t h c17_7
        refine lv_aload_n hx hb dL_law_495 rfl (lv_at hl 1 rfl) ?_
        refine lv_aload_n hx hb dL_law_496 rfl (lv_at hl 0 rfl) ?_
        refine lv_iload hx hb dL_law_497 (lv_at hl 4 rfl) ?_
        refine lv_iconst (v := (1 : Int32)) hx hb dL_law_499 (by decide) ?_
        refine lv_iadd hx hb dL_law_500 ?_
        refine h_sld Z hX hbl hbA hS dL_law_501 h (fun x89 h => ?_)
        refine lv_aload_n hx hb dL_law_502 rfl (lv_at hl 0 rfl) ?_
        refine lv_iload hx hb dL_law_503 (lv_at hl 4 rfl) ?_
        refine lv_iconst (v := (2 : Int32)) hx hb dL_law_505 (by decide) ?_
        refine lv_iadd hx hb dL_law_506 ?_
        refine h_sld Z hX hbl hbA hS dL_law_507 h (fun x90 h => ?_)
        refine h_ci hS h (fun z hz => h_rV (rest := []) Z hS hu1 rfl v_X0_52 (w_X1_push hu1 hz) rfl rfl ⟨Nat.le_of_ble_eq_true rfl, Nat.le_of_ble_eq_true rfl⟩ rfl hl.1 rfl (Nat.le_of_ble_eq_true rfl) B.cl B.sl dL_law_508) (fun x91 H locs hS h => ?_)
        refine lv_aload_n hx hb dL_law_511 rfl (lv_at hl 2 rfl) ?_
        refine lv_aload_n hx hb dL_law_512 rfl (lv_at hl 0 rfl) ?_
        refine lv_iload hx hb dL_law_513 (lv_at hl 4 rfl) ?_
        refine lv_iconst (v := (1 : Int32)) hx hb dL_law_515 (by decide) ?_
        refine lv_iadd hx hb dL_law_516 ?_
        refine h_sld Z hX hbl hbA hS dL_law_517 h (fun x92 h => ?_)
        refine lv_aload_n hx hb dL_law_518 rfl (lv_at hl 0 rfl) ?_
        refine lv_iload hx hb dL_law_519 (lv_at hl 4 rfl) ?_
        refine lv_iconst (v := (2 : Int32)) hx hb dL_law_521 (by decide) ?_
        refine lv_iadd hx hb dL_law_522 ?_
        refine h_sld Z hX hbl hbA hS dL_law_523 h (fun x93 h => ?_)
        refine h_ci hS h (fun z hz => h_rV (rest := [.int x91]) Z hS hu2 rfl v_X0_55 (w_X6_push hu2 hz) rfl rfl ⟨Nat.le_of_ble_eq_true rfl, Nat.le_of_ble_eq_true rfl⟩ rfl hl.1 rfl (Nat.le_of_ble_eq_true rfl) B.cl B.sl dL_law_524) (fun x94 H locs hS h => ?_)
        refine lv_icmp_eq (tgt := 1591) hx hb dL_law_527 (by decide) (fun c95 => ?_) (fun c95 => ?_)
        · have h := if_t h c95
          refine lv_iinc (v := (v4 + (9 : Int32))) (lv' := [(4, .int (v4 + (9 : Int32))), (0, .ref b), (1, .ref (ad1 0)), (2, .ref (ad1 200)), (3, .ref (ad1 300))]) hx hb dL_law_1591 hl (k := 4) rfl rfl (by decide) rfl (fun ls hl => ?_)
          refine lv_goto (tgt := 23) hx hb dL_law_1594 (by decide) ?_
          exact ih _ _ _ _ _ _ _ _ _ G hu1 hu2 hu3 hS B (lv_sub hl [1, 2, 3, 4, 0] rfl) h
        · have h := if_f h c95
          refine lv_iconst (v := (0 : Int32)) hx hb dL_law_530 (by decide) ?_
          exact l_ret Z hAs Z.2.2.1 hS B dL_law_531 h
      replace h := if_f h c17_7
      by_cases c17_8 : (x16 &&& (63 : Int32)) = (8 : Int32)
      · refine h_tsw (k := (8 : Int32)) (off := 492) (tgt := 532) Z dL_law_40 c17_8 (by decide) (by decide) rfl (by decide) ?_
        have h := if_t h c17_8
        refine lv_aload_n hx hb dL_law_532 rfl (lv_at hl 1 rfl) ?_
        refine lv_aload_n hx hb dL_law_533 rfl (lv_at hl 0 rfl) ?_
        refine lv_iload hx hb dL_law_534 (lv_at hl 4 rfl) ?_
        refine lv_iconst (v := (1 : Int32)) hx hb dL_law_536 (by decide) ?_
        refine lv_iadd hx hb dL_law_537 ?_
        refine h_sld Z hX hbl hbA hS dL_law_538 h (fun x96 h => ?_)
        refine lv_aload_n hx hb dL_law_539 rfl (lv_at hl 0 rfl) ?_
        refine lv_iload hx hb dL_law_540 (lv_at hl 4 rfl) ?_
        refine lv_iconst (v := (2 : Int32)) hx hb dL_law_542 (by decide) ?_
        refine lv_iadd hx hb dL_law_543 ?_
        refine h_sld Z hX hbl hbA hS dL_law_544 h (fun x97 h => ?_)
        refine lv_aload_n hx hb dL_law_545 rfl (lv_at hl 0 rfl) ?_
        refine lv_iload hx hb dL_law_546 (lv_at hl 4 rfl) ?_
        refine lv_iconst (v := (3 : Int32)) hx hb dL_law_548 (by decide) ?_
        refine lv_iadd hx hb dL_law_549 ?_
        refine h_sld Z hX hbl hbA hS dL_law_550 h (fun x98 h => ?_)
        refine lv_aload_n hx hb dL_law_551 rfl (lv_at hl 0 rfl) ?_
        refine lv_iload hx hb dL_law_552 (lv_at hl 4 rfl) ?_
        refine lv_iconst (v := (4 : Int32)) hx hb dL_law_554 (by decide) ?_
        refine lv_iadd hx hb dL_law_555 ?_
        refine h_sld Z hX hbl hbA hS dL_law_556 h (fun x99 h => ?_)
        refine lv_aload_n hx hb dL_law_557 rfl (lv_at hl 0 rfl) ?_
        refine lv_iload hx hb dL_law_558 (lv_at hl 4 rfl) ?_
        refine lv_iconst (v := (5 : Int32)) hx hb dL_law_560 (by decide) ?_
        refine lv_iadd hx hb dL_law_561 ?_
        refine h_sld Z hX hbl hbA hS dL_law_562 h (fun x100 h => ?_)
        refine h_cim hS h (fun z hz => h_rV (rest := []) Z hS hu1 rfl v_X0_56 (w_X1_feed hu1 hz) rfl rfl ⟨Nat.le_of_ble_eq_true rfl, Nat.le_of_ble_eq_true rfl⟩ rfl hl.1 rfl (Nat.le_of_ble_eq_true rfl) B.cl B.sl dL_law_563) (fun σ101 x102 H locs hS h => ?_)
        refine lv_aload_n hx hb dL_law_566 rfl (lv_at hl 2 rfl) ?_
        refine lv_aload_n hx hb dL_law_567 rfl (lv_at hl 0 rfl) ?_
        refine lv_iload hx hb dL_law_568 (lv_at hl 4 rfl) ?_
        refine lv_iconst (v := (1 : Int32)) hx hb dL_law_570 (by decide) ?_
        refine lv_iadd hx hb dL_law_571 ?_
        refine h_sld Z hX hbl hbA hS dL_law_572 h (fun x103 h => ?_)
        refine lv_aload_n hx hb dL_law_573 rfl (lv_at hl 0 rfl) ?_
        refine lv_iload hx hb dL_law_574 (lv_at hl 4 rfl) ?_
        refine lv_iconst (v := (2 : Int32)) hx hb dL_law_576 (by decide) ?_
        refine lv_iadd hx hb dL_law_577 ?_
        refine h_sld Z hX hbl hbA hS dL_law_578 h (fun x104 h => ?_)
        refine lv_aload_n hx hb dL_law_579 rfl (lv_at hl 0 rfl) ?_
        refine lv_iload hx hb dL_law_580 (lv_at hl 4 rfl) ?_
        refine lv_iconst (v := (3 : Int32)) hx hb dL_law_582 (by decide) ?_
        refine lv_iadd hx hb dL_law_583 ?_
        refine h_sld Z hX hbl hbA hS dL_law_584 h (fun x105 h => ?_)
        refine lv_aload_n hx hb dL_law_585 rfl (lv_at hl 0 rfl) ?_
        refine lv_iload hx hb dL_law_586 (lv_at hl 4 rfl) ?_
        refine lv_iconst (v := (4 : Int32)) hx hb dL_law_588 (by decide) ?_
        refine lv_iadd hx hb dL_law_589 ?_
        refine h_sld Z hX hbl hbA hS dL_law_590 h (fun x106 h => ?_)
        refine lv_aload_n hx hb dL_law_591 rfl (lv_at hl 0 rfl) ?_
        refine lv_iload hx hb dL_law_592 (lv_at hl 4 rfl) ?_
        refine lv_iconst (v := (5 : Int32)) hx hb dL_law_594 (by decide) ?_
        refine lv_iadd hx hb dL_law_595 ?_
        refine h_sld Z hX hbl hbA hS dL_law_596 h (fun x107 h => ?_)
        refine h_cim hS h (fun z hz => h_rV (rest := [.int x102]) Z hS hu2 rfl v_X0_60 (w_X6_feed hu2 hz) rfl rfl ⟨Nat.le_of_ble_eq_true rfl, Nat.le_of_ble_eq_true rfl⟩ rfl hl.1 rfl (Nat.le_of_ble_eq_true rfl) B.cl B.sl dL_law_597) (fun σ108 x109 H locs hS h => ?_)
        refine lv_icmp_eq (tgt := 1591) hx hb dL_law_600 (by decide) (fun c110 => ?_) (fun c110 => ?_)
        · have h := if_t h c110
          refine lv_iinc (v := (v4 + (9 : Int32))) (lv' := [(4, .int (v4 + (9 : Int32))), (0, .ref b), (1, .ref (ad1 0)), (2, .ref (ad1 200)), (3, .ref (ad1 300))]) hx hb dL_law_1591 hl (k := 4) rfl rfl (by decide) rfl (fun ls hl => ?_)
          refine lv_goto (tgt := 23) hx hb dL_law_1594 (by decide) ?_
          exact ih _ _ _ _ _ _ _ _ _ G hu1 hu2 hu3 hS B (lv_sub hl [1, 2, 3, 4, 0] rfl) h
        · have h := if_f h c110
          refine lv_iconst (v := (0 : Int32)) hx hb dL_law_603 (by decide) ?_
          exact l_ret Z hAs Z.2.2.1 hS B dL_law_604 h
      replace h := if_f h c17_8
      by_cases c17_9 : (x16 &&& (63 : Int32)) = (9 : Int32)
      · refine h_tsw (k := (9 : Int32)) (off := 565) (tgt := 605) Z dL_law_40 c17_9 (by decide) (by decide) rfl (by decide) ?_
        have h := if_t h c17_9
        refine lv_aload_n hx hb dL_law_605 rfl (lv_at hl 1 rfl) ?_
        refine lv_aload_n hx hb dL_law_606 rfl (lv_at hl 0 rfl) ?_
        refine lv_iload hx hb dL_law_607 (lv_at hl 4 rfl) ?_
        refine lv_iconst (v := (1 : Int32)) hx hb dL_law_609 (by decide) ?_
        refine lv_iadd hx hb dL_law_610 ?_
        refine h_sld Z hX hbl hbA hS dL_law_611 h (fun x111 h => ?_)
        refine h_cim hS h (fun z hz => h_rV (rest := []) Z hS hu1 rfl v_X0_61 (w_X1_end hu1 hz) rfl rfl ⟨Nat.le_of_ble_eq_true rfl, Nat.le_of_ble_eq_true rfl⟩ rfl hl.1 rfl (Nat.le_of_ble_eq_true rfl) B.cl B.sl dL_law_612) (fun σ112 x113 H locs hS h => ?_)
        refine lv_aload_n hx hb dL_law_615 rfl (lv_at hl 2 rfl) ?_
        refine lv_aload_n hx hb dL_law_616 rfl (lv_at hl 0 rfl) ?_
        refine lv_iload hx hb dL_law_617 (lv_at hl 4 rfl) ?_
        refine lv_iconst (v := (1 : Int32)) hx hb dL_law_619 (by decide) ?_
        refine lv_iadd hx hb dL_law_620 ?_
        refine h_sld Z hX hbl hbA hS dL_law_621 h (fun x114 h => ?_)
        refine h_cim hS h (fun z hz => h_rV (rest := [.int x113]) Z hS hu2 rfl v_X0_65 (w_X6_end hu2 hz) rfl rfl ⟨Nat.le_of_ble_eq_true rfl, Nat.le_of_ble_eq_true rfl⟩ rfl hl.1 rfl (Nat.le_of_ble_eq_true rfl) B.cl B.sl dL_law_622) (fun σ115 x116 H locs hS h => ?_)
        refine lv_icmp_eq (tgt := 1591) hx hb dL_law_625 (by decide) (fun c117 => ?_) (fun c117 => ?_)
        · have h := if_t h c117
          refine lv_iinc (v := (v4 + (9 : Int32))) (lv' := [(4, .int (v4 + (9 : Int32))), (0, .ref b), (1, .ref (ad1 0)), (2, .ref (ad1 200)), (3, .ref (ad1 300))]) hx hb dL_law_1591 hl (k := 4) rfl rfl (by decide) rfl (fun ls hl => ?_)
          refine lv_goto (tgt := 23) hx hb dL_law_1594 (by decide) ?_
          exact ih _ _ _ _ _ _ _ _ _ G hu1 hu2 hu3 hS B (lv_sub hl [1, 2, 3, 4, 0] rfl) h
        · have h := if_f h c117
          refine lv_iconst (v := (0 : Int32)) hx hb dL_law_628 (by decide) ?_
          exact l_ret Z hAs Z.2.2.1 hS B dL_law_629 h
      replace h := if_f h c17_9
      by_cases c17_10 : (x16 &&& (63 : Int32)) = (10 : Int32)
      · refine h_tsw (k := (10 : Int32)) (off := 590) (tgt := 630) Z dL_law_40 c17_10 (by decide) (by decide) rfl (by decide) ?_
        have h := if_t h c17_10
        refine lv_aload_n hx hb dL_law_630 rfl (lv_at hl 1 rfl) ?_
        refine a_callL (av := [.ref (ad1 0)]) (rest := []) Z hS B (en_VW (rest := []) Z hS hu1 rfl q504 q505 q506 q507 ⟨by decide, by decide⟩ (by decide +kernel) rfl rfl dL_law_631) (lw_methW q507) ⟨Nat.le_of_ble_eq_true rfl, Nat.le_of_ble_eq_true rfl⟩ hl.1 (Nat.le_of_ble_eq_true rfl) dL_law_631 h (fun z hz => w_X1_fault B.2.2.2.2.1 B.2.2.2.2.2 hu1 hz) (fun σ118 τ118 x119 ad118 H locs cl sl g118 hS B h => ?_)
        have G := G.trans g118
        have ea120 := g118.ad hu1
        replace hu1 := g118.sh hu1
        have ea121 := g118.ad hu2
        replace hu2 := g118.sh hu2
        have ea122 := g118.ad hu3
        replace hu3 := g118.sha hu3 (by decide)
        replace hl : lv_has ls 7 [(0, .ref b), (1, .ref (ad118 0)), (2, .ref (ad118 200)), (3, .ref (ad118 300)), (4, .int v4)] := by rw [ea120, ea121, ea122]; exact hl
        refine lv_aload_n hx hb dL_law_634 rfl (lv_at hl 2 rfl) ?_
        refine h_cim hS h (fun z hz => h_rV (rest := [.int x119]) Z hS hu2 rfl v_X0_69 (w_X6_fault hu2 hz) rfl rfl ⟨Nat.le_of_ble_eq_true rfl, Nat.le_of_ble_eq_true rfl⟩ rfl hl.1 rfl (Nat.le_of_ble_eq_true rfl) B.cl B.sl dL_law_635) (fun σ123 x124 H locs hS h => ?_)
        refine lv_icmp_eq (tgt := 1591) hx hb dL_law_638 (by decide) (fun c125 => ?_) (fun c125 => ?_)
        · have h := if_t h c125
          refine lv_iinc (v := (v4 + (9 : Int32))) (lv' := [(4, .int (v4 + (9 : Int32))), (0, .ref b), (1, .ref (ad118 0)), (2, .ref (ad118 200)), (3, .ref (ad118 300))]) hx hb dL_law_1591 hl (k := 4) rfl rfl (by decide) rfl (fun ls hl => ?_)
          refine lv_goto (tgt := 23) hx hb dL_law_1594 (by decide) ?_
          exact ih _ _ _ _ _ _ _ _ _ G hu1 hu2 hu3 hS B (lv_sub hl [1, 2, 3, 4, 0] rfl) h
        · have h := if_f h c125
          refine lv_iconst (v := (0 : Int32)) hx hb dL_law_641 (by decide) ?_
          exact l_ret Z hAs Z.2.2.1 hS B dL_law_642 h
      replace h := if_f h c17_10
      by_cases c17_11 : (x16 &&& (63 : Int32)) = (11 : Int32)
      · refine h_tsw (k := (11 : Int32)) (off := 603) (tgt := 643) Z dL_law_40 c17_11 (by decide) (by decide) rfl (by decide) ?_
        have h := if_t h c17_11
        refine lv_aload_n hx hb dL_law_643 rfl (lv_at hl 1 rfl) ?_
        refine a_callL (av := [.ref (ad1 0)]) (rest := []) Z hS B (en_VW (rest := []) Z hS hu1 rfl q869 q870 q871 q872 ⟨by decide, by decide⟩ (by decide +kernel) rfl rfl dL_law_644) (lw_methW q872) ⟨Nat.le_of_ble_eq_true rfl, Nat.le_of_ble_eq_true rfl⟩ hl.1 (Nat.le_of_ble_eq_true rfl) dL_law_644 h (fun z hz => w_X1_rules B.2.2.2.2.1 B.2.2.2.2.2 hu1 hz) (fun σ126 τ126 x127 ad126 H locs cl sl g126 hS B h => ?_)
        have G := G.trans g126
        have ea128 := g126.ad hu1
        replace hu1 := g126.sh hu1
        have ea129 := g126.ad hu2
        replace hu2 := g126.sh hu2
        have ea130 := g126.ad hu3
        replace hu3 := g126.sha hu3 (by decide)
        replace hl : lv_has ls 7 [(0, .ref b), (1, .ref (ad126 0)), (2, .ref (ad126 200)), (3, .ref (ad126 300)), (4, .int v4)] := by rw [ea128, ea129, ea130]; exact hl
        refine lv_aload_n hx hb dL_law_647 rfl (lv_at hl 2 rfl) ?_
        refine h_cim hS h (fun z hz => h_rV (rest := [.int x127]) Z hS hu2 rfl v_X0_73 (w_X6_rules hu2 hz) rfl rfl ⟨Nat.le_of_ble_eq_true rfl, Nat.le_of_ble_eq_true rfl⟩ rfl hl.1 rfl (Nat.le_of_ble_eq_true rfl) B.cl B.sl dL_law_648) (fun σ131 x132 H locs hS h => ?_)
        refine lv_icmp_eq (tgt := 1591) hx hb dL_law_651 (by decide) (fun c133 => ?_) (fun c133 => ?_)
        · have h := if_t h c133
          refine lv_iinc (v := (v4 + (9 : Int32))) (lv' := [(4, .int (v4 + (9 : Int32))), (0, .ref b), (1, .ref (ad126 0)), (2, .ref (ad126 200)), (3, .ref (ad126 300))]) hx hb dL_law_1591 hl (k := 4) rfl rfl (by decide) rfl (fun ls hl => ?_)
          refine lv_goto (tgt := 23) hx hb dL_law_1594 (by decide) ?_
          exact ih _ _ _ _ _ _ _ _ _ G hu1 hu2 hu3 hS B (lv_sub hl [1, 2, 3, 4, 0] rfl) h
        · have h := if_f h c133
          refine lv_iconst (v := (0 : Int32)) hx hb dL_law_654 (by decide) ?_
          exact l_ret Z hAs Z.2.2.1 hS B dL_law_655 h
      replace h := if_f h c17_11
      by_cases c17_12 : (x16 &&& (63 : Int32)) = (12 : Int32)
      · refine h_tsw (k := (12 : Int32)) (off := 616) (tgt := 656) Z dL_law_40 c17_12 (by decide) (by decide) rfl (by decide) ?_
        have h := if_t h c17_12
        refine lv_aload_n hx hb dL_law_656 rfl (lv_at hl 1 rfl) ?_
        refine lv_aload_n hx hb dL_law_657 rfl (lv_at hl 0 rfl) ?_
        refine lv_iload hx hb dL_law_658 (lv_at hl 4 rfl) ?_
        refine lv_iconst (v := (1 : Int32)) hx hb dL_law_660 (by decide) ?_
        refine lv_iadd hx hb dL_law_661 ?_
        refine h_sld Z hX hbl hbA hS dL_law_662 h (fun x134 h => ?_)
        refine lv_aload_n hx hb dL_law_663 rfl (lv_at hl 0 rfl) ?_
        refine lv_iload hx hb dL_law_664 (lv_at hl 4 rfl) ?_
        refine lv_iconst (v := (2 : Int32)) hx hb dL_law_666 (by decide) ?_
        refine lv_iadd hx hb dL_law_667 ?_
        refine h_sld Z hX hbl hbA hS dL_law_668 h (fun x135 h => ?_)
        refine h_cim hS h (fun z hz => h_rV (rest := []) Z hS hu1 rfl v_X0_74 (w_X1_rule hu1 hz) rfl rfl ⟨Nat.le_of_ble_eq_true rfl, Nat.le_of_ble_eq_true rfl⟩ rfl hl.1 rfl (Nat.le_of_ble_eq_true rfl) B.cl B.sl dL_law_669) (fun σ136 x137 H locs hS h => ?_)
        refine lv_aload_n hx hb dL_law_672 rfl (lv_at hl 2 rfl) ?_
        refine lv_aload_n hx hb dL_law_673 rfl (lv_at hl 0 rfl) ?_
        refine lv_iload hx hb dL_law_674 (lv_at hl 4 rfl) ?_
        refine lv_iconst (v := (1 : Int32)) hx hb dL_law_676 (by decide) ?_
        refine lv_iadd hx hb dL_law_677 ?_
        refine h_sld Z hX hbl hbA hS dL_law_678 h (fun x138 h => ?_)
        refine lv_aload_n hx hb dL_law_679 rfl (lv_at hl 0 rfl) ?_
        refine lv_iload hx hb dL_law_680 (lv_at hl 4 rfl) ?_
        refine lv_iconst (v := (2 : Int32)) hx hb dL_law_682 (by decide) ?_
        refine lv_iadd hx hb dL_law_683 ?_
        refine h_sld Z hX hbl hbA hS dL_law_684 h (fun x139 h => ?_)
        refine h_cim hS h (fun z hz => h_rV (rest := [.int x137]) Z hS hu2 rfl v_X0_78 (w_X6_rule hu2 hz) rfl rfl ⟨Nat.le_of_ble_eq_true rfl, Nat.le_of_ble_eq_true rfl⟩ rfl hl.1 rfl (Nat.le_of_ble_eq_true rfl) B.cl B.sl dL_law_685) (fun σ140 x141 H locs hS h => ?_)
        refine lv_icmp_eq (tgt := 1591) hx hb dL_law_688 (by decide) (fun c142 => ?_) (fun c142 => ?_)
        · have h := if_t h c142
          refine lv_iinc (v := (v4 + (9 : Int32))) (lv' := [(4, .int (v4 + (9 : Int32))), (0, .ref b), (1, .ref (ad1 0)), (2, .ref (ad1 200)), (3, .ref (ad1 300))]) hx hb dL_law_1591 hl (k := 4) rfl rfl (by decide) rfl (fun ls hl => ?_)
          refine lv_goto (tgt := 23) hx hb dL_law_1594 (by decide) ?_
          exact ih _ _ _ _ _ _ _ _ _ G hu1 hu2 hu3 hS B (lv_sub hl [1, 2, 3, 4, 0] rfl) h
        · have h := if_f h c142
          refine lv_iconst (v := (0 : Int32)) hx hb dL_law_691 (by decide) ?_
          exact l_ret Z hAs Z.2.2.1 hS B dL_law_692 h
      replace h := if_f h c17_12
      by_cases c17_13 : (x16 &&& (63 : Int32)) = (13 : Int32)
      · refine h_tsw (k := (13 : Int32)) (off := 653) (tgt := 693) Z dL_law_40 c17_13 (by decide) (by decide) rfl (by decide) ?_
        have h := if_t h c17_13
        refine lv_aload_n hx hb dL_law_693 rfl (lv_at hl 1 rfl) ?_
        refine lv_aload_n hx hb dL_law_694 rfl (lv_at hl 0 rfl) ?_
        refine lv_iload hx hb dL_law_695 (lv_at hl 4 rfl) ?_
        refine lv_iconst (v := (1 : Int32)) hx hb dL_law_697 (by decide) ?_
        refine lv_iadd hx hb dL_law_698 ?_
        refine h_sld Z hX hbl hbA hS dL_law_699 h (fun x143 h => ?_)
        refine lv_aload_n hx hb dL_law_700 rfl (lv_at hl 0 rfl) ?_
        refine lv_iload hx hb dL_law_701 (lv_at hl 4 rfl) ?_
        refine lv_iconst (v := (2 : Int32)) hx hb dL_law_703 (by decide) ?_
        refine lv_iadd hx hb dL_law_704 ?_
        refine h_sld Z hX hbl hbA hS dL_law_705 h (fun x144 h => ?_)
        refine lv_aload_n hx hb dL_law_706 rfl (lv_at hl 0 rfl) ?_
        refine lv_iload hx hb dL_law_707 (lv_at hl 4 rfl) ?_
        refine lv_iconst (v := (3 : Int32)) hx hb dL_law_709 (by decide) ?_
        refine lv_iadd hx hb dL_law_710 ?_
        refine h_sld Z hX hbl hbA hS dL_law_711 h (fun x145 h => ?_)
        refine lv_aload_n hx hb dL_law_712 rfl (lv_at hl 0 rfl) ?_
        refine lv_iload hx hb dL_law_713 (lv_at hl 4 rfl) ?_
        refine lv_iconst (v := (4 : Int32)) hx hb dL_law_715 (by decide) ?_
        refine lv_iadd hx hb dL_law_716 ?_
        refine h_sld Z hX hbl hbA hS dL_law_717 h (fun x146 h => ?_)
        refine lv_aload_n hx hb dL_law_718 rfl (lv_at hl 0 rfl) ?_
        refine lv_iload hx hb dL_law_719 (lv_at hl 4 rfl) ?_
        refine lv_iconst (v := (5 : Int32)) hx hb dL_law_721 (by decide) ?_
        refine lv_iadd hx hb dL_law_722 ?_
        refine h_sld Z hX hbl hbA hS dL_law_723 h (fun x147 h => ?_)
        refine lv_aload_n hx hb dL_law_724 rfl (lv_at hl 0 rfl) ?_
        refine lv_iload hx hb dL_law_725 (lv_at hl 4 rfl) ?_
        refine lv_bipush (v := (6 : Int32)) hx hb dL_law_727 (by decide) ?_
        refine lv_iadd hx hb dL_law_729 ?_
        refine h_sld Z hX hbl hbA hS dL_law_730 h (fun x148 h => ?_)
        refine lv_aload_n hx hb dL_law_731 rfl (lv_at hl 0 rfl) ?_
        refine lv_iload hx hb dL_law_732 (lv_at hl 4 rfl) ?_
        refine lv_bipush (v := (7 : Int32)) hx hb dL_law_734 (by decide) ?_
        refine lv_iadd hx hb dL_law_736 ?_
        refine h_sld Z hX hbl hbA hS dL_law_737 h (fun x149 h => ?_)
        refine lv_aload_n hx hb dL_law_738 rfl (lv_at hl 0 rfl) ?_
        refine lv_iload hx hb dL_law_739 (lv_at hl 4 rfl) ?_
        refine lv_bipush (v := (8 : Int32)) hx hb dL_law_741 (by decide) ?_
        refine lv_iadd hx hb dL_law_743 ?_
        refine h_sld Z hX hbl hbA hS dL_law_744 h (fun x150 h => ?_)
        refine lv_aload_n hx hb dL_law_745 rfl (lv_at hl 3 rfl) ?_
        refine a_callL (av := [.ref (ad1 0), .int x143, .int x144, .int x145, .int x146, .int x147, .int x148, .int x149, .int x150, .ref (ad1 300)]) (rest := []) Z hS B (en_SW (n := 10) (rest := []) Z q1148 q1149 q75 q1150 ⟨by decide, by decide⟩ (by decide +kernel) rfl rfl dL_law_746) (lw_methW q1150) ⟨Nat.le_of_ble_eq_true rfl, Nat.le_of_ble_eq_true rfl⟩ hl.1 (Nat.le_of_ble_eq_true rfl) dL_law_746 h (fun z hz => w_X0_worth htr B.2.2.2.2.1 B.2.2.2.2.2 hu1 hu3 hz) (fun σ151 τ151 x152 ad151 H locs cl sl g151 hS B h => ?_)
        have G := G.trans g151
        have ea153 := g151.ad hu1
        replace hu1 := g151.sh hu1
        have ea154 := g151.ad hu2
        replace hu2 := g151.sh hu2
        have ea155 := g151.ad hu3
        replace hu3 := g151.sha hu3 (by decide)
        replace hl : lv_has ls 7 [(0, .ref b), (1, .ref (ad151 0)), (2, .ref (ad151 200)), (3, .ref (ad151 300)), (4, .int v4)] := by rw [ea153, ea154, ea155]; exact hl
        refine lv_istore (lv' := [(5, .int x152), (0, .ref b), (1, .ref (ad151 0)), (2, .ref (ad151 200)), (3, .ref (ad151 300)), (4, .int v4)]) hx hb dL_law_749 hl (by decide) rfl (fun ls hl => ?_)
        refine lv_aload_n hx hb dL_law_751 rfl (lv_at hl 3 rfl) ?_
        refine lv_aload_n hx hb dL_law_752 rfl (lv_at hl 1 rfl) ?_
        refine lv_iload hx hb dL_law_753 (lv_at hl 5 rfl) ?_
        refine lv_iconst (v := (1 : Int32)) hx hb dL_law_755 (by decide) ?_
        refine lv_iadd hx hb dL_law_756 ?_
        refine h_sld Z hX hbl hbA hS dL_law_757 h (fun x156 h => ?_)
        refine lv_aload_n hx hb dL_law_758 rfl (lv_at hl 1 rfl) ?_
        refine lv_iload hx hb dL_law_759 (lv_at hl 5 rfl) ?_
        refine lv_iconst (v := (2 : Int32)) hx hb dL_law_761 (by decide) ?_
        refine lv_iadd hx hb dL_law_762 ?_
        refine h_sld Z hX hbl hbA hS dL_law_763 h (fun x157 h => ?_)
        refine lv_aload_n hx hb dL_law_764 rfl (lv_at hl 1 rfl) ?_
        refine lv_iload hx hb dL_law_765 (lv_at hl 5 rfl) ?_
        refine lv_iconst (v := (3 : Int32)) hx hb dL_law_767 (by decide) ?_
        refine lv_iadd hx hb dL_law_768 ?_
        refine h_sld Z hX hbl hbA hS dL_law_769 h (fun x158 h => ?_)
        refine lv_aload_n hx hb dL_law_770 rfl (lv_at hl 1 rfl) ?_
        refine lv_iload hx hb dL_law_771 (lv_at hl 5 rfl) ?_
        refine lv_iconst (v := (4 : Int32)) hx hb dL_law_773 (by decide) ?_
        refine lv_iadd hx hb dL_law_774 ?_
        refine h_sld Z hX hbl hbA hS dL_law_775 h (fun x159 h => ?_)
        refine lv_aload_n hx hb dL_law_776 rfl (lv_at hl 1 rfl) ?_
        refine lv_iload hx hb dL_law_777 (lv_at hl 5 rfl) ?_
        refine lv_iconst (v := (5 : Int32)) hx hb dL_law_779 (by decide) ?_
        refine lv_iadd hx hb dL_law_780 ?_
        refine h_sld Z hX hbl hbA hS dL_law_781 h (fun x160 h => ?_)
        refine lv_aload_n hx hb dL_law_782 rfl (lv_at hl 1 rfl) ?_
        refine lv_iload hx hb dL_law_783 (lv_at hl 5 rfl) ?_
        refine lv_bipush (v := (6 : Int32)) hx hb dL_law_785 (by decide) ?_
        refine lv_iadd hx hb dL_law_787 ?_
        refine h_sld Z hX hbl hbA hS dL_law_788 h (fun x161 h => ?_)
        refine lv_aload_n hx hb dL_law_789 rfl (lv_at hl 1 rfl) ?_
        refine lv_iload hx hb dL_law_790 (lv_at hl 5 rfl) ?_
        refine lv_bipush (v := (7 : Int32)) hx hb dL_law_792 (by decide) ?_
        refine lv_iadd hx hb dL_law_794 ?_
        refine h_sld Z hX hbl hbA hS dL_law_795 h (fun x162 h => ?_)
        refine lv_aload_n hx hb dL_law_796 rfl (lv_at hl 1 rfl) ?_
        refine lv_iload hx hb dL_law_797 (lv_at hl 5 rfl) ?_
        refine lv_bipush (v := (8 : Int32)) hx hb dL_law_799 (by decide) ?_
        refine lv_iadd hx hb dL_law_801 ?_
        refine h_sld Z hX hbl hbA hS dL_law_802 h (fun x163 h => ?_)
        refine h_cim hS h (fun z hz => h_rV (rest := []) Z hS hu2 rfl v_X0_84 (w_X6_worth hu2 hz) rfl rfl ⟨Nat.le_of_ble_eq_true rfl, Nat.le_of_ble_eq_true rfl⟩ rfl hl.1 rfl (Nat.le_of_ble_eq_true rfl) B.cl B.sl dL_law_803) (fun σ164 x165 H locs hS h => ?_)
        refine lv_istore (lv' := [(6, .int x165), (5, .int x152), (0, .ref b), (1, .ref (ad151 0)), (2, .ref (ad151 200)), (3, .ref (ad151 300)), (4, .int v4)]) hx hb dL_law_806 hl (by decide) rfl (fun ls hl => ?_)
        refine lv_aload_n hx hb dL_law_808 rfl (lv_at hl 4 rfl) ?_
        refine h_ci hS h (fun z hz => h_rV (rest := []) Z hS hu2 rfl v_X0_85 (w_X6_thrown hu2 hz) rfl rfl ⟨Nat.le_of_ble_eq_true rfl, Nat.le_of_ble_eq_true rfl⟩ rfl hl.1 rfl (Nat.le_of_ble_eq_true rfl) B.cl B.sl dL_law_809) (fun x166 H locs hS h => ?_)
        refine lv_iload hx hb dL_law_812 (lv_at hl 1 rfl) ?_
        refine lv_icmp_eq (tgt := 819) hx hb dL_law_814 (by decide) (fun c167 => ?_) (fun c167 => ?_)
        · have h := if_t h c167
          refine lv_iload hx hb dL_law_819 (lv_at hl 1 rfl) ?_
          refine lv_if_ne (tgt := 836) hx hb dL_law_821 (by decide) (fun c168 => ?_) (fun c168 => ?_)
          · have h := if_f h c168
            refine lv_goto (tgt := 1591) hx hb dL_law_836 (by decide) ?_
            refine lv_iinc (v := (v4 + (9 : Int32))) (lv' := [(4, .int (v4 + (9 : Int32))), (6, .int x165), (5, .int x152), (0, .ref b), (1, .ref (ad151 0)), (2, .ref (ad151 200)), (3, .ref (ad151 300))]) hx hb dL_law_1591 hl (k := 6) rfl rfl (by decide) rfl (fun ls hl => ?_)
            refine lv_goto (tgt := 23) hx hb dL_law_1594 (by decide) ?_
            exact ih _ _ _ _ _ _ _ _ _ G hu1 hu2 hu3 hS B (lv_sub hl [3, 4, 5, 6, 0] rfl) h
          · have h := if_t h c168
            refine lv_aload_n hx hb dL_law_824 rfl (lv_at hl 5 rfl) ?_
            refine lv_iconst (v := (0 : Int32)) hx hb dL_law_825 (by decide) ?_
            refine h_lald Z hS hu3 dL_law_826 h (fun y169 h => ?_)
            refine lv_iload hx hb dL_law_827 (lv_at hl 0 rfl) ?_
            refine lv_i2l hx hb dL_law_829 rfl ?_
            refine y_lcmp_eq (tgt := 836) hx hb dL_law_830 dL_law_831 (by decide) (fun c170 => ?_) (fun c170 => ?_)
            · have h := if_t h c170
              refine lv_goto (tgt := 1591) hx hb dL_law_836 (by decide) ?_
              refine lv_iinc (v := (v4 + (9 : Int32))) (lv' := [(4, .int (v4 + (9 : Int32))), (6, .int x165), (5, .int x152), (0, .ref b), (1, .ref (ad151 0)), (2, .ref (ad151 200)), (3, .ref (ad151 300))]) hx hb dL_law_1591 hl (k := 6) rfl rfl (by decide) rfl (fun ls hl => ?_)
              refine lv_goto (tgt := 23) hx hb dL_law_1594 (by decide) ?_
              exact ih _ _ _ _ _ _ _ _ _ G hu1 hu2 hu3 hS B (lv_sub hl [3, 4, 5, 6, 0] rfl) h
            · have h := if_f h c170
              refine lv_iconst (v := (0 : Int32)) hx hb dL_law_834 (by decide) ?_
              exact l_ret Z hAs Z.2.2.1 hS B dL_law_835 h
        · have h := if_f h c167
          refine lv_iconst (v := (0 : Int32)) hx hb dL_law_817 (by decide) ?_
          exact l_ret Z hAs Z.2.2.1 hS B dL_law_818 h
      replace h := if_f h c17_13
      by_cases c17_14 : (x16 &&& (63 : Int32)) = (14 : Int32)
      · refine h_tsw (k := (14 : Int32)) (off := 799) (tgt := 839) Z dL_law_40 c17_14 (by decide) (by decide) rfl (by decide) ?_
        have h := if_t h c17_14
        refine lv_aload_n hx hb dL_law_839 rfl (lv_at hl 1 rfl) ?_
        refine lv_aload_n hx hb dL_law_840 rfl (lv_at hl 0 rfl) ?_
        refine lv_iload hx hb dL_law_841 (lv_at hl 4 rfl) ?_
        refine lv_iconst (v := (1 : Int32)) hx hb dL_law_843 (by decide) ?_
        refine lv_iadd hx hb dL_law_844 ?_
        refine h_sld Z hX hbl hbA hS dL_law_845 h (fun x171 h => ?_)
        refine h_cim hS h (fun z hz => h_rV (rest := []) Z hS hu1 rfl v_X0_88 (w_X1_stream hu1 hz) rfl rfl ⟨Nat.le_of_ble_eq_true rfl, Nat.le_of_ble_eq_true rfl⟩ rfl hl.1 rfl (Nat.le_of_ble_eq_true rfl) B.cl B.sl dL_law_846) (fun σ172 x173 H locs hS h => ?_)
        refine lv_aload_n hx hb dL_law_849 rfl (lv_at hl 2 rfl) ?_
        refine lv_aload_n hx hb dL_law_850 rfl (lv_at hl 0 rfl) ?_
        refine lv_iload hx hb dL_law_851 (lv_at hl 4 rfl) ?_
        refine lv_iconst (v := (1 : Int32)) hx hb dL_law_853 (by decide) ?_
        refine lv_iadd hx hb dL_law_854 ?_
        refine h_sld Z hX hbl hbA hS dL_law_855 h (fun x174 h => ?_)
        refine h_cim hS h (fun z hz => h_rV (rest := [.int x173]) Z hS hu2 rfl v_X0_91 (w_X6_stream hu2 hz) rfl rfl ⟨Nat.le_of_ble_eq_true rfl, Nat.le_of_ble_eq_true rfl⟩ rfl hl.1 rfl (Nat.le_of_ble_eq_true rfl) B.cl B.sl dL_law_856) (fun σ175 x176 H locs hS h => ?_)
        refine lv_icmp_eq (tgt := 1591) hx hb dL_law_859 (by decide) (fun c177 => ?_) (fun c177 => ?_)
        · have h := if_t h c177
          refine lv_iinc (v := (v4 + (9 : Int32))) (lv' := [(4, .int (v4 + (9 : Int32))), (0, .ref b), (1, .ref (ad1 0)), (2, .ref (ad1 200)), (3, .ref (ad1 300))]) hx hb dL_law_1591 hl (k := 4) rfl rfl (by decide) rfl (fun ls hl => ?_)
          refine lv_goto (tgt := 23) hx hb dL_law_1594 (by decide) ?_
          exact ih _ _ _ _ _ _ _ _ _ G hu1 hu2 hu3 hS B (lv_sub hl [1, 2, 3, 4, 0] rfl) h
        · have h := if_f h c177
          refine lv_iconst (v := (0 : Int32)) hx hb dL_law_862 (by decide) ?_
          exact l_ret Z hAs Z.2.2.1 hS B dL_law_863 h
      replace h := if_f h c17_14
      by_cases c17_15 : (x16 &&& (63 : Int32)) = (15 : Int32)
      · refine h_tsw (k := (15 : Int32)) (off := 824) (tgt := 864) Z dL_law_40 c17_15 (by decide) (by decide) rfl (by decide) ?_
        have h := if_t h c17_15
        refine lv_aload_n hx hb dL_law_864 rfl (lv_at hl 1 rfl) ?_
        refine lv_aload_n hx hb dL_law_865 rfl (lv_at hl 0 rfl) ?_
        refine lv_iload hx hb dL_law_866 (lv_at hl 4 rfl) ?_
        refine lv_iconst (v := (1 : Int32)) hx hb dL_law_868 (by decide) ?_
        refine lv_iadd hx hb dL_law_869 ?_
        refine h_sld Z hX hbl hbA hS dL_law_870 h (fun x178 h => ?_)
        refine lv_aload_n hx hb dL_law_871 rfl (lv_at hl 0 rfl) ?_
        refine lv_iload hx hb dL_law_872 (lv_at hl 4 rfl) ?_
        refine lv_iconst (v := (2 : Int32)) hx hb dL_law_874 (by decide) ?_
        refine lv_iadd hx hb dL_law_875 ?_
        refine h_sld Z hX hbl hbA hS dL_law_876 h (fun x179 h => ?_)
        refine h_cim hS h (fun z hz => h_rV (rest := []) Z hS hu1 rfl v_X0_92 (w_X1_come hu1 hz) rfl rfl ⟨Nat.le_of_ble_eq_true rfl, Nat.le_of_ble_eq_true rfl⟩ rfl hl.1 rfl (Nat.le_of_ble_eq_true rfl) B.cl B.sl dL_law_877) (fun σ180 x181 H locs hS h => ?_)
        refine lv_aload_n hx hb dL_law_880 rfl (lv_at hl 2 rfl) ?_
        refine lv_aload_n hx hb dL_law_881 rfl (lv_at hl 0 rfl) ?_
        refine lv_iload hx hb dL_law_882 (lv_at hl 4 rfl) ?_
        refine lv_iconst (v := (1 : Int32)) hx hb dL_law_884 (by decide) ?_
        refine lv_iadd hx hb dL_law_885 ?_
        refine h_sld Z hX hbl hbA hS dL_law_886 h (fun x182 h => ?_)
        refine lv_aload_n hx hb dL_law_887 rfl (lv_at hl 0 rfl) ?_
        refine lv_iload hx hb dL_law_888 (lv_at hl 4 rfl) ?_
        refine lv_iconst (v := (2 : Int32)) hx hb dL_law_890 (by decide) ?_
        refine lv_iadd hx hb dL_law_891 ?_
        refine h_sld Z hX hbl hbA hS dL_law_892 h (fun x183 h => ?_)
        refine h_cim hS h (fun z hz => h_rV (rest := [.int x181]) Z hS hu2 rfl v_X0_95 (w_X6_come hu2 hz) rfl rfl ⟨Nat.le_of_ble_eq_true rfl, Nat.le_of_ble_eq_true rfl⟩ rfl hl.1 rfl (Nat.le_of_ble_eq_true rfl) B.cl B.sl dL_law_893) (fun σ184 x185 H locs hS h => ?_)
        refine lv_icmp_eq (tgt := 1591) hx hb dL_law_896 (by decide) (fun c186 => ?_) (fun c186 => ?_)
        · have h := if_t h c186
          refine lv_iinc (v := (v4 + (9 : Int32))) (lv' := [(4, .int (v4 + (9 : Int32))), (0, .ref b), (1, .ref (ad1 0)), (2, .ref (ad1 200)), (3, .ref (ad1 300))]) hx hb dL_law_1591 hl (k := 4) rfl rfl (by decide) rfl (fun ls hl => ?_)
          refine lv_goto (tgt := 23) hx hb dL_law_1594 (by decide) ?_
          exact ih _ _ _ _ _ _ _ _ _ G hu1 hu2 hu3 hS B (lv_sub hl [1, 2, 3, 4, 0] rfl) h
        · have h := if_f h c186
          refine lv_iconst (v := (0 : Int32)) hx hb dL_law_899 (by decide) ?_
          exact l_ret Z hAs Z.2.2.1 hS B dL_law_900 h
      replace h := if_f h c17_15
      by_cases c17_16 : (x16 &&& (63 : Int32)) = (16 : Int32)
      · refine h_tsw (k := (16 : Int32)) (off := 861) (tgt := 901) Z dL_law_40 c17_16 (by decide) (by decide) rfl (by decide) ?_
        have h := if_t h c17_16
        refine lv_aload_n hx hb dL_law_901 rfl (lv_at hl 1 rfl) ?_
        refine lv_aload_n hx hb dL_law_902 rfl (lv_at hl 0 rfl) ?_
        refine lv_iload hx hb dL_law_903 (lv_at hl 4 rfl) ?_
        refine lv_iconst (v := (1 : Int32)) hx hb dL_law_905 (by decide) ?_
        refine lv_iadd hx hb dL_law_906 ?_
        refine h_sld Z hX hbl hbA hS dL_law_907 h (fun x187 h => ?_)
        refine h_cim hS h (fun z hz => h_rV (rest := []) Z hS hu1 rfl v_X0_96 (w_X1_hours hu1 hz) rfl rfl ⟨Nat.le_of_ble_eq_true rfl, Nat.le_of_ble_eq_true rfl⟩ rfl hl.1 rfl (Nat.le_of_ble_eq_true rfl) B.cl B.sl dL_law_908) (fun σ188 x189 H locs hS h => ?_)
        refine lv_aload_n hx hb dL_law_911 rfl (lv_at hl 2 rfl) ?_
        refine lv_aload_n hx hb dL_law_912 rfl (lv_at hl 0 rfl) ?_
        refine lv_iload hx hb dL_law_913 (lv_at hl 4 rfl) ?_
        refine lv_iconst (v := (1 : Int32)) hx hb dL_law_915 (by decide) ?_
        refine lv_iadd hx hb dL_law_916 ?_
        refine h_sld Z hX hbl hbA hS dL_law_917 h (fun x190 h => ?_)
        refine h_cim hS h (fun z hz => h_rV (rest := [.int x189]) Z hS hu2 rfl v_X0_100 (w_X6_hours hu2 hz) rfl rfl ⟨Nat.le_of_ble_eq_true rfl, Nat.le_of_ble_eq_true rfl⟩ rfl hl.1 rfl (Nat.le_of_ble_eq_true rfl) B.cl B.sl dL_law_918) (fun σ191 x192 H locs hS h => ?_)
        refine lv_icmp_eq (tgt := 1591) hx hb dL_law_921 (by decide) (fun c193 => ?_) (fun c193 => ?_)
        · have h := if_t h c193
          refine lv_iinc (v := (v4 + (9 : Int32))) (lv' := [(4, .int (v4 + (9 : Int32))), (0, .ref b), (1, .ref (ad1 0)), (2, .ref (ad1 200)), (3, .ref (ad1 300))]) hx hb dL_law_1591 hl (k := 4) rfl rfl (by decide) rfl (fun ls hl => ?_)
          refine lv_goto (tgt := 23) hx hb dL_law_1594 (by decide) ?_
          exact ih _ _ _ _ _ _ _ _ _ G hu1 hu2 hu3 hS B (lv_sub hl [1, 2, 3, 4, 0] rfl) h
        · have h := if_f h c193
          refine lv_iconst (v := (0 : Int32)) hx hb dL_law_924 (by decide) ?_
          exact l_ret Z hAs Z.2.2.1 hS B dL_law_925 h
      replace h := if_f h c17_16
      by_cases c17_17 : (x16 &&& (63 : Int32)) = (17 : Int32)
      · refine h_tsw (k := (17 : Int32)) (off := 886) (tgt := 926) Z dL_law_40 c17_17 (by decide) (by decide) rfl (by decide) ?_
        have h := if_t h c17_17
        refine lv_aload_n hx hb dL_law_926 rfl (lv_at hl 1 rfl) ?_
        refine lv_aload_n hx hb dL_law_927 rfl (lv_at hl 0 rfl) ?_
        refine lv_iload hx hb dL_law_928 (lv_at hl 4 rfl) ?_
        refine lv_iconst (v := (1 : Int32)) hx hb dL_law_930 (by decide) ?_
        refine lv_iadd hx hb dL_law_931 ?_
        refine h_sld Z hX hbl hbA hS dL_law_932 h (fun x194 h => ?_)
        refine lv_aload_n hx hb dL_law_933 rfl (lv_at hl 0 rfl) ?_
        refine lv_iload hx hb dL_law_934 (lv_at hl 4 rfl) ?_
        refine lv_iconst (v := (2 : Int32)) hx hb dL_law_936 (by decide) ?_
        refine lv_iadd hx hb dL_law_937 ?_
        refine h_sld Z hX hbl hbA hS dL_law_938 h (fun x195 h => ?_)
        refine h_cim hS h (fun z hz => h_rV (rest := []) Z hS hu1 rfl v_X0_101 (w_X1_hand hu1 hz) rfl rfl ⟨Nat.le_of_ble_eq_true rfl, Nat.le_of_ble_eq_true rfl⟩ rfl hl.1 rfl (Nat.le_of_ble_eq_true rfl) B.cl B.sl dL_law_939) (fun σ196 x197 H locs hS h => ?_)
        refine lv_aload_n hx hb dL_law_942 rfl (lv_at hl 2 rfl) ?_
        refine lv_aload_n hx hb dL_law_943 rfl (lv_at hl 0 rfl) ?_
        refine lv_iload hx hb dL_law_944 (lv_at hl 4 rfl) ?_
        refine lv_iconst (v := (1 : Int32)) hx hb dL_law_946 (by decide) ?_
        refine lv_iadd hx hb dL_law_947 ?_
        refine h_sld Z hX hbl hbA hS dL_law_948 h (fun x198 h => ?_)
        refine lv_aload_n hx hb dL_law_949 rfl (lv_at hl 0 rfl) ?_
        refine lv_iload hx hb dL_law_950 (lv_at hl 4 rfl) ?_
        refine lv_iconst (v := (2 : Int32)) hx hb dL_law_952 (by decide) ?_
        refine lv_iadd hx hb dL_law_953 ?_
        refine h_sld Z hX hbl hbA hS dL_law_954 h (fun x199 h => ?_)
        refine h_cim hS h (fun z hz => h_rV (rest := [.int x197]) Z hS hu2 rfl v_X0_104 (w_X6_hand hu2 hz) rfl rfl ⟨Nat.le_of_ble_eq_true rfl, Nat.le_of_ble_eq_true rfl⟩ rfl hl.1 rfl (Nat.le_of_ble_eq_true rfl) B.cl B.sl dL_law_955) (fun σ200 x201 H locs hS h => ?_)
        refine lv_icmp_eq (tgt := 1591) hx hb dL_law_958 (by decide) (fun c202 => ?_) (fun c202 => ?_)
        · have h := if_t h c202
          refine lv_iinc (v := (v4 + (9 : Int32))) (lv' := [(4, .int (v4 + (9 : Int32))), (0, .ref b), (1, .ref (ad1 0)), (2, .ref (ad1 200)), (3, .ref (ad1 300))]) hx hb dL_law_1591 hl (k := 4) rfl rfl (by decide) rfl (fun ls hl => ?_)
          refine lv_goto (tgt := 23) hx hb dL_law_1594 (by decide) ?_
          exact ih _ _ _ _ _ _ _ _ _ G hu1 hu2 hu3 hS B (lv_sub hl [1, 2, 3, 4, 0] rfl) h
        · have h := if_f h c202
          refine lv_iconst (v := (0 : Int32)) hx hb dL_law_961 (by decide) ?_
          exact l_ret Z hAs Z.2.2.1 hS B dL_law_962 h
      replace h := if_f h c17_17
      by_cases c17_18 : (x16 &&& (63 : Int32)) = (18 : Int32)
      · refine h_tsw (k := (18 : Int32)) (off := 923) (tgt := 963) Z dL_law_40 c17_18 (by decide) (by decide) rfl (by decide) ?_
        have h := if_t h c17_18
        refine lv_aload_n hx hb dL_law_963 rfl (lv_at hl 1 rfl) ?_
        refine lv_aload_n hx hb dL_law_964 rfl (lv_at hl 0 rfl) ?_
        refine lv_iload hx hb dL_law_965 (lv_at hl 4 rfl) ?_
        refine lv_iconst (v := (1 : Int32)) hx hb dL_law_967 (by decide) ?_
        refine lv_iadd hx hb dL_law_968 ?_
        refine h_sld Z hX hbl hbA hS dL_law_969 h (fun x203 h => ?_)
        refine lv_aload_n hx hb dL_law_970 rfl (lv_at hl 0 rfl) ?_
        refine lv_iload hx hb dL_law_971 (lv_at hl 4 rfl) ?_
        refine lv_iconst (v := (2 : Int32)) hx hb dL_law_973 (by decide) ?_
        refine lv_iadd hx hb dL_law_974 ?_
        refine h_sld Z hX hbl hbA hS dL_law_975 h (fun x204 h => ?_)
        refine lv_aload_n hx hb dL_law_976 rfl (lv_at hl 0 rfl) ?_
        refine lv_iload hx hb dL_law_977 (lv_at hl 4 rfl) ?_
        refine lv_iconst (v := (3 : Int32)) hx hb dL_law_979 (by decide) ?_
        refine lv_iadd hx hb dL_law_980 ?_
        refine h_sld Z hX hbl hbA hS dL_law_981 h (fun x205 h => ?_)
        refine h_ci hS h (fun z hz => h_rV (rest := []) Z hS hu1 rfl v_X0_105 (w_X1_history hu1 hz) rfl rfl ⟨Nat.le_of_ble_eq_true rfl, Nat.le_of_ble_eq_true rfl⟩ rfl hl.1 rfl (Nat.le_of_ble_eq_true rfl) B.cl B.sl dL_law_982) (fun x206 H locs hS h => ?_)
        refine lv_aload_n hx hb dL_law_985 rfl (lv_at hl 2 rfl) ?_
        refine lv_aload_n hx hb dL_law_986 rfl (lv_at hl 0 rfl) ?_
        refine lv_iload hx hb dL_law_987 (lv_at hl 4 rfl) ?_
        refine lv_iconst (v := (1 : Int32)) hx hb dL_law_989 (by decide) ?_
        refine lv_iadd hx hb dL_law_990 ?_
        refine h_sld Z hX hbl hbA hS dL_law_991 h (fun x207 h => ?_)
        refine lv_aload_n hx hb dL_law_992 rfl (lv_at hl 0 rfl) ?_
        refine lv_iload hx hb dL_law_993 (lv_at hl 4 rfl) ?_
        refine lv_iconst (v := (2 : Int32)) hx hb dL_law_995 (by decide) ?_
        refine lv_iadd hx hb dL_law_996 ?_
        refine h_sld Z hX hbl hbA hS dL_law_997 h (fun x208 h => ?_)
        refine lv_aload_n hx hb dL_law_998 rfl (lv_at hl 0 rfl) ?_
        refine lv_iload hx hb dL_law_999 (lv_at hl 4 rfl) ?_
        refine lv_iconst (v := (3 : Int32)) hx hb dL_law_1001 (by decide) ?_
        refine lv_iadd hx hb dL_law_1002 ?_
        refine h_sld Z hX hbl hbA hS dL_law_1003 h (fun x209 h => ?_)
        refine h_ci hS h (fun z hz => h_rV (rest := [.int x206]) Z hS hu2 rfl v_X0_108 (w_X6_history hu2 hz) rfl rfl ⟨Nat.le_of_ble_eq_true rfl, Nat.le_of_ble_eq_true rfl⟩ rfl hl.1 rfl (Nat.le_of_ble_eq_true rfl) B.cl B.sl dL_law_1004) (fun x210 H locs hS h => ?_)
        refine lv_icmp_eq (tgt := 1591) hx hb dL_law_1007 (by decide) (fun c211 => ?_) (fun c211 => ?_)
        · have h := if_t h c211
          refine lv_iinc (v := (v4 + (9 : Int32))) (lv' := [(4, .int (v4 + (9 : Int32))), (0, .ref b), (1, .ref (ad1 0)), (2, .ref (ad1 200)), (3, .ref (ad1 300))]) hx hb dL_law_1591 hl (k := 4) rfl rfl (by decide) rfl (fun ls hl => ?_)
          refine lv_goto (tgt := 23) hx hb dL_law_1594 (by decide) ?_
          exact ih _ _ _ _ _ _ _ _ _ G hu1 hu2 hu3 hS B (lv_sub hl [1, 2, 3, 4, 0] rfl) h
        · have h := if_f h c211
          refine lv_iconst (v := (0 : Int32)) hx hb dL_law_1010 (by decide) ?_
          exact l_ret Z hAs Z.2.2.1 hS B dL_law_1011 h
      replace h := if_f h c17_18
      by_cases c17_19 : (x16 &&& (63 : Int32)) = (19 : Int32)
      · refine h_tsw (k := (19 : Int32)) (off := 972) (tgt := 1012) Z dL_law_40 c17_19 (by decide) (by decide) rfl (by decide) ?_
        have h := if_t h c17_19
        refine lv_aload_n hx hb dL_law_1012 rfl (lv_at hl 1 rfl) ?_
        refine lv_aload_n hx hb dL_law_1013 rfl (lv_at hl 0 rfl) ?_
        refine lv_iload hx hb dL_law_1014 (lv_at hl 4 rfl) ?_
        refine lv_iconst (v := (1 : Int32)) hx hb dL_law_1016 (by decide) ?_
        refine lv_iadd hx hb dL_law_1017 ?_
        refine h_sld Z hX hbl hbA hS dL_law_1018 h (fun x212 h => ?_)
        refine lv_aload_n hx hb dL_law_1019 rfl (lv_at hl 0 rfl) ?_
        refine lv_iload hx hb dL_law_1020 (lv_at hl 4 rfl) ?_
        refine lv_iconst (v := (2 : Int32)) hx hb dL_law_1022 (by decide) ?_
        refine lv_iadd hx hb dL_law_1023 ?_
        refine h_sld Z hX hbl hbA hS dL_law_1024 h (fun x213 h => ?_)
        refine h_ci hS h (fun z hz => h_rV (rest := []) Z hS hu1 rfl v_X0_109 (w_X1_breaks hu1 hz) rfl rfl ⟨Nat.le_of_ble_eq_true rfl, Nat.le_of_ble_eq_true rfl⟩ rfl hl.1 rfl (Nat.le_of_ble_eq_true rfl) B.cl B.sl dL_law_1025) (fun x214 H locs hS h => ?_)
        refine lv_aload_n hx hb dL_law_1028 rfl (lv_at hl 2 rfl) ?_
        refine lv_aload_n hx hb dL_law_1029 rfl (lv_at hl 0 rfl) ?_
        refine lv_iload hx hb dL_law_1030 (lv_at hl 4 rfl) ?_
        refine lv_iconst (v := (1 : Int32)) hx hb dL_law_1032 (by decide) ?_
        refine lv_iadd hx hb dL_law_1033 ?_
        refine h_sld Z hX hbl hbA hS dL_law_1034 h (fun x215 h => ?_)
        refine lv_aload_n hx hb dL_law_1035 rfl (lv_at hl 0 rfl) ?_
        refine lv_iload hx hb dL_law_1036 (lv_at hl 4 rfl) ?_
        refine lv_iconst (v := (2 : Int32)) hx hb dL_law_1038 (by decide) ?_
        refine lv_iadd hx hb dL_law_1039 ?_
        refine h_sld Z hX hbl hbA hS dL_law_1040 h (fun x216 h => ?_)
        refine h_ci hS h (fun z hz => h_rV (rest := [.int x214]) Z hS hu2 rfl v_X0_112 (w_X6_breaks hu2 hz) rfl rfl ⟨Nat.le_of_ble_eq_true rfl, Nat.le_of_ble_eq_true rfl⟩ rfl hl.1 rfl (Nat.le_of_ble_eq_true rfl) B.cl B.sl dL_law_1041) (fun x217 H locs hS h => ?_)
        refine lv_icmp_eq (tgt := 1591) hx hb dL_law_1044 (by decide) (fun c218 => ?_) (fun c218 => ?_)
        · have h := if_t h c218
          refine lv_iinc (v := (v4 + (9 : Int32))) (lv' := [(4, .int (v4 + (9 : Int32))), (0, .ref b), (1, .ref (ad1 0)), (2, .ref (ad1 200)), (3, .ref (ad1 300))]) hx hb dL_law_1591 hl (k := 4) rfl rfl (by decide) rfl (fun ls hl => ?_)
          refine lv_goto (tgt := 23) hx hb dL_law_1594 (by decide) ?_
          exact ih _ _ _ _ _ _ _ _ _ G hu1 hu2 hu3 hS B (lv_sub hl [1, 2, 3, 4, 0] rfl) h
        · have h := if_f h c218
          refine lv_iconst (v := (0 : Int32)) hx hb dL_law_1047 (by decide) ?_
          exact l_ret Z hAs Z.2.2.1 hS B dL_law_1048 h
      replace h := if_f h c17_19
      by_cases c17_20 : (x16 &&& (63 : Int32)) = (20 : Int32)
      · refine h_tsw (k := (20 : Int32)) (off := 1009) (tgt := 1049) Z dL_law_40 c17_20 (by decide) (by decide) rfl (by decide) ?_
        have h := if_t h c17_20
        refine lv_aload_n hx hb dL_law_1049 rfl (lv_at hl 1 rfl) ?_
        refine lv_aload_n hx hb dL_law_1050 rfl (lv_at hl 0 rfl) ?_
        refine lv_iload hx hb dL_law_1051 (lv_at hl 4 rfl) ?_
        refine lv_iconst (v := (1 : Int32)) hx hb dL_law_1053 (by decide) ?_
        refine lv_iadd hx hb dL_law_1054 ?_
        refine h_sld Z hX hbl hbA hS dL_law_1055 h (fun x219 h => ?_)
        refine h_ci hS h (fun z hz => h_rV (rest := []) Z hS hu1 rfl v_X0_113 (w_X1_ripe hu1 hz) rfl rfl ⟨Nat.le_of_ble_eq_true rfl, Nat.le_of_ble_eq_true rfl⟩ rfl hl.1 rfl (Nat.le_of_ble_eq_true rfl) B.cl B.sl dL_law_1056) (fun x220 H locs hS h => ?_)
        refine lv_aload_n hx hb dL_law_1059 rfl (lv_at hl 2 rfl) ?_
        refine lv_aload_n hx hb dL_law_1060 rfl (lv_at hl 0 rfl) ?_
        refine lv_iload hx hb dL_law_1061 (lv_at hl 4 rfl) ?_
        refine lv_iconst (v := (1 : Int32)) hx hb dL_law_1063 (by decide) ?_
        refine lv_iadd hx hb dL_law_1064 ?_
        refine h_sld Z hX hbl hbA hS dL_law_1065 h (fun x221 h => ?_)
        refine h_ci hS h (fun z hz => h_rV (rest := [.int x220]) Z hS hu2 rfl v_X0_116 (w_X6_ripe hu2 hz) rfl rfl ⟨Nat.le_of_ble_eq_true rfl, Nat.le_of_ble_eq_true rfl⟩ rfl hl.1 rfl (Nat.le_of_ble_eq_true rfl) B.cl B.sl dL_law_1066) (fun x222 H locs hS h => ?_)
        refine lv_icmp_eq (tgt := 1591) hx hb dL_law_1069 (by decide) (fun c223 => ?_) (fun c223 => ?_)
        · have h := if_t h c223
          refine lv_iinc (v := (v4 + (9 : Int32))) (lv' := [(4, .int (v4 + (9 : Int32))), (0, .ref b), (1, .ref (ad1 0)), (2, .ref (ad1 200)), (3, .ref (ad1 300))]) hx hb dL_law_1591 hl (k := 4) rfl rfl (by decide) rfl (fun ls hl => ?_)
          refine lv_goto (tgt := 23) hx hb dL_law_1594 (by decide) ?_
          exact ih _ _ _ _ _ _ _ _ _ G hu1 hu2 hu3 hS B (lv_sub hl [1, 2, 3, 4, 0] rfl) h
        · have h := if_f h c223
          refine lv_iconst (v := (0 : Int32)) hx hb dL_law_1072 (by decide) ?_
          exact l_ret Z hAs Z.2.2.1 hS B dL_law_1073 h
      replace h := if_f h c17_20
      by_cases c17_21 : (x16 &&& (63 : Int32)) = (21 : Int32)
      · refine h_tsw (k := (21 : Int32)) (off := 1034) (tgt := 1074) Z dL_law_40 c17_21 (by decide) (by decide) rfl (by decide) ?_
        have h := if_t h c17_21
        refine lv_aload_n hx hb dL_law_1074 rfl (lv_at hl 1 rfl) ?_
        refine lv_aload_n hx hb dL_law_1075 rfl (lv_at hl 0 rfl) ?_
        refine lv_iload hx hb dL_law_1076 (lv_at hl 4 rfl) ?_
        refine lv_iconst (v := (1 : Int32)) hx hb dL_law_1078 (by decide) ?_
        refine lv_iadd hx hb dL_law_1079 ?_
        refine h_sld Z hX hbl hbA hS dL_law_1080 h (fun x224 h => ?_)
        refine lv_aload_n hx hb dL_law_1081 rfl (lv_at hl 0 rfl) ?_
        refine lv_iload hx hb dL_law_1082 (lv_at hl 4 rfl) ?_
        refine lv_iconst (v := (2 : Int32)) hx hb dL_law_1084 (by decide) ?_
        refine lv_iadd hx hb dL_law_1085 ?_
        refine h_sld Z hX hbl hbA hS dL_law_1086 h (fun x225 h => ?_)
        refine lv_aload_n hx hb dL_law_1087 rfl (lv_at hl 0 rfl) ?_
        refine lv_iload hx hb dL_law_1088 (lv_at hl 4 rfl) ?_
        refine lv_iconst (v := (3 : Int32)) hx hb dL_law_1090 (by decide) ?_
        refine lv_iadd hx hb dL_law_1091 ?_
        refine h_sld Z hX hbl hbA hS dL_law_1092 h (fun x226 h => ?_)
        refine lv_aload_n hx hb dL_law_1093 rfl (lv_at hl 0 rfl) ?_
        refine lv_iload hx hb dL_law_1094 (lv_at hl 4 rfl) ?_
        refine lv_iconst (v := (4 : Int32)) hx hb dL_law_1096 (by decide) ?_
        refine lv_iadd hx hb dL_law_1097 ?_
        refine h_sld Z hX hbl hbA hS dL_law_1098 h (fun x227 h => ?_)
        refine h_cl hS h (fun z hz => h_rV (rest := []) Z hS hu1 rfl v_X0_117 (w_X1_share hu1 hz) rfl rfl ⟨Nat.le_of_ble_eq_true rfl, Nat.le_of_ble_eq_true rfl⟩ rfl hl.1 rfl (Nat.le_of_ble_eq_true rfl) B.cl B.sl dL_law_1099) (fun y228 H locs hS h => ?_)
        refine lv_aload_n hx hb dL_law_1102 rfl (lv_at hl 2 rfl) ?_
        refine lv_aload_n hx hb dL_law_1103 rfl (lv_at hl 0 rfl) ?_
        refine lv_iload hx hb dL_law_1104 (lv_at hl 4 rfl) ?_
        refine lv_iconst (v := (1 : Int32)) hx hb dL_law_1106 (by decide) ?_
        refine lv_iadd hx hb dL_law_1107 ?_
        refine h_sld Z hX hbl hbA hS dL_law_1108 h (fun x229 h => ?_)
        refine lv_aload_n hx hb dL_law_1109 rfl (lv_at hl 0 rfl) ?_
        refine lv_iload hx hb dL_law_1110 (lv_at hl 4 rfl) ?_
        refine lv_iconst (v := (2 : Int32)) hx hb dL_law_1112 (by decide) ?_
        refine lv_iadd hx hb dL_law_1113 ?_
        refine h_sld Z hX hbl hbA hS dL_law_1114 h (fun x230 h => ?_)
        refine lv_aload_n hx hb dL_law_1115 rfl (lv_at hl 0 rfl) ?_
        refine lv_iload hx hb dL_law_1116 (lv_at hl 4 rfl) ?_
        refine lv_iconst (v := (3 : Int32)) hx hb dL_law_1118 (by decide) ?_
        refine lv_iadd hx hb dL_law_1119 ?_
        refine h_sld Z hX hbl hbA hS dL_law_1120 h (fun x231 h => ?_)
        refine lv_aload_n hx hb dL_law_1121 rfl (lv_at hl 0 rfl) ?_
        refine lv_iload hx hb dL_law_1122 (lv_at hl 4 rfl) ?_
        refine lv_iconst (v := (4 : Int32)) hx hb dL_law_1124 (by decide) ?_
        refine lv_iadd hx hb dL_law_1125 ?_
        refine h_sld Z hX hbl hbA hS dL_law_1126 h (fun x232 h => ?_)
        refine h_cl hS h (fun z hz => h_rV (rest := [.long y228]) Z hS hu2 rfl v_X0_121 (w_X6_share hu2 hz) rfl rfl ⟨Nat.le_of_ble_eq_true rfl, Nat.le_of_ble_eq_true rfl⟩ rfl hl.1 rfl (Nat.le_of_ble_eq_true rfl) B.cl B.sl dL_law_1127) (fun y233 H locs hS h => ?_)
        refine y_lcmp_eq (tgt := 1591) hx hb dL_law_1130 dL_law_1131 (by decide) (fun c234 => ?_) (fun c234 => ?_)
        · have h := if_t h c234
          refine lv_iinc (v := (v4 + (9 : Int32))) (lv' := [(4, .int (v4 + (9 : Int32))), (0, .ref b), (1, .ref (ad1 0)), (2, .ref (ad1 200)), (3, .ref (ad1 300))]) hx hb dL_law_1591 hl (k := 4) rfl rfl (by decide) rfl (fun ls hl => ?_)
          refine lv_goto (tgt := 23) hx hb dL_law_1594 (by decide) ?_
          exact ih _ _ _ _ _ _ _ _ _ G hu1 hu2 hu3 hS B (lv_sub hl [1, 2, 3, 4, 0] rfl) h
        · have h := if_f h c234
          refine lv_iconst (v := (0 : Int32)) hx hb dL_law_1134 (by decide) ?_
          exact l_ret Z hAs Z.2.2.1 hS B dL_law_1135 h
      replace h := if_f h c17_21
      by_cases c17_22 : (x16 &&& (63 : Int32)) = (22 : Int32)
      · refine h_tsw (k := (22 : Int32)) (off := 1096) (tgt := 1136) Z dL_law_40 c17_22 (by decide) (by decide) rfl (by decide) ?_
        have h := if_t h c17_22
        refine lv_aload_n hx hb dL_law_1136 rfl (lv_at hl 1 rfl) ?_
        refine lv_aload_n hx hb dL_law_1137 rfl (lv_at hl 0 rfl) ?_
        refine lv_iload hx hb dL_law_1138 (lv_at hl 4 rfl) ?_
        refine lv_iconst (v := (1 : Int32)) hx hb dL_law_1140 (by decide) ?_
        refine lv_iadd hx hb dL_law_1141 ?_
        refine h_sld Z hX hbl hbA hS dL_law_1142 h (fun x235 h => ?_)
        refine lv_aload_n hx hb dL_law_1143 rfl (lv_at hl 0 rfl) ?_
        refine lv_iload hx hb dL_law_1144 (lv_at hl 4 rfl) ?_
        refine lv_iconst (v := (2 : Int32)) hx hb dL_law_1146 (by decide) ?_
        refine lv_iadd hx hb dL_law_1147 ?_
        refine h_sld Z hX hbl hbA hS dL_law_1148 h (fun x236 h => ?_)
        refine lv_aload_n hx hb dL_law_1149 rfl (lv_at hl 0 rfl) ?_
        refine lv_iload hx hb dL_law_1150 (lv_at hl 4 rfl) ?_
        refine lv_iconst (v := (3 : Int32)) hx hb dL_law_1152 (by decide) ?_
        refine lv_iadd hx hb dL_law_1153 ?_
        refine h_sld Z hX hbl hbA hS dL_law_1154 h (fun x237 h => ?_)
        refine h_ci hS h (fun z hz => h_rV (rest := []) Z hS hu1 rfl v_X0_122 (w_X1_drops hu1 hz) rfl rfl ⟨Nat.le_of_ble_eq_true rfl, Nat.le_of_ble_eq_true rfl⟩ rfl hl.1 rfl (Nat.le_of_ble_eq_true rfl) B.cl B.sl dL_law_1155) (fun x238 H locs hS h => ?_)
        refine lv_aload_n hx hb dL_law_1158 rfl (lv_at hl 2 rfl) ?_
        refine lv_aload_n hx hb dL_law_1159 rfl (lv_at hl 0 rfl) ?_
        refine lv_iload hx hb dL_law_1160 (lv_at hl 4 rfl) ?_
        refine lv_iconst (v := (1 : Int32)) hx hb dL_law_1162 (by decide) ?_
        refine lv_iadd hx hb dL_law_1163 ?_
        refine h_sld Z hX hbl hbA hS dL_law_1164 h (fun x239 h => ?_)
        refine lv_aload_n hx hb dL_law_1165 rfl (lv_at hl 0 rfl) ?_
        refine lv_iload hx hb dL_law_1166 (lv_at hl 4 rfl) ?_
        refine lv_iconst (v := (2 : Int32)) hx hb dL_law_1168 (by decide) ?_
        refine lv_iadd hx hb dL_law_1169 ?_
        refine h_sld Z hX hbl hbA hS dL_law_1170 h (fun x240 h => ?_)
        refine lv_aload_n hx hb dL_law_1171 rfl (lv_at hl 0 rfl) ?_
        refine lv_iload hx hb dL_law_1172 (lv_at hl 4 rfl) ?_
        refine lv_iconst (v := (3 : Int32)) hx hb dL_law_1174 (by decide) ?_
        refine lv_iadd hx hb dL_law_1175 ?_
        refine h_sld Z hX hbl hbA hS dL_law_1176 h (fun x241 h => ?_)
        refine h_ci hS h (fun z hz => h_rV (rest := [.int x238]) Z hS hu2 rfl v_X0_125 (w_X6_drops hu2 hz) rfl rfl ⟨Nat.le_of_ble_eq_true rfl, Nat.le_of_ble_eq_true rfl⟩ rfl hl.1 rfl (Nat.le_of_ble_eq_true rfl) B.cl B.sl dL_law_1177) (fun x242 H locs hS h => ?_)
        refine lv_icmp_eq (tgt := 1591) hx hb dL_law_1180 (by decide) (fun c243 => ?_) (fun c243 => ?_)
        · have h := if_t h c243
          refine lv_iinc (v := (v4 + (9 : Int32))) (lv' := [(4, .int (v4 + (9 : Int32))), (0, .ref b), (1, .ref (ad1 0)), (2, .ref (ad1 200)), (3, .ref (ad1 300))]) hx hb dL_law_1591 hl (k := 4) rfl rfl (by decide) rfl (fun ls hl => ?_)
          refine lv_goto (tgt := 23) hx hb dL_law_1594 (by decide) ?_
          exact ih _ _ _ _ _ _ _ _ _ G hu1 hu2 hu3 hS B (lv_sub hl [1, 2, 3, 4, 0] rfl) h
        · have h := if_f h c243
          refine lv_iconst (v := (0 : Int32)) hx hb dL_law_1183 (by decide) ?_
          exact l_ret Z hAs Z.2.2.1 hS B dL_law_1184 h
      replace h := if_f h c17_22
      by_cases c17_23 : (x16 &&& (63 : Int32)) = (23 : Int32)
      · refine h_tsw (k := (23 : Int32)) (off := 1145) (tgt := 1185) Z dL_law_40 c17_23 (by decide) (by decide) rfl (by decide) ?_
        have h := if_t h c17_23
        refine lv_aload_n hx hb dL_law_1185 rfl (lv_at hl 1 rfl) ?_
        refine lv_aload_n hx hb dL_law_1186 rfl (lv_at hl 0 rfl) ?_
        refine lv_iload hx hb dL_law_1187 (lv_at hl 4 rfl) ?_
        refine lv_iconst (v := (1 : Int32)) hx hb dL_law_1189 (by decide) ?_
        refine lv_iadd hx hb dL_law_1190 ?_
        refine h_sld Z hX hbl hbA hS dL_law_1191 h (fun x244 h => ?_)
        refine lv_aload_n hx hb dL_law_1192 rfl (lv_at hl 0 rfl) ?_
        refine lv_iload hx hb dL_law_1193 (lv_at hl 4 rfl) ?_
        refine lv_iconst (v := (2 : Int32)) hx hb dL_law_1195 (by decide) ?_
        refine lv_iadd hx hb dL_law_1196 ?_
        refine h_sld Z hX hbl hbA hS dL_law_1197 h (fun x245 h => ?_)
        refine h_cim hS h (fun z hz => h_rV (rest := []) Z hS hu1 rfl v_X0_126 (w_X1_layer hu1 hz) rfl rfl ⟨Nat.le_of_ble_eq_true rfl, Nat.le_of_ble_eq_true rfl⟩ rfl hl.1 rfl (Nat.le_of_ble_eq_true rfl) B.cl B.sl dL_law_1198) (fun σ246 x247 H locs hS h => ?_)
        refine lv_aload_n hx hb dL_law_1201 rfl (lv_at hl 2 rfl) ?_
        refine lv_aload_n hx hb dL_law_1202 rfl (lv_at hl 0 rfl) ?_
        refine lv_iload hx hb dL_law_1203 (lv_at hl 4 rfl) ?_
        refine lv_iconst (v := (1 : Int32)) hx hb dL_law_1205 (by decide) ?_
        refine lv_iadd hx hb dL_law_1206 ?_
        refine h_sld Z hX hbl hbA hS dL_law_1207 h (fun x248 h => ?_)
        refine lv_aload_n hx hb dL_law_1208 rfl (lv_at hl 0 rfl) ?_
        refine lv_iload hx hb dL_law_1209 (lv_at hl 4 rfl) ?_
        refine lv_iconst (v := (2 : Int32)) hx hb dL_law_1211 (by decide) ?_
        refine lv_iadd hx hb dL_law_1212 ?_
        refine h_sld Z hX hbl hbA hS dL_law_1213 h (fun x249 h => ?_)
        refine h_cim hS h (fun z hz => h_rV (rest := [.int x247]) Z hS hu2 rfl v_X0_129 (w_X6_layer hu2 hz) rfl rfl ⟨Nat.le_of_ble_eq_true rfl, Nat.le_of_ble_eq_true rfl⟩ rfl hl.1 rfl (Nat.le_of_ble_eq_true rfl) B.cl B.sl dL_law_1214) (fun σ250 x251 H locs hS h => ?_)
        refine lv_icmp_eq (tgt := 1591) hx hb dL_law_1217 (by decide) (fun c252 => ?_) (fun c252 => ?_)
        · have h := if_t h c252
          refine lv_iinc (v := (v4 + (9 : Int32))) (lv' := [(4, .int (v4 + (9 : Int32))), (0, .ref b), (1, .ref (ad1 0)), (2, .ref (ad1 200)), (3, .ref (ad1 300))]) hx hb dL_law_1591 hl (k := 4) rfl rfl (by decide) rfl (fun ls hl => ?_)
          refine lv_goto (tgt := 23) hx hb dL_law_1594 (by decide) ?_
          exact ih _ _ _ _ _ _ _ _ _ G hu1 hu2 hu3 hS B (lv_sub hl [1, 2, 3, 4, 0] rfl) h
        · have h := if_f h c252
          refine lv_iconst (v := (0 : Int32)) hx hb dL_law_1220 (by decide) ?_
          exact l_ret Z hAs Z.2.2.1 hS B dL_law_1221 h
      replace h := if_f h c17_23
      by_cases c17_24 : (x16 &&& (63 : Int32)) = (24 : Int32)
      · refine h_tsw (k := (24 : Int32)) (off := 1182) (tgt := 1222) Z dL_law_40 c17_24 (by decide) (by decide) rfl (by decide) ?_
        have h := if_t h c17_24
        refine lv_aload_n hx hb dL_law_1222 rfl (lv_at hl 1 rfl) ?_
        refine lv_aload_n hx hb dL_law_1223 rfl (lv_at hl 0 rfl) ?_
        refine lv_iload hx hb dL_law_1224 (lv_at hl 4 rfl) ?_
        refine lv_iconst (v := (1 : Int32)) hx hb dL_law_1226 (by decide) ?_
        refine lv_iadd hx hb dL_law_1227 ?_
        refine h_sld Z hX hbl hbA hS dL_law_1228 h (fun x253 h => ?_)
        refine lv_aload_n hx hb dL_law_1229 rfl (lv_at hl 0 rfl) ?_
        refine lv_iload hx hb dL_law_1230 (lv_at hl 4 rfl) ?_
        refine lv_iconst (v := (2 : Int32)) hx hb dL_law_1232 (by decide) ?_
        refine lv_iadd hx hb dL_law_1233 ?_
        refine h_sld Z hX hbl hbA hS dL_law_1234 h (fun x254 h => ?_)
        refine a_callL (av := [.ref (ad1 0), .int x253, .int x254]) (rest := []) Z hS B (en_V (rest := []) Z hS hu1 rfl v_X0_130 rfl rfl dL_law_1235) (lw_meth q1069) ⟨Nat.le_of_ble_eq_true rfl, Nat.le_of_ble_eq_true rfl⟩ hl.1 (Nat.le_of_ble_eq_true rfl) dL_law_1235 h (fun z hz => w_X1_order B.2.2.2.2.1 B.2.2.2.2.2 hu1 hz) (fun σ255 τ255 x256 ad255 H locs cl sl g255 hS B h => ?_)
        have G := G.trans g255
        have ea257 := g255.ad hu1
        replace hu1 := g255.sh hu1
        have ea258 := g255.ad hu2
        replace hu2 := g255.sh hu2
        have ea259 := g255.ad hu3
        replace hu3 := g255.sha hu3 (by decide)
        replace hl : lv_has ls 7 [(0, .ref b), (1, .ref (ad255 0)), (2, .ref (ad255 200)), (3, .ref (ad255 300)), (4, .int v4)] := by rw [ea257, ea258, ea259]; exact hl
        refine lv_aload_n hx hb dL_law_1238 rfl (lv_at hl 2 rfl) ?_
        refine lv_aload_n hx hb dL_law_1239 rfl (lv_at hl 0 rfl) ?_
        refine lv_iload hx hb dL_law_1240 (lv_at hl 4 rfl) ?_
        refine lv_iconst (v := (1 : Int32)) hx hb dL_law_1242 (by decide) ?_
        refine lv_iadd hx hb dL_law_1243 ?_
        refine h_sld Z hX hbl hbA hS dL_law_1244 h (fun x260 h => ?_)
        refine lv_aload_n hx hb dL_law_1245 rfl (lv_at hl 0 rfl) ?_
        refine lv_iload hx hb dL_law_1246 (lv_at hl 4 rfl) ?_
        refine lv_iconst (v := (2 : Int32)) hx hb dL_law_1248 (by decide) ?_
        refine lv_iadd hx hb dL_law_1249 ?_
        refine h_sld Z hX hbl hbA hS dL_law_1250 h (fun x261 h => ?_)
        refine h_cim hS h (fun z hz => h_rV (rest := [.int x256]) Z hS hu2 rfl v_X0_133 (w_X6_order hu2 hz) rfl rfl ⟨Nat.le_of_ble_eq_true rfl, Nat.le_of_ble_eq_true rfl⟩ rfl hl.1 rfl (Nat.le_of_ble_eq_true rfl) B.cl B.sl dL_law_1251) (fun σ262 x263 H locs hS h => ?_)
        refine lv_icmp_eq (tgt := 1591) hx hb dL_law_1254 (by decide) (fun c264 => ?_) (fun c264 => ?_)
        · have h := if_t h c264
          refine lv_iinc (v := (v4 + (9 : Int32))) (lv' := [(4, .int (v4 + (9 : Int32))), (0, .ref b), (1, .ref (ad255 0)), (2, .ref (ad255 200)), (3, .ref (ad255 300))]) hx hb dL_law_1591 hl (k := 4) rfl rfl (by decide) rfl (fun ls hl => ?_)
          refine lv_goto (tgt := 23) hx hb dL_law_1594 (by decide) ?_
          exact ih _ _ _ _ _ _ _ _ _ G hu1 hu2 hu3 hS B (lv_sub hl [1, 2, 3, 4, 0] rfl) h
        · have h := if_f h c264
          refine lv_iconst (v := (0 : Int32)) hx hb dL_law_1257 (by decide) ?_
          exact l_ret Z hAs Z.2.2.1 hS B dL_law_1258 h
      replace h := if_f h c17_24
      by_cases c17_25 : (x16 &&& (63 : Int32)) = (25 : Int32)
      · refine h_tsw (k := (25 : Int32)) (off := 1219) (tgt := 1259) Z dL_law_40 c17_25 (by decide) (by decide) rfl (by decide) ?_
        have h := if_t h c17_25
        refine lv_aload_n hx hb dL_law_1259 rfl (lv_at hl 1 rfl) ?_
        refine lv_aload_n hx hb dL_law_1260 rfl (lv_at hl 0 rfl) ?_
        refine lv_iload hx hb dL_law_1261 (lv_at hl 4 rfl) ?_
        refine lv_iconst (v := (1 : Int32)) hx hb dL_law_1263 (by decide) ?_
        refine lv_iadd hx hb dL_law_1264 ?_
        refine h_sld Z hX hbl hbA hS dL_law_1265 h (fun x265 h => ?_)
        refine lv_aload_n hx hb dL_law_1266 rfl (lv_at hl 0 rfl) ?_
        refine lv_iload hx hb dL_law_1267 (lv_at hl 4 rfl) ?_
        refine lv_iconst (v := (2 : Int32)) hx hb dL_law_1269 (by decide) ?_
        refine lv_iadd hx hb dL_law_1270 ?_
        refine h_sld Z hX hbl hbA hS dL_law_1271 h (fun x266 h => ?_)
        refine h_cim hS h (fun z hz => h_rV (rest := []) Z hS hu1 rfl v_X0_134 (w_X1_cost hu1 hz) rfl rfl ⟨Nat.le_of_ble_eq_true rfl, Nat.le_of_ble_eq_true rfl⟩ rfl hl.1 rfl (Nat.le_of_ble_eq_true rfl) B.cl B.sl dL_law_1272) (fun σ267 x268 H locs hS h => ?_)
        refine lv_aload_n hx hb dL_law_1275 rfl (lv_at hl 2 rfl) ?_
        refine lv_aload_n hx hb dL_law_1276 rfl (lv_at hl 0 rfl) ?_
        refine lv_iload hx hb dL_law_1277 (lv_at hl 4 rfl) ?_
        refine lv_iconst (v := (1 : Int32)) hx hb dL_law_1279 (by decide) ?_
        refine lv_iadd hx hb dL_law_1280 ?_
        refine h_sld Z hX hbl hbA hS dL_law_1281 h (fun x269 h => ?_)
        refine lv_aload_n hx hb dL_law_1282 rfl (lv_at hl 0 rfl) ?_
        refine lv_iload hx hb dL_law_1283 (lv_at hl 4 rfl) ?_
        refine lv_iconst (v := (2 : Int32)) hx hb dL_law_1285 (by decide) ?_
        refine lv_iadd hx hb dL_law_1286 ?_
        refine h_sld Z hX hbl hbA hS dL_law_1287 h (fun x270 h => ?_)
        refine h_cim hS h (fun z hz => h_rV (rest := [.int x268]) Z hS hu2 rfl v_X0_137 (w_X6_cost hu2 hz) rfl rfl ⟨Nat.le_of_ble_eq_true rfl, Nat.le_of_ble_eq_true rfl⟩ rfl hl.1 rfl (Nat.le_of_ble_eq_true rfl) B.cl B.sl dL_law_1288) (fun σ271 x272 H locs hS h => ?_)
        refine lv_icmp_eq (tgt := 1591) hx hb dL_law_1291 (by decide) (fun c273 => ?_) (fun c273 => ?_)
        · have h := if_t h c273
          refine lv_iinc (v := (v4 + (9 : Int32))) (lv' := [(4, .int (v4 + (9 : Int32))), (0, .ref b), (1, .ref (ad1 0)), (2, .ref (ad1 200)), (3, .ref (ad1 300))]) hx hb dL_law_1591 hl (k := 4) rfl rfl (by decide) rfl (fun ls hl => ?_)
          refine lv_goto (tgt := 23) hx hb dL_law_1594 (by decide) ?_
          exact ih _ _ _ _ _ _ _ _ _ G hu1 hu2 hu3 hS B (lv_sub hl [1, 2, 3, 4, 0] rfl) h
        · have h := if_f h c273
          refine lv_iconst (v := (0 : Int32)) hx hb dL_law_1294 (by decide) ?_
          exact l_ret Z hAs Z.2.2.1 hS B dL_law_1295 h
      replace h := if_f h c17_25
      by_cases c17_26 : (x16 &&& (63 : Int32)) = (26 : Int32)
      · refine h_tsw (k := (26 : Int32)) (off := 1256) (tgt := 1296) Z dL_law_40 c17_26 (by decide) (by decide) rfl (by decide) ?_
        have h := if_t h c17_26
        refine lv_aload_n hx hb dL_law_1296 rfl (lv_at hl 1 rfl) ?_
        refine lv_aload_n hx hb dL_law_1297 rfl (lv_at hl 0 rfl) ?_
        refine lv_iload hx hb dL_law_1298 (lv_at hl 4 rfl) ?_
        refine lv_iconst (v := (1 : Int32)) hx hb dL_law_1300 (by decide) ?_
        refine lv_iadd hx hb dL_law_1301 ?_
        refine h_sld Z hX hbl hbA hS dL_law_1302 h (fun x274 h => ?_)
        refine lv_aload_n hx hb dL_law_1303 rfl (lv_at hl 0 rfl) ?_
        refine lv_iload hx hb dL_law_1304 (lv_at hl 4 rfl) ?_
        refine lv_iconst (v := (2 : Int32)) hx hb dL_law_1306 (by decide) ?_
        refine lv_iadd hx hb dL_law_1307 ?_
        refine h_sld Z hX hbl hbA hS dL_law_1308 h (fun x275 h => ?_)
        refine lv_aload_n hx hb dL_law_1309 rfl (lv_at hl 0 rfl) ?_
        refine lv_iload hx hb dL_law_1310 (lv_at hl 4 rfl) ?_
        refine lv_iconst (v := (3 : Int32)) hx hb dL_law_1312 (by decide) ?_
        refine lv_iadd hx hb dL_law_1313 ?_
        refine h_sld Z hX hbl hbA hS dL_law_1314 h (fun x276 h => ?_)
        refine h_cim hS h (fun z hz => h_rV (rest := []) Z hS hu1 rfl v_X0_138 (w_X1_cheapest hu1 hz) rfl rfl ⟨Nat.le_of_ble_eq_true rfl, Nat.le_of_ble_eq_true rfl⟩ rfl hl.1 rfl (Nat.le_of_ble_eq_true rfl) B.cl B.sl dL_law_1315) (fun σ277 x278 H locs hS h => ?_)
        refine lv_aload_n hx hb dL_law_1318 rfl (lv_at hl 2 rfl) ?_
        refine lv_aload_n hx hb dL_law_1319 rfl (lv_at hl 0 rfl) ?_
        refine lv_iload hx hb dL_law_1320 (lv_at hl 4 rfl) ?_
        refine lv_iconst (v := (1 : Int32)) hx hb dL_law_1322 (by decide) ?_
        refine lv_iadd hx hb dL_law_1323 ?_
        refine h_sld Z hX hbl hbA hS dL_law_1324 h (fun x279 h => ?_)
        refine lv_aload_n hx hb dL_law_1325 rfl (lv_at hl 0 rfl) ?_
        refine lv_iload hx hb dL_law_1326 (lv_at hl 4 rfl) ?_
        refine lv_iconst (v := (2 : Int32)) hx hb dL_law_1328 (by decide) ?_
        refine lv_iadd hx hb dL_law_1329 ?_
        refine h_sld Z hX hbl hbA hS dL_law_1330 h (fun x280 h => ?_)
        refine lv_aload_n hx hb dL_law_1331 rfl (lv_at hl 0 rfl) ?_
        refine lv_iload hx hb dL_law_1332 (lv_at hl 4 rfl) ?_
        refine lv_iconst (v := (3 : Int32)) hx hb dL_law_1334 (by decide) ?_
        refine lv_iadd hx hb dL_law_1335 ?_
        refine h_sld Z hX hbl hbA hS dL_law_1336 h (fun x281 h => ?_)
        refine h_cim hS h (fun z hz => h_rV (rest := [.int x278]) Z hS hu2 rfl v_X0_141 (w_X6_cheapest hu2 hz) rfl rfl ⟨Nat.le_of_ble_eq_true rfl, Nat.le_of_ble_eq_true rfl⟩ rfl hl.1 rfl (Nat.le_of_ble_eq_true rfl) B.cl B.sl dL_law_1337) (fun σ282 x283 H locs hS h => ?_)
        refine lv_icmp_eq (tgt := 1591) hx hb dL_law_1340 (by decide) (fun c284 => ?_) (fun c284 => ?_)
        · have h := if_t h c284
          refine lv_iinc (v := (v4 + (9 : Int32))) (lv' := [(4, .int (v4 + (9 : Int32))), (0, .ref b), (1, .ref (ad1 0)), (2, .ref (ad1 200)), (3, .ref (ad1 300))]) hx hb dL_law_1591 hl (k := 4) rfl rfl (by decide) rfl (fun ls hl => ?_)
          refine lv_goto (tgt := 23) hx hb dL_law_1594 (by decide) ?_
          exact ih _ _ _ _ _ _ _ _ _ G hu1 hu2 hu3 hS B (lv_sub hl [1, 2, 3, 4, 0] rfl) h
        · have h := if_f h c284
          refine lv_iconst (v := (0 : Int32)) hx hb dL_law_1343 (by decide) ?_
          exact l_ret Z hAs Z.2.2.1 hS B dL_law_1344 h
      replace h := if_f h c17_26
      by_cases c17_27 : (x16 &&& (63 : Int32)) = (27 : Int32)
      · refine h_tsw (k := (27 : Int32)) (off := 1305) (tgt := 1345) Z dL_law_40 c17_27 (by decide) (by decide) rfl (by decide) ?_
        have h := if_t h c17_27
        refine lv_aload_n hx hb dL_law_1345 rfl (lv_at hl 1 rfl) ?_
        refine lv_aload_n hx hb dL_law_1346 rfl (lv_at hl 0 rfl) ?_
        refine lv_iload hx hb dL_law_1347 (lv_at hl 4 rfl) ?_
        refine lv_iconst (v := (1 : Int32)) hx hb dL_law_1349 (by decide) ?_
        refine lv_iadd hx hb dL_law_1350 ?_
        refine h_sld Z hX hbl hbA hS dL_law_1351 h (fun x285 h => ?_)
        refine lv_aload_n hx hb dL_law_1352 rfl (lv_at hl 0 rfl) ?_
        refine lv_iload hx hb dL_law_1353 (lv_at hl 4 rfl) ?_
        refine lv_iconst (v := (2 : Int32)) hx hb dL_law_1355 (by decide) ?_
        refine lv_iadd hx hb dL_law_1356 ?_
        refine h_sld Z hX hbl hbA hS dL_law_1357 h (fun x286 h => ?_)
        refine lv_aload_n hx hb dL_law_1358 rfl (lv_at hl 0 rfl) ?_
        refine lv_iload hx hb dL_law_1359 (lv_at hl 4 rfl) ?_
        refine lv_iconst (v := (3 : Int32)) hx hb dL_law_1361 (by decide) ?_
        refine lv_iadd hx hb dL_law_1362 ?_
        refine h_sld Z hX hbl hbA hS dL_law_1363 h (fun x287 h => ?_)
        refine lv_aload_n hx hb dL_law_1364 rfl (lv_at hl 0 rfl) ?_
        refine lv_iload hx hb dL_law_1365 (lv_at hl 4 rfl) ?_
        refine lv_iconst (v := (4 : Int32)) hx hb dL_law_1367 (by decide) ?_
        refine lv_iadd hx hb dL_law_1368 ?_
        refine h_sld Z hX hbl hbA hS dL_law_1369 h (fun x288 h => ?_)
        refine h_cim hS h (fun z hz => h_rV (rest := []) Z hS hu1 rfl v_X0_142 (w_X1_gauge hu1 hz) rfl rfl ⟨Nat.le_of_ble_eq_true rfl, Nat.le_of_ble_eq_true rfl⟩ rfl hl.1 rfl (Nat.le_of_ble_eq_true rfl) B.cl B.sl dL_law_1370) (fun σ289 x290 H locs hS h => ?_)
        refine lv_aload_n hx hb dL_law_1373 rfl (lv_at hl 2 rfl) ?_
        refine lv_aload_n hx hb dL_law_1374 rfl (lv_at hl 0 rfl) ?_
        refine lv_iload hx hb dL_law_1375 (lv_at hl 4 rfl) ?_
        refine lv_iconst (v := (1 : Int32)) hx hb dL_law_1377 (by decide) ?_
        refine lv_iadd hx hb dL_law_1378 ?_
        refine h_sld Z hX hbl hbA hS dL_law_1379 h (fun x291 h => ?_)
        refine lv_aload_n hx hb dL_law_1380 rfl (lv_at hl 0 rfl) ?_
        refine lv_iload hx hb dL_law_1381 (lv_at hl 4 rfl) ?_
        refine lv_iconst (v := (2 : Int32)) hx hb dL_law_1383 (by decide) ?_
        refine lv_iadd hx hb dL_law_1384 ?_
        refine h_sld Z hX hbl hbA hS dL_law_1385 h (fun x292 h => ?_)
        refine lv_aload_n hx hb dL_law_1386 rfl (lv_at hl 0 rfl) ?_
        refine lv_iload hx hb dL_law_1387 (lv_at hl 4 rfl) ?_
        refine lv_iconst (v := (3 : Int32)) hx hb dL_law_1389 (by decide) ?_
        refine lv_iadd hx hb dL_law_1390 ?_
        refine h_sld Z hX hbl hbA hS dL_law_1391 h (fun x293 h => ?_)
        refine lv_aload_n hx hb dL_law_1392 rfl (lv_at hl 0 rfl) ?_
        refine lv_iload hx hb dL_law_1393 (lv_at hl 4 rfl) ?_
        refine lv_iconst (v := (4 : Int32)) hx hb dL_law_1395 (by decide) ?_
        refine lv_iadd hx hb dL_law_1396 ?_
        refine h_sld Z hX hbl hbA hS dL_law_1397 h (fun x294 h => ?_)
        refine h_cim hS h (fun z hz => h_rV (rest := [.int x290]) Z hS hu2 rfl v_X0_145 (w_X6_gauge hu2 hz) rfl rfl ⟨Nat.le_of_ble_eq_true rfl, Nat.le_of_ble_eq_true rfl⟩ rfl hl.1 rfl (Nat.le_of_ble_eq_true rfl) B.cl B.sl dL_law_1398) (fun σ295 x296 H locs hS h => ?_)
        refine lv_icmp_eq (tgt := 1591) hx hb dL_law_1401 (by decide) (fun c297 => ?_) (fun c297 => ?_)
        · have h := if_t h c297
          refine lv_iinc (v := (v4 + (9 : Int32))) (lv' := [(4, .int (v4 + (9 : Int32))), (0, .ref b), (1, .ref (ad1 0)), (2, .ref (ad1 200)), (3, .ref (ad1 300))]) hx hb dL_law_1591 hl (k := 4) rfl rfl (by decide) rfl (fun ls hl => ?_)
          refine lv_goto (tgt := 23) hx hb dL_law_1594 (by decide) ?_
          exact ih _ _ _ _ _ _ _ _ _ G hu1 hu2 hu3 hS B (lv_sub hl [1, 2, 3, 4, 0] rfl) h
        · have h := if_f h c297
          refine lv_iconst (v := (0 : Int32)) hx hb dL_law_1404 (by decide) ?_
          exact l_ret Z hAs Z.2.2.1 hS B dL_law_1405 h
      replace h := if_f h c17_27
      by_cases c17_28 : (x16 &&& (63 : Int32)) = (28 : Int32)
      · refine h_tsw (k := (28 : Int32)) (off := 1366) (tgt := 1406) Z dL_law_40 c17_28 (by decide) (by decide) rfl (by decide) ?_
        have h := if_t h c17_28
        refine lv_aload_n hx hb dL_law_1406 rfl (lv_at hl 1 rfl) ?_
        refine lv_aload_n hx hb dL_law_1407 rfl (lv_at hl 0 rfl) ?_
        refine lv_iload hx hb dL_law_1408 (lv_at hl 4 rfl) ?_
        refine lv_iconst (v := (1 : Int32)) hx hb dL_law_1410 (by decide) ?_
        refine lv_iadd hx hb dL_law_1411 ?_
        refine h_sld Z hX hbl hbA hS dL_law_1412 h (fun x298 h => ?_)
        refine lv_aload_n hx hb dL_law_1413 rfl (lv_at hl 0 rfl) ?_
        refine lv_iload hx hb dL_law_1414 (lv_at hl 4 rfl) ?_
        refine lv_iconst (v := (2 : Int32)) hx hb dL_law_1416 (by decide) ?_
        refine lv_iadd hx hb dL_law_1417 ?_
        refine h_sld Z hX hbl hbA hS dL_law_1418 h (fun x299 h => ?_)
        refine lv_aload_n hx hb dL_law_1419 rfl (lv_at hl 0 rfl) ?_
        refine lv_iload hx hb dL_law_1420 (lv_at hl 4 rfl) ?_
        refine lv_iconst (v := (3 : Int32)) hx hb dL_law_1422 (by decide) ?_
        refine lv_iadd hx hb dL_law_1423 ?_
        refine h_sld Z hX hbl hbA hS dL_law_1424 h (fun x300 h => ?_)
        refine lv_aload_n hx hb dL_law_1425 rfl (lv_at hl 0 rfl) ?_
        refine lv_iload hx hb dL_law_1426 (lv_at hl 4 rfl) ?_
        refine lv_iconst (v := (4 : Int32)) hx hb dL_law_1428 (by decide) ?_
        refine lv_iadd hx hb dL_law_1429 ?_
        refine h_sld Z hX hbl hbA hS dL_law_1430 h (fun x301 h => ?_)
        refine h_ci hS h (fun z hz => h_rV (rest := []) Z hS hu1 rfl v_X0_146 (w_X1_back hu1 hz) rfl rfl ⟨Nat.le_of_ble_eq_true rfl, Nat.le_of_ble_eq_true rfl⟩ rfl hl.1 rfl (Nat.le_of_ble_eq_true rfl) B.cl B.sl dL_law_1431) (fun x302 H locs hS h => ?_)
        refine lv_aload_n hx hb dL_law_1434 rfl (lv_at hl 2 rfl) ?_
        refine lv_aload_n hx hb dL_law_1435 rfl (lv_at hl 0 rfl) ?_
        refine lv_iload hx hb dL_law_1436 (lv_at hl 4 rfl) ?_
        refine lv_iconst (v := (1 : Int32)) hx hb dL_law_1438 (by decide) ?_
        refine lv_iadd hx hb dL_law_1439 ?_
        refine h_sld Z hX hbl hbA hS dL_law_1440 h (fun x303 h => ?_)
        refine lv_aload_n hx hb dL_law_1441 rfl (lv_at hl 0 rfl) ?_
        refine lv_iload hx hb dL_law_1442 (lv_at hl 4 rfl) ?_
        refine lv_iconst (v := (2 : Int32)) hx hb dL_law_1444 (by decide) ?_
        refine lv_iadd hx hb dL_law_1445 ?_
        refine h_sld Z hX hbl hbA hS dL_law_1446 h (fun x304 h => ?_)
        refine lv_aload_n hx hb dL_law_1447 rfl (lv_at hl 0 rfl) ?_
        refine lv_iload hx hb dL_law_1448 (lv_at hl 4 rfl) ?_
        refine lv_iconst (v := (3 : Int32)) hx hb dL_law_1450 (by decide) ?_
        refine lv_iadd hx hb dL_law_1451 ?_
        refine h_sld Z hX hbl hbA hS dL_law_1452 h (fun x305 h => ?_)
        refine lv_aload_n hx hb dL_law_1453 rfl (lv_at hl 0 rfl) ?_
        refine lv_iload hx hb dL_law_1454 (lv_at hl 4 rfl) ?_
        refine lv_iconst (v := (4 : Int32)) hx hb dL_law_1456 (by decide) ?_
        refine lv_iadd hx hb dL_law_1457 ?_
        refine h_sld Z hX hbl hbA hS dL_law_1458 h (fun x306 h => ?_)
        refine h_ci hS h (fun z hz => h_rV (rest := [.int x302]) Z hS hu2 rfl v_X0_149 (w_X6_back hu2 hz) rfl rfl ⟨Nat.le_of_ble_eq_true rfl, Nat.le_of_ble_eq_true rfl⟩ rfl hl.1 rfl (Nat.le_of_ble_eq_true rfl) B.cl B.sl dL_law_1459) (fun x307 H locs hS h => ?_)
        refine lv_icmp_eq (tgt := 1591) hx hb dL_law_1462 (by decide) (fun c308 => ?_) (fun c308 => ?_)
        · have h := if_t h c308
          refine lv_iinc (v := (v4 + (9 : Int32))) (lv' := [(4, .int (v4 + (9 : Int32))), (0, .ref b), (1, .ref (ad1 0)), (2, .ref (ad1 200)), (3, .ref (ad1 300))]) hx hb dL_law_1591 hl (k := 4) rfl rfl (by decide) rfl (fun ls hl => ?_)
          refine lv_goto (tgt := 23) hx hb dL_law_1594 (by decide) ?_
          exact ih _ _ _ _ _ _ _ _ _ G hu1 hu2 hu3 hS B (lv_sub hl [1, 2, 3, 4, 0] rfl) h
        · have h := if_f h c308
          refine lv_iconst (v := (0 : Int32)) hx hb dL_law_1465 (by decide) ?_
          exact l_ret Z hAs Z.2.2.1 hS B dL_law_1466 h
      replace h := if_f h c17_28
      by_cases c17_29 : (x16 &&& (63 : Int32)) = (29 : Int32)
      · refine h_tsw (k := (29 : Int32)) (off := 1427) (tgt := 1467) Z dL_law_40 c17_29 (by decide) (by decide) rfl (by decide) ?_
        have h := if_t h c17_29
        refine lv_aload_n hx hb dL_law_1467 rfl (lv_at hl 1 rfl) ?_
        refine lv_aload_n hx hb dL_law_1468 rfl (lv_at hl 0 rfl) ?_
        refine lv_iload hx hb dL_law_1469 (lv_at hl 4 rfl) ?_
        refine lv_iconst (v := (1 : Int32)) hx hb dL_law_1471 (by decide) ?_
        refine lv_iadd hx hb dL_law_1472 ?_
        refine h_sld Z hX hbl hbA hS dL_law_1473 h (fun x309 h => ?_)
        refine lv_aload_n hx hb dL_law_1474 rfl (lv_at hl 0 rfl) ?_
        refine lv_iload hx hb dL_law_1475 (lv_at hl 4 rfl) ?_
        refine lv_iconst (v := (2 : Int32)) hx hb dL_law_1477 (by decide) ?_
        refine lv_iadd hx hb dL_law_1478 ?_
        refine h_sld Z hX hbl hbA hS dL_law_1479 h (fun x310 h => ?_)
        refine lv_aload_n hx hb dL_law_1480 rfl (lv_at hl 0 rfl) ?_
        refine lv_iload hx hb dL_law_1481 (lv_at hl 4 rfl) ?_
        refine lv_iconst (v := (3 : Int32)) hx hb dL_law_1483 (by decide) ?_
        refine lv_iadd hx hb dL_law_1484 ?_
        refine h_sld Z hX hbl hbA hS dL_law_1485 h (fun x311 h => ?_)
        refine h_ci hS h (fun z hz => h_rV (rest := []) Z hS hu1 rfl v_X0_150 (w_X1_barred hu1 hz) rfl rfl ⟨Nat.le_of_ble_eq_true rfl, Nat.le_of_ble_eq_true rfl⟩ rfl hl.1 rfl (Nat.le_of_ble_eq_true rfl) B.cl B.sl dL_law_1486) (fun x312 H locs hS h => ?_)
        refine lv_aload_n hx hb dL_law_1489 rfl (lv_at hl 2 rfl) ?_
        refine lv_aload_n hx hb dL_law_1490 rfl (lv_at hl 0 rfl) ?_
        refine lv_iload hx hb dL_law_1491 (lv_at hl 4 rfl) ?_
        refine lv_iconst (v := (1 : Int32)) hx hb dL_law_1493 (by decide) ?_
        refine lv_iadd hx hb dL_law_1494 ?_
        refine h_sld Z hX hbl hbA hS dL_law_1495 h (fun x313 h => ?_)
        refine lv_aload_n hx hb dL_law_1496 rfl (lv_at hl 0 rfl) ?_
        refine lv_iload hx hb dL_law_1497 (lv_at hl 4 rfl) ?_
        refine lv_iconst (v := (2 : Int32)) hx hb dL_law_1499 (by decide) ?_
        refine lv_iadd hx hb dL_law_1500 ?_
        refine h_sld Z hX hbl hbA hS dL_law_1501 h (fun x314 h => ?_)
        refine lv_aload_n hx hb dL_law_1502 rfl (lv_at hl 0 rfl) ?_
        refine lv_iload hx hb dL_law_1503 (lv_at hl 4 rfl) ?_
        refine lv_iconst (v := (3 : Int32)) hx hb dL_law_1505 (by decide) ?_
        refine lv_iadd hx hb dL_law_1506 ?_
        refine h_sld Z hX hbl hbA hS dL_law_1507 h (fun x315 h => ?_)
        refine h_ci hS h (fun z hz => h_rV (rest := [.int x312]) Z hS hu2 rfl v_X0_153 (w_X6_barred hu2 hz) rfl rfl ⟨Nat.le_of_ble_eq_true rfl, Nat.le_of_ble_eq_true rfl⟩ rfl hl.1 rfl (Nat.le_of_ble_eq_true rfl) B.cl B.sl dL_law_1508) (fun x316 H locs hS h => ?_)
        refine lv_icmp_eq (tgt := 1591) hx hb dL_law_1511 (by decide) (fun c317 => ?_) (fun c317 => ?_)
        · have h := if_t h c317
          refine lv_iinc (v := (v4 + (9 : Int32))) (lv' := [(4, .int (v4 + (9 : Int32))), (0, .ref b), (1, .ref (ad1 0)), (2, .ref (ad1 200)), (3, .ref (ad1 300))]) hx hb dL_law_1591 hl (k := 4) rfl rfl (by decide) rfl (fun ls hl => ?_)
          refine lv_goto (tgt := 23) hx hb dL_law_1594 (by decide) ?_
          exact ih _ _ _ _ _ _ _ _ _ G hu1 hu2 hu3 hS B (lv_sub hl [1, 2, 3, 4, 0] rfl) h
        · have h := if_f h c317
          refine lv_iconst (v := (0 : Int32)) hx hb dL_law_1514 (by decide) ?_
          exact l_ret Z hAs Z.2.2.1 hS B dL_law_1515 h
      replace h := if_f h c17_29
      by_cases c17_30 : (x16 &&& (63 : Int32)) = (30 : Int32)
      · refine h_tsw (k := (30 : Int32)) (off := 1476) (tgt := 1516) Z dL_law_40 c17_30 (by decide) (by decide) rfl (by decide) ?_
        have h := if_t h c17_30
        refine lv_aload_n hx hb dL_law_1516 rfl (lv_at hl 1 rfl) ?_
        refine lv_aload_n hx hb dL_law_1517 rfl (lv_at hl 0 rfl) ?_
        refine lv_iload hx hb dL_law_1518 (lv_at hl 4 rfl) ?_
        refine lv_iconst (v := (1 : Int32)) hx hb dL_law_1520 (by decide) ?_
        refine lv_iadd hx hb dL_law_1521 ?_
        refine h_sld Z hX hbl hbA hS dL_law_1522 h (fun x318 h => ?_)
        refine lv_aload_n hx hb dL_law_1523 rfl (lv_at hl 0 rfl) ?_
        refine lv_iload hx hb dL_law_1524 (lv_at hl 4 rfl) ?_
        refine lv_iconst (v := (2 : Int32)) hx hb dL_law_1526 (by decide) ?_
        refine lv_iadd hx hb dL_law_1527 ?_
        refine h_sld Z hX hbl hbA hS dL_law_1528 h (fun x319 h => ?_)
        refine h_ci hS h (fun z hz => h_rV (rest := []) Z hS hu1 rfl v_X0_154 (w_X1_led hu1 hz) rfl rfl ⟨Nat.le_of_ble_eq_true rfl, Nat.le_of_ble_eq_true rfl⟩ rfl hl.1 rfl (Nat.le_of_ble_eq_true rfl) B.cl B.sl dL_law_1529) (fun x320 H locs hS h => ?_)
        refine lv_aload_n hx hb dL_law_1532 rfl (lv_at hl 2 rfl) ?_
        refine lv_aload_n hx hb dL_law_1533 rfl (lv_at hl 0 rfl) ?_
        refine lv_iload hx hb dL_law_1534 (lv_at hl 4 rfl) ?_
        refine lv_iconst (v := (1 : Int32)) hx hb dL_law_1536 (by decide) ?_
        refine lv_iadd hx hb dL_law_1537 ?_
        refine h_sld Z hX hbl hbA hS dL_law_1538 h (fun x321 h => ?_)
        refine lv_aload_n hx hb dL_law_1539 rfl (lv_at hl 0 rfl) ?_
        refine lv_iload hx hb dL_law_1540 (lv_at hl 4 rfl) ?_
        refine lv_iconst (v := (2 : Int32)) hx hb dL_law_1542 (by decide) ?_
        refine lv_iadd hx hb dL_law_1543 ?_
        refine h_sld Z hX hbl hbA hS dL_law_1544 h (fun x322 h => ?_)
        refine h_ci hS h (fun z hz => h_rV (rest := [.int x320]) Z hS hu2 rfl v_X0_157 (w_X6_led hu2 hz) rfl rfl ⟨Nat.le_of_ble_eq_true rfl, Nat.le_of_ble_eq_true rfl⟩ rfl hl.1 rfl (Nat.le_of_ble_eq_true rfl) B.cl B.sl dL_law_1545) (fun x323 H locs hS h => ?_)
        refine lv_icmp_eq (tgt := 1591) hx hb dL_law_1548 (by decide) (fun c324 => ?_) (fun c324 => ?_)
        · have h := if_t h c324
          refine lv_iinc (v := (v4 + (9 : Int32))) (lv' := [(4, .int (v4 + (9 : Int32))), (0, .ref b), (1, .ref (ad1 0)), (2, .ref (ad1 200)), (3, .ref (ad1 300))]) hx hb dL_law_1591 hl (k := 4) rfl rfl (by decide) rfl (fun ls hl => ?_)
          refine lv_goto (tgt := 23) hx hb dL_law_1594 (by decide) ?_
          exact ih _ _ _ _ _ _ _ _ _ G hu1 hu2 hu3 hS B (lv_sub hl [1, 2, 3, 4, 0] rfl) h
        · have h := if_f h c324
          refine lv_iconst (v := (0 : Int32)) hx hb dL_law_1551 (by decide) ?_
          exact l_ret Z hAs Z.2.2.1 hS B dL_law_1552 h
      replace h := if_f h c17_30
      by_cases c17_31 : (x16 &&& (63 : Int32)) = (31 : Int32)
      · refine h_tsw (k := (31 : Int32)) (off := 1513) (tgt := 1553) Z dL_law_40 c17_31 (by decide) (by decide) rfl (by decide) ?_
        have h := if_t h c17_31
        refine lv_aload_n hx hb dL_law_1553 rfl (lv_at hl 1 rfl) ?_
        refine h_ci hS h (fun z hz => h_rV (rest := []) Z hS hu1 rfl v_X0_158 (w_X1_digest hu1 hz) rfl rfl ⟨Nat.le_of_ble_eq_true rfl, Nat.le_of_ble_eq_true rfl⟩ rfl hl.1 rfl (Nat.le_of_ble_eq_true rfl) B.cl B.sl dL_law_1554) (fun x325 H locs hS h => ?_)
        refine lv_aload_n hx hb dL_law_1557 rfl (lv_at hl 2 rfl) ?_
        refine h_ci hS h (fun z hz => h_rV (rest := [.int x325]) Z hS hu2 rfl v_X0_161 (w_X6_digest hu2 hz) rfl rfl ⟨Nat.le_of_ble_eq_true rfl, Nat.le_of_ble_eq_true rfl⟩ rfl hl.1 rfl (Nat.le_of_ble_eq_true rfl) B.cl B.sl dL_law_1558) (fun x326 H locs hS h => ?_)
        refine lv_icmp_eq (tgt := 1591) hx hb dL_law_1561 (by decide) (fun c327 => ?_) (fun c327 => ?_)
        · have h := if_t h c327
          refine lv_iinc (v := (v4 + (9 : Int32))) (lv' := [(4, .int (v4 + (9 : Int32))), (0, .ref b), (1, .ref (ad1 0)), (2, .ref (ad1 200)), (3, .ref (ad1 300))]) hx hb dL_law_1591 hl (k := 4) rfl rfl (by decide) rfl (fun ls hl => ?_)
          refine lv_goto (tgt := 23) hx hb dL_law_1594 (by decide) ?_
          exact ih _ _ _ _ _ _ _ _ _ G hu1 hu2 hu3 hS B (lv_sub hl [1, 2, 3, 4, 0] rfl) h
        · have h := if_f h c327
          refine lv_iconst (v := (0 : Int32)) hx hb dL_law_1564 (by decide) ?_
          exact l_ret Z hAs Z.2.2.1 hS B dL_law_1565 h
      replace h := if_f h c17_31
      by_cases c17_32 : (x16 &&& (63 : Int32)) = (32 : Int32)
      · refine h_tsw (k := (32 : Int32)) (off := 1526) (tgt := 1566) Z dL_law_40 c17_32 (by decide) (by decide) rfl (by decide) ?_
        have h := if_t h c17_32
        refine lv_aload_n hx hb dL_law_1566 rfl (lv_at hl 1 rfl) ?_
        refine lv_aload_n hx hb dL_law_1567 rfl (lv_at hl 0 rfl) ?_
        refine lv_iload hx hb dL_law_1568 (lv_at hl 4 rfl) ?_
        refine lv_iconst (v := (1 : Int32)) hx hb dL_law_1570 (by decide) ?_
        refine lv_iadd hx hb dL_law_1571 ?_
        refine h_sld Z hX hbl hbA hS dL_law_1572 h (fun x328 h => ?_)
        refine h_ci hS h (fun z hz => h_rV (rest := []) Z hS hu1 rfl v_X0_162 (w_X1_count hu1 hz) rfl rfl ⟨Nat.le_of_ble_eq_true rfl, Nat.le_of_ble_eq_true rfl⟩ rfl hl.1 rfl (Nat.le_of_ble_eq_true rfl) B.cl B.sl dL_law_1573) (fun x329 H locs hS h => ?_)
        refine lv_aload_n hx hb dL_law_1576 rfl (lv_at hl 2 rfl) ?_
        refine lv_aload_n hx hb dL_law_1577 rfl (lv_at hl 0 rfl) ?_
        refine lv_iload hx hb dL_law_1578 (lv_at hl 4 rfl) ?_
        refine lv_iconst (v := (1 : Int32)) hx hb dL_law_1580 (by decide) ?_
        refine lv_iadd hx hb dL_law_1581 ?_
        refine h_sld Z hX hbl hbA hS dL_law_1582 h (fun x330 h => ?_)
        refine h_ci hS h (fun z hz => h_rV (rest := [.int x329]) Z hS hu2 rfl v_X0_165 (w_X6_count hu2 hz) rfl rfl ⟨Nat.le_of_ble_eq_true rfl, Nat.le_of_ble_eq_true rfl⟩ rfl hl.1 rfl (Nat.le_of_ble_eq_true rfl) B.cl B.sl dL_law_1583) (fun x331 H locs hS h => ?_)
        refine lv_icmp_eq (tgt := 1591) hx hb dL_law_1586 (by decide) (fun c332 => ?_) (fun c332 => ?_)
        · have h := if_t h c332
          refine lv_iinc (v := (v4 + (9 : Int32))) (lv' := [(4, .int (v4 + (9 : Int32))), (0, .ref b), (1, .ref (ad1 0)), (2, .ref (ad1 200)), (3, .ref (ad1 300))]) hx hb dL_law_1591 hl (k := 4) rfl rfl (by decide) rfl (fun ls hl => ?_)
          refine lv_goto (tgt := 23) hx hb dL_law_1594 (by decide) ?_
          exact ih _ _ _ _ _ _ _ _ _ G hu1 hu2 hu3 hS B (lv_sub hl [1, 2, 3, 4, 0] rfl) h
        · have h := if_f h c332
          refine lv_iconst (v := (0 : Int32)) hx hb dL_law_1589 (by decide) ?_
          exact l_ret Z hAs Z.2.2.1 hS B dL_law_1590 h
      replace h := if_f h c17_32
      refine h_tswd (n := 32) (tgt := 1591) Z dL_law_40 (by decide) (fun t ht => ?_) (by decide) ?_
      · rcases (show t = 0 ∨ t = 1 ∨ t = 2 ∨ t = 3 ∨ t = 4 ∨ t = 5 ∨ t = 6 ∨ t = 7 ∨ t = 8 ∨ t = 9 ∨ t = 10 ∨ t = 11 ∨ t = 12 ∨ t = 13 ∨ t = 14 ∨ t = 15 ∨ t = 16 ∨ t = 17 ∨ t = 18 ∨ t = 19 ∨ t = 20 ∨ t = 21 ∨ t = 22 ∨ t = 23 ∨ t = 24 ∨ t = 25 ∨ t = 26 ∨ t = 27 ∨ t = 28 ∨ t = 29 ∨ t = 30 ∨ t = 31 ∨ t = 32 by omega) with rfl | rfl | rfl | rfl | rfl | rfl | rfl | rfl | rfl | rfl | rfl | rfl | rfl | rfl | rfl | rfl | rfl | rfl | rfl | rfl | rfl | rfl | rfl | rfl | rfl | rfl | rfl | rfl | rfl | rfl | rfl | rfl | rfl
        · exact Or.inr (ne_int c17_0 (by decide))
        · exact Or.inr (ne_int c17_1 (by decide))
        · exact Or.inr (ne_int c17_2 (by decide))
        · exact Or.inr (ne_int c17_3 (by decide))
        · exact Or.inr (ne_int c17_4 (by decide))
        · exact Or.inr (ne_int c17_5 (by decide))
        · exact Or.inr (ne_int c17_6 (by decide))
        · exact Or.inr (ne_int c17_7 (by decide))
        · exact Or.inr (ne_int c17_8 (by decide))
        · exact Or.inr (ne_int c17_9 (by decide))
        · exact Or.inr (ne_int c17_10 (by decide))
        · exact Or.inr (ne_int c17_11 (by decide))
        · exact Or.inr (ne_int c17_12 (by decide))
        · exact Or.inr (ne_int c17_13 (by decide))
        · exact Or.inr (ne_int c17_14 (by decide))
        · exact Or.inr (ne_int c17_15 (by decide))
        · exact Or.inr (ne_int c17_16 (by decide))
        · exact Or.inr (ne_int c17_17 (by decide))
        · exact Or.inr (ne_int c17_18 (by decide))
        · exact Or.inr (ne_int c17_19 (by decide))
        · exact Or.inr (ne_int c17_20 (by decide))
        · exact Or.inr (ne_int c17_21 (by decide))
        · exact Or.inr (ne_int c17_22 (by decide))
        · exact Or.inr (ne_int c17_23 (by decide))
        · exact Or.inr (ne_int c17_24 (by decide))
        · exact Or.inr (ne_int c17_25 (by decide))
        · exact Or.inr (ne_int c17_26 (by decide))
        · exact Or.inr (ne_int c17_27 (by decide))
        · exact Or.inr (ne_int c17_28 (by decide))
        · exact Or.inr (ne_int c17_29 (by decide))
        · exact Or.inr (ne_int c17_30 (by decide))
        · exact Or.inr (ne_int c17_31 (by decide))
        · exact Or.inr (ne_int c17_32 (by decide))
      refine lv_iinc (v := (v4 + (9 : Int32))) (lv' := [(4, .int (v4 + (9 : Int32))), (0, .ref b), (1, .ref (ad1 0)), (2, .ref (ad1 200)), (3, .ref (ad1 300))]) hx hb dL_law_1591 hl (k := 4) rfl rfl (by decide) rfl (fun ls hl => ?_)
      refine lv_goto (tgt := 23) hx hb dL_law_1594 (by decide) ?_
      exact ih _ _ _ _ _ _ _ _ _ G hu1 hu2 hu3 hS B (lv_sub hl [1, 2, 3, 4, 0] rfl) h
set_option maxRecDepth 100000 in
set_option maxHeartbeats 4000000 in
theorem w_L_law (Z : Cz D (Ew D A) A cL_law 7 (some .boolean) RX0 p s m #[.ref b] meth c) (hX : va_X b L xs s s.heap) (hbl : b < s.heap.size) (hbA : ¬ A b) (hAs : ∀ q, A q → s.heap.size ≤ q) (htr : l.stackTraces = false) {ls : Array Slot} {ad0 : Nat → Nat} {σ0 : Mem} {τ0 : Shp} (hS : St D A ad0 (sS τ0) σ0 s.heap s.heap []) (B : Bd 0 0 room_1 τ0 0 0) (hl : lv_has ls 7 [(0, .ref b)]) (h : f_L_law L xs σ0 τ0 = some (1 : Int32)) : W p l e room_1 s m #[.ref b] below meth c s.heap [] 0 0 (lw_Z below #[.ref b] s) (F0 m 0 ls []) := by
  have hx := Z.1
  have hb := Z.2.1
  have hown := Z.2.2.2.2.2.1
  have hts := Z.2.2.2.2.2.2.1
  have G : Gx τ0 ad0 τ0 ad0 := Gx.rf
  refine (?_ : ∀ cl sl, Bd 0 0 room_1 τ0 cl sl → W p l e room_1 s m #[.ref b] below meth c s.heap [] cl sl (lw_Z below #[.ref b] s) (F0 m 0 ls [])) 0 0 B
  clear B
  intro cl sl B
  unfold f_L_law at h
  refine a_newO (z := 1) (j := 0) Z hS B cls_0 dv_0 (fun z => by cases z) q105 q106 q76 dL_law_0 h (fun ad1 σ1 τ1 H ga gb gc hn2 _ hS B h => ?_)
  have g1 : Gx τ0 ad0 τ1 ad1 := ⟨ga, gb, gc⟩
  have G := G.trans g1
  generalize cl + 1 = cl at B ⊢
  generalize sl + 39 = sl at B ⊢
  refine lv_dup hx hb dL_law_3 rfl ?_
  refine a_callL (av := [.ref (ad1 0)]) (rest := [.ref (ad1 0)]) Z hS B (en_I (rest := [.ref (ad1 0)]) Z vc_X0_15 rfl rfl dL_law_4) (lw_meth q109) ⟨Nat.le_of_ble_eq_true rfl, Nat.le_of_ble_eq_true rfl⟩ hl.1 (Nat.le_of_ble_eq_true rfl) dL_law_4 h (fun z hz => w_X1_init B.2.2.2.2.1 B.2.2.2.2.2 hn2 hz) (fun σ3 τ3 _ ad3 H locs cl sl g3 hS B h => ?_)
  have G := G.trans g3
  have eb4 := g3.ad hn2
  obtain ⟨hk4, h⟩ := gd_el h
  replace hk4 := isSh_1 hk4
  refine W_stk (st' := [.ref (ad3 0)]) (by first | (rw [eb4]; done) | (rw [eb4]; rfl)) ?_
  refine lv_astore_n (lv' := [(1, .ref (ad3 0)), (0, .ref b)]) hx hb dL_law_7 rfl hl (by decide) rfl (fun ls hl => ?_)
  refine a_newO (z := 1) (j := 200) Z hS B cls_14 dv_14 (fun z => by cases z) q1179 q1180 q81 dL_law_8 h (fun ad5 σ5 τ5 H ga gb gc hn6 _ hS B h => ?_)
  have g5 : Gx τ3 ad3 τ5 ad5 := ⟨ga, gb, gc⟩
  have G := G.trans g5
  generalize cl + 1 = cl at B ⊢
  generalize sl + 63 = sl at B ⊢
  have ea7 := g5.ad hk4
  replace hk4 := g5.sh hk4
  replace hl : lv_has ls 7 [(1, .ref (ad5 0)), (0, .ref b)] := by rw [ea7]; exact hl
  refine lv_dup hx hb dL_law_11 rfl ?_
  refine a_callL (av := [.ref (ad5 200)]) (rest := [.ref (ad5 200)]) Z hS B (en_I (rest := [.ref (ad5 200)]) Z vc_X0_18 rfl rfl dL_law_12) (lw_meth q1183) ⟨Nat.le_of_ble_eq_true rfl, Nat.le_of_ble_eq_true rfl⟩ hl.1 (Nat.le_of_ble_eq_true rfl) dL_law_12 h (fun z hz => w_X6_init B.2.2.2.2.1 B.2.2.2.2.2 hn6 hz) (fun σ8 τ8 _ ad8 H locs cl sl g8 hS B h => ?_)
  have G := G.trans g8
  have eb9 := g8.ad hn6
  obtain ⟨hk9, h⟩ := gd_el h
  replace hk9 := isSh_1 hk9
  have ea10 := g8.ad hk4
  replace hk4 := g8.sh hk4
  replace hl : lv_has ls 7 [(1, .ref (ad8 0)), (0, .ref b)] := by rw [ea10]; exact hl
  refine W_stk (st' := [.ref (ad8 200)]) (by first | (rw [eb9]; done) | (rw [eb9]; rfl)) ?_
  refine lv_astore_n (lv' := [(2, .ref (ad8 200)), (1, .ref (ad8 0)), (0, .ref b)]) hx hb dL_law_15 rfl hl (by decide) rfl (fun ls hl => ?_)
  refine lv_iconst (v := (1 : Int32)) hx hb dL_law_16 (by decide) ?_
  refine a_newaL (j := 300) Z hS B q1377 (by decide) (by decide) (by decide) dL_law_17 h (fun ad11 σ11 τ11 H g11 hn12 hS B h => ?_)
  have G := G.trans g11
  generalize cl + 1 = cl at B ⊢
  generalize sl + 1 = sl at B ⊢
  have ea13 := g11.ad hk4
  replace hk4 := g11.sh hk4
  have ea14 := g11.ad hk9
  replace hk9 := g11.sh hk9
  replace hl : lv_has ls 7 [(2, .ref (ad11 200)), (1, .ref (ad11 0)), (0, .ref b)] := by rw [ea14, ea13]; exact hl
  refine lv_astore_n (lv' := [(3, .ref (ad11 300)), (2, .ref (ad11 200)), (1, .ref (ad11 0)), (0, .ref b)]) hx hb dL_law_19 rfl hl (by decide) rfl (fun ls hl => ?_)
  refine lv_iconst (v := (0 : Int32)) hx hb dL_law_20 (by decide) ?_
  refine lv_istore (lv' := [(4, .int (0 : Int32)), (3, .ref (ad11 300)), (2, .ref (ad11 200)), (1, .ref (ad11 0)), (0, .ref b)]) hx hb dL_law_21 hl (by decide) rfl (fun ls hl => ?_)
  refine w_L_law_L23 Z hX hbl hbA hAs htr  FU _ _ _ _ _ _ _ _ _ G hk4 hk9 hn12 hS B (lv_sub hl [4, 3, 2, 1, 0] rfl) h
end
