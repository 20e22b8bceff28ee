/-! the law: decode rows -/
set_option maxRecDepth 100000
theorem dL_0 : decode code 0 = .ok (.new 7, 3) := by decide +kernel
theorem dL_3 : decode code 3 = .ok (.dup, 1) := by decide +kernel
theorem dL_4 : decode code 4 = .ok (.invokespecial 9, 3) := by decide +kernel
theorem dL_7 : decode code 7 = .ok (.astore_n 1, 1) := by decide +kernel
theorem dL_8 : decode code 8 = .ok (.new 10, 3) := by decide +kernel
theorem dL_11 : decode code 11 = .ok (.dup, 1) := by decide +kernel
theorem dL_12 : decode code 12 = .ok (.invokespecial 12, 3) := by decide +kernel
theorem dL_15 : decode code 15 = .ok (.astore_n 2, 1) := by decide +kernel
theorem dL_16 : decode code 16 = .ok (.iconst 0, 1) := by decide +kernel
theorem dL_17 : decode code 17 = .ok (.istore_n 3, 1) := by decide +kernel
theorem dL_18 : decode code 18 = .ok (.iload_n 3, 1) := by decide +kernel
theorem dL_19 : decode code 19 = .ok (.aload_n 0, 1) := by decide +kernel
theorem dL_20 : decode code 20 = .ok (.arraylength, 1) := by decide +kernel
theorem dL_21 : decode code 21 = .ok (.bipush 6, 2) := by decide +kernel
theorem dL_23 : decode code 23 = .ok (.isub, 1) := by decide +kernel
theorem dL_24 : decode code 24 = .ok (.if_icmp .gt 1584, 3) := by decide +kernel
theorem dL_27 : decode code 27 = .ok (.aload_n 0, 1) := by decide +kernel
theorem dL_28 : decode code 28 = .ok (.iload_n 3, 1) := by decide +kernel
theorem dL_29 : decode code 29 = .ok (.iaload, 1) := by decide +kernel
theorem dL_30 : decode code 30 = .ok (.bipush 63, 2) := by decide +kernel
theorem dL_32 : decode code 32 = .ok (.iand, 1) := by decide +kernel
theorem dL_33 : decode code 33 = .ok (.tableswitch 1569 0 41 #[183, 216, 259, 302, 335, 368, 401, 444, 477, 510, 543, 576, 599, 622, 645, 688, 751, 774, 827, 860, 893, 916, 949, 992, 1025, 1068, 1101, 1134, 1167, 1190, 1233, 1256, 1299, 1342, 1405, 1428, 1461, 1474, 1487, 1510, 1523, 1546], 183) := by decide +kernel
theorem dL_216 : decode code 216 = .ok (.aload_n 1, 1) := by decide +kernel
theorem dL_217 : decode code 217 = .ok (.aload_n 0, 1) := by decide +kernel
theorem dL_218 : decode code 218 = .ok (.iload_n 3, 1) := by decide +kernel
theorem dL_219 : decode code 219 = .ok (.iconst 1, 1) := by decide +kernel
theorem dL_220 : decode code 220 = .ok (.iadd, 1) := by decide +kernel
theorem dL_221 : decode code 221 = .ok (.iaload, 1) := by decide +kernel
theorem dL_222 : decode code 222 = .ok (.aload_n 0, 1) := by decide +kernel
theorem dL_223 : decode code 223 = .ok (.iload_n 3, 1) := by decide +kernel
theorem dL_224 : decode code 224 = .ok (.iconst 2, 1) := by decide +kernel
theorem dL_225 : decode code 225 = .ok (.iadd, 1) := by decide +kernel
theorem dL_226 : decode code 226 = .ok (.iaload, 1) := by decide +kernel
theorem dL_227 : decode code 227 = .ok (.invokevirtual 13, 3) := by decide +kernel
theorem dL_230 : decode code 230 = .ok (.aload_n 2, 1) := by decide +kernel
theorem dL_231 : decode code 231 = .ok (.aload_n 0, 1) := by decide +kernel
theorem dL_232 : decode code 232 = .ok (.iload_n 3, 1) := by decide +kernel
theorem dL_233 : decode code 233 = .ok (.iconst 1, 1) := by decide +kernel
theorem dL_234 : decode code 234 = .ok (.iadd, 1) := by decide +kernel
theorem dL_235 : decode code 235 = .ok (.iaload, 1) := by decide +kernel
theorem dL_236 : decode code 236 = .ok (.aload_n 0, 1) := by decide +kernel
theorem dL_237 : decode code 237 = .ok (.iload_n 3, 1) := by decide +kernel
theorem dL_238 : decode code 238 = .ok (.iconst 2, 1) := by decide +kernel
theorem dL_239 : decode code 239 = .ok (.iadd, 1) := by decide +kernel
theorem dL_240 : decode code 240 = .ok (.iaload, 1) := by decide +kernel
theorem dL_241 : decode code 241 = .ok (.invokevirtual 17, 3) := by decide +kernel
theorem dL_244 : decode code 244 = .ok (.if_icmp .eq 1358, 3) := by decide +kernel
theorem dL_247 : decode code 247 = .ok (.iconst 0, 1) := by decide +kernel
theorem dL_248 : decode code 248 = .ok (.ireturn, 1) := by decide +kernel
theorem dL_249 : decode code 249 = .ok (.aload_n 1, 1) := by decide +kernel
theorem dL_250 : decode code 250 = .ok (.aload_n 0, 1) := by decide +kernel
theorem dL_251 : decode code 251 = .ok (.iload_n 3, 1) := by decide +kernel
theorem dL_252 : decode code 252 = .ok (.iconst 1, 1) := by decide +kernel
theorem dL_253 : decode code 253 = .ok (.iadd, 1) := by decide +kernel
theorem dL_254 : decode code 254 = .ok (.iaload, 1) := by decide +kernel
theorem dL_255 : decode code 255 = .ok (.aload_n 0, 1) := by decide +kernel
theorem dL_256 : decode code 256 = .ok (.iload_n 3, 1) := by decide +kernel
theorem dL_257 : decode code 257 = .ok (.iconst 2, 1) := by decide +kernel
theorem dL_258 : decode code 258 = .ok (.iadd, 1) := by decide +kernel
theorem dL_259 : decode code 259 = .ok (.iaload, 1) := by decide +kernel
theorem dL_260 : decode code 260 = .ok (.aload_n 0, 1) := by decide +kernel
theorem dL_261 : decode code 261 = .ok (.iload_n 3, 1) := by decide +kernel
theorem dL_262 : decode code 262 = .ok (.iconst 3, 1) := by decide +kernel
theorem dL_263 : decode code 263 = .ok (.iadd, 1) := by decide +kernel
theorem dL_264 : decode code 264 = .ok (.iaload, 1) := by decide +kernel
theorem dL_265 : decode code 265 = .ok (.invokevirtual 18, 3) := by decide +kernel
theorem dL_268 : decode code 268 = .ok (.aload_n 2, 1) := by decide +kernel
theorem dL_269 : decode code 269 = .ok (.aload_n 0, 1) := by decide +kernel
theorem dL_270 : decode code 270 = .ok (.iload_n 3, 1) := by decide +kernel
theorem dL_271 : decode code 271 = .ok (.iconst 1, 1) := by decide +kernel
theorem dL_272 : decode code 272 = .ok (.iadd, 1) := by decide +kernel
theorem dL_273 : decode code 273 = .ok (.iaload, 1) := by decide +kernel
theorem dL_274 : decode code 274 = .ok (.aload_n 0, 1) := by decide +kernel
theorem dL_275 : decode code 275 = .ok (.iload_n 3, 1) := by decide +kernel
theorem dL_276 : decode code 276 = .ok (.iconst 2, 1) := by decide +kernel
theorem dL_277 : decode code 277 = .ok (.iadd, 1) := by decide +kernel
theorem dL_278 : decode code 278 = .ok (.iaload, 1) := by decide +kernel
theorem dL_279 : decode code 279 = .ok (.aload_n 0, 1) := by decide +kernel
theorem dL_280 : decode code 280 = .ok (.iload_n 3, 1) := by decide +kernel
theorem dL_281 : decode code 281 = .ok (.iconst 3, 1) := by decide +kernel
theorem dL_282 : decode code 282 = .ok (.iadd, 1) := by decide +kernel
theorem dL_283 : decode code 283 = .ok (.iaload, 1) := by decide +kernel
theorem dL_284 : decode code 284 = .ok (.invokevirtual 22, 3) := by decide +kernel
theorem dL_287 : decode code 287 = .ok (.if_icmp .eq 1315, 3) := by decide +kernel
theorem dL_290 : decode code 290 = .ok (.iconst 0, 1) := by decide +kernel
theorem dL_291 : decode code 291 = .ok (.ireturn, 1) := by decide +kernel
theorem dL_292 : decode code 292 = .ok (.aload_n 1, 1) := by decide +kernel
theorem dL_293 : decode code 293 = .ok (.aload_n 0, 1) := by decide +kernel
theorem dL_294 : decode code 294 = .ok (.iload_n 3, 1) := by decide +kernel
theorem dL_295 : decode code 295 = .ok (.iconst 1, 1) := by decide +kernel
theorem dL_296 : decode code 296 = .ok (.iadd, 1) := by decide +kernel
theorem dL_297 : decode code 297 = .ok (.iaload, 1) := by decide +kernel
theorem dL_298 : decode code 298 = .ok (.aload_n 0, 1) := by decide +kernel
theorem dL_299 : decode code 299 = .ok (.iload_n 3, 1) := by decide +kernel
theorem dL_300 : decode code 300 = .ok (.iconst 2, 1) := by decide +kernel
theorem dL_301 : decode code 301 = .ok (.iadd, 1) := by decide +kernel
theorem dL_302 : decode code 302 = .ok (.iaload, 1) := by decide +kernel
theorem dL_303 : decode code 303 = .ok (.aload_n 0, 1) := by decide +kernel
theorem dL_304 : decode code 304 = .ok (.iload_n 3, 1) := by decide +kernel
theorem dL_305 : decode code 305 = .ok (.iconst 3, 1) := by decide +kernel
theorem dL_306 : decode code 306 = .ok (.iadd, 1) := by decide +kernel
theorem dL_307 : decode code 307 = .ok (.iaload, 1) := by decide +kernel
theorem dL_308 : decode code 308 = .ok (.invokevirtual 23, 3) := by decide +kernel
theorem dL_311 : decode code 311 = .ok (.aload_n 2, 1) := by decide +kernel
theorem dL_312 : decode code 312 = .ok (.aload_n 0, 1) := by decide +kernel
theorem dL_313 : decode code 313 = .ok (.iload_n 3, 1) := by decide +kernel
theorem dL_314 : decode code 314 = .ok (.iconst 1, 1) := by decide +kernel
theorem dL_315 : decode code 315 = .ok (.iadd, 1) := by decide +kernel
theorem dL_316 : decode code 316 = .ok (.iaload, 1) := by decide +kernel
theorem dL_317 : decode code 317 = .ok (.aload_n 0, 1) := by decide +kernel
theorem dL_318 : decode code 318 = .ok (.iload_n 3, 1) := by decide +kernel
theorem dL_319 : decode code 319 = .ok (.iconst 2, 1) := by decide +kernel
theorem dL_320 : decode code 320 = .ok (.iadd, 1) := by decide +kernel
theorem dL_321 : decode code 321 = .ok (.iaload, 1) := by decide +kernel
theorem dL_322 : decode code 322 = .ok (.aload_n 0, 1) := by decide +kernel
theorem dL_323 : decode code 323 = .ok (.iload_n 3, 1) := by decide +kernel
theorem dL_324 : decode code 324 = .ok (.iconst 3, 1) := by decide +kernel
theorem dL_325 : decode code 325 = .ok (.iadd, 1) := by decide +kernel
theorem dL_326 : decode code 326 = .ok (.iaload, 1) := by decide +kernel
theorem dL_327 : decode code 327 = .ok (.invokevirtual 26, 3) := by decide +kernel
theorem dL_330 : decode code 330 = .ok (.if_icmp .eq 1272, 3) := by decide +kernel
theorem dL_333 : decode code 333 = .ok (.iconst 0, 1) := by decide +kernel
theorem dL_334 : decode code 334 = .ok (.ireturn, 1) := by decide +kernel
theorem dL_335 : decode code 335 = .ok (.aload_n 1, 1) := by decide +kernel
theorem dL_336 : decode code 336 = .ok (.aload_n 0, 1) := by decide +kernel
theorem dL_337 : decode code 337 = .ok (.iload_n 3, 1) := by decide +kernel
theorem dL_338 : decode code 338 = .ok (.iconst 1, 1) := by decide +kernel
theorem dL_339 : decode code 339 = .ok (.iadd, 1) := by decide +kernel
theorem dL_340 : decode code 340 = .ok (.iaload, 1) := by decide +kernel
theorem dL_341 : decode code 341 = .ok (.aload_n 0, 1) := by decide +kernel
theorem dL_342 : decode code 342 = .ok (.iload_n 3, 1) := by decide +kernel
theorem dL_343 : decode code 343 = .ok (.iconst 2, 1) := by decide +kernel
theorem dL_344 : decode code 344 = .ok (.iadd, 1) := by decide +kernel
theorem dL_345 : decode code 345 = .ok (.iaload, 1) := by decide +kernel
theorem dL_346 : decode code 346 = .ok (.invokevirtual 27, 3) := by decide +kernel
theorem dL_349 : decode code 349 = .ok (.aload_n 2, 1) := by decide +kernel
theorem dL_350 : decode code 350 = .ok (.aload_n 0, 1) := by decide +kernel
theorem dL_351 : decode code 351 = .ok (.iload_n 3, 1) := by decide +kernel
theorem dL_352 : decode code 352 = .ok (.iconst 1, 1) := by decide +kernel
theorem dL_353 : decode code 353 = .ok (.iadd, 1) := by decide +kernel
theorem dL_354 : decode code 354 = .ok (.iaload, 1) := by decide +kernel
theorem dL_355 : decode code 355 = .ok (.aload_n 0, 1) := by decide +kernel
theorem dL_356 : decode code 356 = .ok (.iload_n 3, 1) := by decide +kernel
theorem dL_357 : decode code 357 = .ok (.iconst 2, 1) := by decide +kernel
theorem dL_358 : decode code 358 = .ok (.iadd, 1) := by decide +kernel
theorem dL_359 : decode code 359 = .ok (.iaload, 1) := by decide +kernel
theorem dL_360 : decode code 360 = .ok (.invokevirtual 30, 3) := by decide +kernel
theorem dL_363 : decode code 363 = .ok (.if_icmp .eq 1239, 3) := by decide +kernel
theorem dL_366 : decode code 366 = .ok (.iconst 0, 1) := by decide +kernel
theorem dL_367 : decode code 367 = .ok (.ireturn, 1) := by decide +kernel
theorem dL_368 : decode code 368 = .ok (.aload_n 1, 1) := by decide +kernel
theorem dL_369 : decode code 369 = .ok (.aload_n 0, 1) := by decide +kernel
theorem dL_370 : decode code 370 = .ok (.iload_n 3, 1) := by decide +kernel
theorem dL_371 : decode code 371 = .ok (.iconst 1, 1) := by decide +kernel
theorem dL_372 : decode code 372 = .ok (.iadd, 1) := by decide +kernel
theorem dL_373 : decode code 373 = .ok (.iaload, 1) := by decide +kernel
theorem dL_374 : decode code 374 = .ok (.aload_n 0, 1) := by decide +kernel
theorem dL_375 : decode code 375 = .ok (.iload_n 3, 1) := by decide +kernel
theorem dL_376 : decode code 376 = .ok (.iconst 2, 1) := by decide +kernel
theorem dL_377 : decode code 377 = .ok (.iadd, 1) := by decide +kernel
theorem dL_378 : decode code 378 = .ok (.iaload, 1) := by decide +kernel
theorem dL_379 : decode code 379 = .ok (.invokevirtual 31, 3) := by decide +kernel
theorem dL_382 : decode code 382 = .ok (.aload_n 2, 1) := by decide +kernel
theorem dL_383 : decode code 383 = .ok (.aload_n 0, 1) := by decide +kernel
theorem dL_384 : decode code 384 = .ok (.iload_n 3, 1) := by decide +kernel
theorem dL_385 : decode code 385 = .ok (.iconst 1, 1) := by decide +kernel
theorem dL_386 : decode code 386 = .ok (.iadd, 1) := by decide +kernel
theorem dL_387 : decode code 387 = .ok (.iaload, 1) := by decide +kernel
theorem dL_388 : decode code 388 = .ok (.aload_n 0, 1) := by decide +kernel
theorem dL_389 : decode code 389 = .ok (.iload_n 3, 1) := by decide +kernel
theorem dL_390 : decode code 390 = .ok (.iconst 2, 1) := by decide +kernel
theorem dL_391 : decode code 391 = .ok (.iadd, 1) := by decide +kernel
theorem dL_392 : decode code 392 = .ok (.iaload, 1) := by decide +kernel
theorem dL_393 : decode code 393 = .ok (.invokevirtual 34, 3) := by decide +kernel
theorem dL_396 : decode code 396 = .ok (.if_icmp .eq 1206, 3) := by decide +kernel
theorem dL_399 : decode code 399 = .ok (.iconst 0, 1) := by decide +kernel
theorem dL_400 : decode code 400 = .ok (.ireturn, 1) := by decide +kernel
theorem dL_401 : decode code 401 = .ok (.aload_n 1, 1) := by decide +kernel
theorem dL_402 : decode code 402 = .ok (.aload_n 0, 1) := by decide +kernel
theorem dL_403 : decode code 403 = .ok (.iload_n 3, 1) := by decide +kernel
theorem dL_404 : decode code 404 = .ok (.iconst 1, 1) := by decide +kernel
theorem dL_405 : decode code 405 = .ok (.iadd, 1) := by decide +kernel
theorem dL_406 : decode code 406 = .ok (.iaload, 1) := by decide +kernel
theorem dL_407 : decode code 407 = .ok (.aload_n 0, 1) := by decide +kernel
theorem dL_408 : decode code 408 = .ok (.iload_n 3, 1) := by decide +kernel
theorem dL_409 : decode code 409 = .ok (.iconst 2, 1) := by decide +kernel
theorem dL_410 : decode code 410 = .ok (.iadd, 1) := by decide +kernel
theorem dL_411 : decode code 411 = .ok (.iaload, 1) := by decide +kernel
theorem dL_412 : decode code 412 = .ok (.invokevirtual 35, 3) := by decide +kernel
theorem dL_415 : decode code 415 = .ok (.aload_n 2, 1) := by decide +kernel
theorem dL_416 : decode code 416 = .ok (.aload_n 0, 1) := by decide +kernel
theorem dL_417 : decode code 417 = .ok (.iload_n 3, 1) := by decide +kernel
theorem dL_418 : decode code 418 = .ok (.iconst 1, 1) := by decide +kernel
theorem dL_419 : decode code 419 = .ok (.iadd, 1) := by decide +kernel
theorem dL_420 : decode code 420 = .ok (.iaload, 1) := by decide +kernel
theorem dL_421 : decode code 421 = .ok (.aload_n 0, 1) := by decide +kernel
theorem dL_422 : decode code 422 = .ok (.iload_n 3, 1) := by decide +kernel
theorem dL_423 : decode code 423 = .ok (.iconst 2, 1) := by decide +kernel
theorem dL_424 : decode code 424 = .ok (.iadd, 1) := by decide +kernel
theorem dL_425 : decode code 425 = .ok (.iaload, 1) := by decide +kernel
theorem dL_426 : decode code 426 = .ok (.invokevirtual 38, 3) := by decide +kernel
theorem dL_429 : decode code 429 = .ok (.if_icmp .eq 1173, 3) := by decide +kernel
theorem dL_432 : decode code 432 = .ok (.iconst 0, 1) := by decide +kernel
theorem dL_433 : decode code 433 = .ok (.ireturn, 1) := by decide +kernel
theorem dL_434 : decode code 434 = .ok (.aload_n 1, 1) := by decide +kernel
theorem dL_435 : decode code 435 = .ok (.aload_n 0, 1) := by decide +kernel
theorem dL_436 : decode code 436 = .ok (.iload_n 3, 1) := by decide +kernel
theorem dL_437 : decode code 437 = .ok (.iconst 1, 1) := by decide +kernel
theorem dL_438 : decode code 438 = .ok (.iadd, 1) := by decide +kernel
theorem dL_439 : decode code 439 = .ok (.iaload, 1) := by decide +kernel
theorem dL_440 : decode code 440 = .ok (.aload_n 0, 1) := by decide +kernel
theorem dL_441 : decode code 441 = .ok (.iload_n 3, 1) := by decide +kernel
theorem dL_442 : decode code 442 = .ok (.iconst 2, 1) := by decide +kernel
theorem dL_443 : decode code 443 = .ok (.iadd, 1) := by decide +kernel
theorem dL_444 : decode code 444 = .ok (.iaload, 1) := by decide +kernel
theorem dL_445 : decode code 445 = .ok (.aload_n 0, 1) := by decide +kernel
theorem dL_446 : decode code 446 = .ok (.iload_n 3, 1) := by decide +kernel
theorem dL_447 : decode code 447 = .ok (.iconst 3, 1) := by decide +kernel
theorem dL_448 : decode code 448 = .ok (.iadd, 1) := by decide +kernel
theorem dL_449 : decode code 449 = .ok (.iaload, 1) := by decide +kernel
theorem dL_450 : decode code 450 = .ok (.invokevirtual 39, 3) := by decide +kernel
theorem dL_453 : decode code 453 = .ok (.aload_n 2, 1) := by decide +kernel
theorem dL_454 : decode code 454 = .ok (.aload_n 0, 1) := by decide +kernel
theorem dL_455 : decode code 455 = .ok (.iload_n 3, 1) := by decide +kernel
theorem dL_456 : decode code 456 = .ok (.iconst 1, 1) := by decide +kernel
theorem dL_457 : decode code 457 = .ok (.iadd, 1) := by decide +kernel
theorem dL_458 : decode code 458 = .ok (.iaload, 1) := by decide +kernel
theorem dL_459 : decode code 459 = .ok (.aload_n 0, 1) := by decide +kernel
theorem dL_460 : decode code 460 = .ok (.iload_n 3, 1) := by decide +kernel
theorem dL_461 : decode code 461 = .ok (.iconst 2, 1) := by decide +kernel
theorem dL_462 : decode code 462 = .ok (.iadd, 1) := by decide +kernel
theorem dL_463 : decode code 463 = .ok (.iaload, 1) := by decide +kernel
theorem dL_464 : decode code 464 = .ok (.aload_n 0, 1) := by decide +kernel
theorem dL_465 : decode code 465 = .ok (.iload_n 3, 1) := by decide +kernel
theorem dL_466 : decode code 466 = .ok (.iconst 3, 1) := by decide +kernel
theorem dL_467 : decode code 467 = .ok (.iadd, 1) := by decide +kernel
theorem dL_468 : decode code 468 = .ok (.iaload, 1) := by decide +kernel
theorem dL_469 : decode code 469 = .ok (.invokevirtual 42, 3) := by decide +kernel
theorem dL_472 : decode code 472 = .ok (.if_icmp .eq 1130, 3) := by decide +kernel
theorem dL_475 : decode code 475 = .ok (.iconst 0, 1) := by decide +kernel
theorem dL_476 : decode code 476 = .ok (.ireturn, 1) := by decide +kernel
theorem dL_477 : decode code 477 = .ok (.aload_n 1, 1) := by decide +kernel
theorem dL_478 : decode code 478 = .ok (.aload_n 0, 1) := by decide +kernel
theorem dL_479 : decode code 479 = .ok (.iload_n 3, 1) := by decide +kernel
theorem dL_480 : decode code 480 = .ok (.iconst 1, 1) := by decide +kernel
theorem dL_481 : decode code 481 = .ok (.iadd, 1) := by decide +kernel
theorem dL_482 : decode code 482 = .ok (.iaload, 1) := by decide +kernel
theorem dL_483 : decode code 483 = .ok (.aload_n 0, 1) := by decide +kernel
theorem dL_484 : decode code 484 = .ok (.iload_n 3, 1) := by decide +kernel
theorem dL_485 : decode code 485 = .ok (.iconst 2, 1) := by decide +kernel
theorem dL_486 : decode code 486 = .ok (.iadd, 1) := by decide +kernel
theorem dL_487 : decode code 487 = .ok (.iaload, 1) := by decide +kernel
theorem dL_488 : decode code 488 = .ok (.invokevirtual 43, 3) := by decide +kernel
theorem dL_491 : decode code 491 = .ok (.aload_n 2, 1) := by decide +kernel
theorem dL_492 : decode code 492 = .ok (.aload_n 0, 1) := by decide +kernel
theorem dL_493 : decode code 493 = .ok (.iload_n 3, 1) := by decide +kernel
theorem dL_494 : decode code 494 = .ok (.iconst 1, 1) := by decide +kernel
theorem dL_495 : decode code 495 = .ok (.iadd, 1) := by decide +kernel
theorem dL_496 : decode code 496 = .ok (.iaload, 1) := by decide +kernel
theorem dL_497 : decode code 497 = .ok (.aload_n 0, 1) := by decide +kernel
theorem dL_498 : decode code 498 = .ok (.iload_n 3, 1) := by decide +kernel
theorem dL_499 : decode code 499 = .ok (.iconst 2, 1) := by decide +kernel
theorem dL_500 : decode code 500 = .ok (.iadd, 1) := by decide +kernel
theorem dL_501 : decode code 501 = .ok (.iaload, 1) := by decide +kernel
theorem dL_502 : decode code 502 = .ok (.invokevirtual 46, 3) := by decide +kernel
theorem dL_505 : decode code 505 = .ok (.if_icmp .eq 1097, 3) := by decide +kernel
theorem dL_508 : decode code 508 = .ok (.iconst 0, 1) := by decide +kernel
theorem dL_509 : decode code 509 = .ok (.ireturn, 1) := by decide +kernel
theorem dL_510 : decode code 510 = .ok (.aload_n 1, 1) := by decide +kernel
theorem dL_511 : decode code 511 = .ok (.aload_n 0, 1) := by decide +kernel
theorem dL_512 : decode code 512 = .ok (.iload_n 3, 1) := by decide +kernel
theorem dL_513 : decode code 513 = .ok (.iconst 1, 1) := by decide +kernel
theorem dL_514 : decode code 514 = .ok (.iadd, 1) := by decide +kernel
theorem dL_515 : decode code 515 = .ok (.iaload, 1) := by decide +kernel
theorem dL_516 : decode code 516 = .ok (.aload_n 0, 1) := by decide +kernel
theorem dL_517 : decode code 517 = .ok (.iload_n 3, 1) := by decide +kernel
theorem dL_518 : decode code 518 = .ok (.iconst 2, 1) := by decide +kernel
theorem dL_519 : decode code 519 = .ok (.iadd, 1) := by decide +kernel
theorem dL_520 : decode code 520 = .ok (.iaload, 1) := by decide +kernel
theorem dL_521 : decode code 521 = .ok (.invokevirtual 47, 3) := by decide +kernel
theorem dL_524 : decode code 524 = .ok (.aload_n 2, 1) := by decide +kernel
theorem dL_525 : decode code 525 = .ok (.aload_n 0, 1) := by decide +kernel
theorem dL_526 : decode code 526 = .ok (.iload_n 3, 1) := by decide +kernel
theorem dL_527 : decode code 527 = .ok (.iconst 1, 1) := by decide +kernel
theorem dL_528 : decode code 528 = .ok (.iadd, 1) := by decide +kernel
theorem dL_529 : decode code 529 = .ok (.iaload, 1) := by decide +kernel
theorem dL_530 : decode code 530 = .ok (.aload_n 0, 1) := by decide +kernel
theorem dL_531 : decode code 531 = .ok (.iload_n 3, 1) := by decide +kernel
theorem dL_532 : decode code 532 = .ok (.iconst 2, 1) := by decide +kernel
