/-! contracts: printed by tools/mk.py out of s98zzzt_law.py -/
set_option maxRecDepth 100000
set_option maxHeartbeats 800000
/-! the law: its instructions, its operations one by one, over any relation -/
theorem dL_0 : DD code 0 3 3 (.new 7) := ⟨by decide +kernel, rfl⟩
theorem dL_3 : DD code 3 1 4 (.dup) := ⟨by decide +kernel, rfl⟩
theorem dL_4 : DD code 4 3 7 (.invokespecial 9) := ⟨by decide +kernel, rfl⟩
theorem dL_7 : DD code 7 1 8 (.astore_n 1) := ⟨by decide +kernel, rfl⟩
theorem dL_8 : DD code 8 3 11 (.new 10) := ⟨by decide +kernel, rfl⟩
theorem dL_11 : DD code 11 1 12 (.dup) := ⟨by decide +kernel, rfl⟩
theorem dL_12 : DD code 12 3 15 (.invokespecial 12) := ⟨by decide +kernel, rfl⟩
theorem dL_15 : DD code 15 1 16 (.astore_n 2) := ⟨by decide +kernel, rfl⟩
theorem dL_16 : DD code 16 1 17 (.iconst 0) := ⟨by decide +kernel, rfl⟩
theorem dL_17 : DD code 17 1 18 (.istore_n 3) := ⟨by decide +kernel, rfl⟩
theorem dL_18 : DD code 18 1 19 (.iload_n 3) := ⟨by decide +kernel, rfl⟩
theorem dL_19 : DD code 19 1 20 (.aload_n 0) := ⟨by decide +kernel, rfl⟩
theorem dL_20 : DD code 20 1 21 (.arraylength) := ⟨by decide +kernel, rfl⟩
theorem dL_21 : DD code 21 2 23 (.bipush 8) := ⟨by decide +kernel, rfl⟩
theorem dL_23 : DD code 23 1 24 (.isub) := ⟨by decide +kernel, rfl⟩
theorem dL_24 : DD code 24 3 27 (.if_icmp .gt 1933) := ⟨by decide +kernel, rfl⟩
theorem dL_27 : DD code 27 1 28 (.aload_n 0) := ⟨by decide +kernel, rfl⟩
theorem dL_28 : DD code 28 1 29 (.iload_n 3) := ⟨by decide +kernel, rfl⟩
theorem dL_29 : DD code 29 1 30 (.iaload) := ⟨by decide +kernel, rfl⟩
theorem dL_30 : DD code 30 2 32 (.bipush 63) := ⟨by decide +kernel, rfl⟩
theorem dL_32 : DD code 32 1 33 (.iand) := ⟨by decide +kernel, rfl⟩
theorem dL_33 : decode code 33 = .ok (.tableswitch 1918 0 57 #[247, 310, 333, 376, 399, 422, 445, 478, 511, 544, 567, 630, 673, 736, 749, 772, 795, 808, 821, 844, 857, 870, 883, 906, 919, 932, 955, 978, 1001, 1024, 1067, 1090, 1123, 1146, 1169, 1193, 1216, 1250, 1283, 1316, 1339, 1402, 1435, 1469, 1502, 1535, 1568, 1601, 1634, 1721, 1734, 1757, 1790, 1823, 1846, 1869, 1882, 1905], 247) := by decide +kernel
theorem dL_280 : DD code 280 1 281 (.aload_n 1) := ⟨by decide +kernel, rfl⟩
theorem dL_281 : DD code 281 1 282 (.aload_n 0) := ⟨by decide +kernel, rfl⟩
theorem dL_282 : DD code 282 1 283 (.iload_n 3) := ⟨by decide +kernel, rfl⟩
theorem dL_283 : DD code 283 1 284 (.iconst 1) := ⟨by decide +kernel, rfl⟩
theorem dL_284 : DD code 284 1 285 (.iadd) := ⟨by decide +kernel, rfl⟩
theorem dL_285 : DD code 285 1 286 (.iaload) := ⟨by decide +kernel, rfl⟩
theorem dL_286 : DD code 286 1 287 (.aload_n 0) := ⟨by decide +kernel, rfl⟩
theorem dL_287 : DD code 287 1 288 (.iload_n 3) := ⟨by decide +kernel, rfl⟩
theorem dL_288 : DD code 288 1 289 (.iconst 2) := ⟨by decide +kernel, rfl⟩
theorem dL_289 : DD code 289 1 290 (.iadd) := ⟨by decide +kernel, rfl⟩
theorem dL_290 : DD code 290 1 291 (.iaload) := ⟨by decide +kernel, rfl⟩
theorem dL_291 : DD code 291 1 292 (.aload_n 0) := ⟨by decide +kernel, rfl⟩
theorem dL_292 : DD code 292 1 293 (.iload_n 3) := ⟨by decide +kernel, rfl⟩
theorem dL_293 : DD code 293 1 294 (.iconst 3) := ⟨by decide +kernel, rfl⟩
theorem dL_294 : DD code 294 1 295 (.iadd) := ⟨by decide +kernel, rfl⟩
theorem dL_295 : DD code 295 1 296 (.iaload) := ⟨by decide +kernel, rfl⟩
theorem dL_296 : DD code 296 1 297 (.aload_n 0) := ⟨by decide +kernel, rfl⟩
theorem dL_297 : DD code 297 1 298 (.iload_n 3) := ⟨by decide +kernel, rfl⟩
theorem dL_298 : DD code 298 1 299 (.iconst 4) := ⟨by decide +kernel, rfl⟩
theorem dL_299 : DD code 299 1 300 (.iadd) := ⟨by decide +kernel, rfl⟩
theorem dL_300 : DD code 300 1 301 (.iaload) := ⟨by decide +kernel, rfl⟩
theorem dL_301 : DD code 301 1 302 (.aload_n 0) := ⟨by decide +kernel, rfl⟩
theorem dL_302 : DD code 302 1 303 (.iload_n 3) := ⟨by decide +kernel, rfl⟩
theorem dL_303 : DD code 303 1 304 (.iconst 5) := ⟨by decide +kernel, rfl⟩
theorem dL_304 : DD code 304 1 305 (.iadd) := ⟨by decide +kernel, rfl⟩
theorem dL_305 : DD code 305 1 306 (.iaload) := ⟨by decide +kernel, rfl⟩
theorem dL_306 : DD code 306 3 309 (.invokevirtual 13) := ⟨by decide +kernel, rfl⟩
theorem dL_309 : DD code 309 1 310 (.aload_n 2) := ⟨by decide +kernel, rfl⟩
theorem dL_310 : DD code 310 1 311 (.aload_n 0) := ⟨by decide +kernel, rfl⟩
theorem dL_311 : DD code 311 1 312 (.iload_n 3) := ⟨by decide +kernel, rfl⟩
theorem dL_312 : DD code 312 1 313 (.iconst 1) := ⟨by decide +kernel, rfl⟩
theorem dL_313 : DD code 313 1 314 (.iadd) := ⟨by decide +kernel, rfl⟩
theorem dL_314 : DD code 314 1 315 (.iaload) := ⟨by decide +kernel, rfl⟩
theorem dL_315 : DD code 315 1 316 (.aload_n 0) := ⟨by decide +kernel, rfl⟩
theorem dL_316 : DD code 316 1 317 (.iload_n 3) := ⟨by decide +kernel, rfl⟩
theorem dL_317 : DD code 317 1 318 (.iconst 2) := ⟨by decide +kernel, rfl⟩
theorem dL_318 : DD code 318 1 319 (.iadd) := ⟨by decide +kernel, rfl⟩
theorem dL_319 : DD code 319 1 320 (.iaload) := ⟨by decide +kernel, rfl⟩
theorem dL_320 : DD code 320 1 321 (.aload_n 0) := ⟨by decide +kernel, rfl⟩
theorem dL_321 : DD code 321 1 322 (.iload_n 3) := ⟨by decide +kernel, rfl⟩
theorem dL_322 : DD code 322 1 323 (.iconst 3) := ⟨by decide +kernel, rfl⟩
theorem dL_323 : DD code 323 1 324 (.iadd) := ⟨by decide +kernel, rfl⟩
theorem dL_324 : DD code 324 1 325 (.iaload) := ⟨by decide +kernel, rfl⟩
theorem dL_325 : DD code 325 1 326 (.aload_n 0) := ⟨by decide +kernel, rfl⟩
theorem dL_326 : DD code 326 1 327 (.iload_n 3) := ⟨by decide +kernel, rfl⟩
theorem dL_327 : DD code 327 1 328 (.iconst 4) := ⟨by decide +kernel, rfl⟩
theorem dL_328 : DD code 328 1 329 (.iadd) := ⟨by decide +kernel, rfl⟩
theorem dL_329 : DD code 329 1 330 (.iaload) := ⟨by decide +kernel, rfl⟩
theorem dL_330 : DD code 330 1 331 (.aload_n 0) := ⟨by decide +kernel, rfl⟩
theorem dL_331 : DD code 331 1 332 (.iload_n 3) := ⟨by decide +kernel, rfl⟩
theorem dL_332 : DD code 332 1 333 (.iconst 5) := ⟨by decide +kernel, rfl⟩
theorem dL_333 : DD code 333 1 334 (.iadd) := ⟨by decide +kernel, rfl⟩
theorem dL_334 : DD code 334 1 335 (.iaload) := ⟨by decide +kernel, rfl⟩
theorem dL_335 : DD code 335 3 338 (.invokevirtual 17) := ⟨by decide +kernel, rfl⟩
theorem dL_338 : DD code 338 3 341 (.if_icmp .eq 1613) := ⟨by decide +kernel, rfl⟩
theorem dL_341 : DD code 341 1 342 (.iconst 0) := ⟨by decide +kernel, rfl⟩
theorem dL_342 : DD code 342 1 343 (.ireturn) := ⟨by decide +kernel, rfl⟩
theorem dL_343 : DD code 343 1 344 (.aload_n 1) := ⟨by decide +kernel, rfl⟩
theorem dL_344 : DD code 344 1 345 (.aload_n 0) := ⟨by decide +kernel, rfl⟩
theorem dL_345 : DD code 345 1 346 (.iload_n 3) := ⟨by decide +kernel, rfl⟩
theorem dL_346 : DD code 346 1 347 (.iconst 1) := ⟨by decide +kernel, rfl⟩
theorem dL_347 : DD code 347 1 348 (.iadd) := ⟨by decide +kernel, rfl⟩
theorem dL_348 : DD code 348 1 349 (.iaload) := ⟨by decide +kernel, rfl⟩
theorem dL_349 : DD code 349 3 352 (.invokevirtual 18) := ⟨by decide +kernel, rfl⟩
theorem dL_352 : DD code 352 1 353 (.aload_n 2) := ⟨by decide +kernel, rfl⟩
theorem dL_353 : DD code 353 1 354 (.aload_n 0) := ⟨by decide +kernel, rfl⟩
theorem dL_354 : DD code 354 1 355 (.iload_n 3) := ⟨by decide +kernel, rfl⟩
theorem dL_355 : DD code 355 1 356 (.iconst 1) := ⟨by decide +kernel, rfl⟩
theorem dL_356 : DD code 356 1 357 (.iadd) := ⟨by decide +kernel, rfl⟩
theorem dL_357 : DD code 357 1 358 (.iaload) := ⟨by decide +kernel, rfl⟩
theorem dL_358 : DD code 358 3 361 (.invokevirtual 22) := ⟨by decide +kernel, rfl⟩
theorem dL_361 : DD code 361 3 364 (.if_icmp .eq 1590) := ⟨by decide +kernel, rfl⟩
theorem dL_364 : DD code 364 1 365 (.iconst 0) := ⟨by decide +kernel, rfl⟩
theorem dL_365 : DD code 365 1 366 (.ireturn) := ⟨by decide +kernel, rfl⟩
theorem dL_366 : DD code 366 1 367 (.aload_n 1) := ⟨by decide +kernel, rfl⟩
theorem dL_367 : DD code 367 1 368 (.aload_n 0) := ⟨by decide +kernel, rfl⟩
theorem dL_368 : DD code 368 1 369 (.iload_n 3) := ⟨by decide +kernel, rfl⟩
theorem dL_369 : DD code 369 1 370 (.iconst 1) := ⟨by decide +kernel, rfl⟩
theorem dL_370 : DD code 370 1 371 (.iadd) := ⟨by decide +kernel, rfl⟩
theorem dL_371 : DD code 371 1 372 (.iaload) := ⟨by decide +kernel, rfl⟩
theorem dL_372 : DD code 372 1 373 (.aload_n 0) := ⟨by decide +kernel, rfl⟩
theorem dL_373 : DD code 373 1 374 (.iload_n 3) := ⟨by decide +kernel, rfl⟩
theorem dL_374 : DD code 374 1 375 (.iconst 2) := ⟨by decide +kernel, rfl⟩
theorem dL_375 : DD code 375 1 376 (.iadd) := ⟨by decide +kernel, rfl⟩
theorem dL_376 : DD code 376 1 377 (.iaload) := ⟨by decide +kernel, rfl⟩
theorem dL_377 : DD code 377 1 378 (.aload_n 0) := ⟨by decide +kernel, rfl⟩
theorem dL_378 : DD code 378 1 379 (.iload_n 3) := ⟨by decide +kernel, rfl⟩
theorem dL_379 : DD code 379 1 380 (.iconst 3) := ⟨by decide +kernel, rfl⟩
theorem dL_380 : DD code 380 1 381 (.iadd) := ⟨by decide +kernel, rfl⟩
theorem dL_381 : DD code 381 1 382 (.iaload) := ⟨by decide +kernel, rfl⟩
theorem dL_382 : DD code 382 3 385 (.invokevirtual 23) := ⟨by decide +kernel, rfl⟩
theorem dL_385 : DD code 385 1 386 (.aload_n 2) := ⟨by decide +kernel, rfl⟩
theorem dL_386 : DD code 386 1 387 (.aload_n 0) := ⟨by decide +kernel, rfl⟩
theorem dL_387 : DD code 387 1 388 (.iload_n 3) := ⟨by decide +kernel, rfl⟩
theorem dL_388 : DD code 388 1 389 (.iconst 1) := ⟨by decide +kernel, rfl⟩
theorem dL_389 : DD code 389 1 390 (.iadd) := ⟨by decide +kernel, rfl⟩
theorem dL_390 : DD code 390 1 391 (.iaload) := ⟨by decide +kernel, rfl⟩
theorem dL_391 : DD code 391 1 392 (.aload_n 0) := ⟨by decide +kernel, rfl⟩
theorem dL_392 : DD code 392 1 393 (.iload_n 3) := ⟨by decide +kernel, rfl⟩
theorem dL_393 : DD code 393 1 394 (.iconst 2) := ⟨by decide +kernel, rfl⟩
theorem dL_394 : DD code 394 1 395 (.iadd) := ⟨by decide +kernel, rfl⟩
theorem dL_395 : DD code 395 1 396 (.iaload) := ⟨by decide +kernel, rfl⟩
theorem dL_396 : DD code 396 1 397 (.aload_n 0) := ⟨by decide +kernel, rfl⟩
theorem dL_397 : DD code 397 1 398 (.iload_n 3) := ⟨by decide +kernel, rfl⟩
theorem dL_398 : DD code 398 1 399 (.iconst 3) := ⟨by decide +kernel, rfl⟩
theorem dL_399 : DD code 399 1 400 (.iadd) := ⟨by decide +kernel, rfl⟩
theorem dL_400 : DD code 400 1 401 (.iaload) := ⟨by decide +kernel, rfl⟩
theorem dL_401 : DD code 401 3 404 (.invokevirtual 27) := ⟨by decide +kernel, rfl⟩
theorem dL_404 : DD code 404 3 407 (.if_icmp .eq 1547) := ⟨by decide +kernel, rfl⟩
theorem dL_407 : DD code 407 1 408 (.iconst 0) := ⟨by decide +kernel, rfl⟩
theorem dL_408 : DD code 408 1 409 (.ireturn) := ⟨by decide +kernel, rfl⟩
theorem dL_409 : DD code 409 1 410 (.aload_n 1) := ⟨by decide +kernel, rfl⟩
theorem dL_410 : DD code 410 1 411 (.aload_n 0) := ⟨by decide +kernel, rfl⟩
theorem dL_411 : DD code 411 1 412 (.iload_n 3) := ⟨by decide +kernel, rfl⟩
theorem dL_412 : DD code 412 1 413 (.iconst 1) := ⟨by decide +kernel, rfl⟩
theorem dL_413 : DD code 413 1 414 (.iadd) := ⟨by decide +kernel, rfl⟩
theorem dL_414 : DD code 414 1 415 (.iaload) := ⟨by decide +kernel, rfl⟩
theorem dL_415 : DD code 415 3 418 (.invokevirtual 28) := ⟨by decide +kernel, rfl⟩
theorem dL_418 : DD code 418 1 419 (.aload_n 2) := ⟨by decide +kernel, rfl⟩
theorem dL_419 : DD code 419 1 420 (.aload_n 0) := ⟨by decide +kernel, rfl⟩
theorem dL_420 : DD code 420 1 421 (.iload_n 3) := ⟨by decide +kernel, rfl⟩
theorem dL_421 : DD code 421 1 422 (.iconst 1) := ⟨by decide +kernel, rfl⟩
theorem dL_422 : DD code 422 1 423 (.iadd) := ⟨by decide +kernel, rfl⟩
theorem dL_423 : DD code 423 1 424 (.iaload) := ⟨by decide +kernel, rfl⟩
theorem dL_424 : DD code 424 3 427 (.invokevirtual 31) := ⟨by decide +kernel, rfl⟩
theorem dL_427 : DD code 427 3 430 (.if_icmp .eq 1524) := ⟨by decide +kernel, rfl⟩
theorem dL_430 : DD code 430 1 431 (.iconst 0) := ⟨by decide +kernel, rfl⟩
theorem dL_431 : DD code 431 1 432 (.ireturn) := ⟨by decide +kernel, rfl⟩
theorem dL_432 : DD code 432 1 433 (.aload_n 1) := ⟨by decide +kernel, rfl⟩
theorem dL_433 : DD code 433 1 434 (.aload_n 0) := ⟨by decide +kernel, rfl⟩
theorem dL_434 : DD code 434 1 435 (.iload_n 3) := ⟨by decide +kernel, rfl⟩
theorem dL_435 : DD code 435 1 436 (.iconst 1) := ⟨by decide +kernel, rfl⟩
theorem dL_436 : DD code 436 1 437 (.iadd) := ⟨by decide +kernel, rfl⟩
theorem dL_437 : DD code 437 1 438 (.iaload) := ⟨by decide +kernel, rfl⟩
theorem dL_438 : DD code 438 3 441 (.invokevirtual 32) := ⟨by decide +kernel, rfl⟩
theorem dL_441 : DD code 441 1 442 (.aload_n 2) := ⟨by decide +kernel, rfl⟩
theorem dL_442 : DD code 442 1 443 (.aload_n 0) := ⟨by decide +kernel, rfl⟩
theorem dL_443 : DD code 443 1 444 (.iload_n 3) := ⟨by decide +kernel, rfl⟩
theorem dL_444 : DD code 444 1 445 (.iconst 1) := ⟨by decide +kernel, rfl⟩
theorem dL_445 : DD code 445 1 446 (.iadd) := ⟨by decide +kernel, rfl⟩
theorem dL_446 : DD code 446 1 447 (.iaload) := ⟨by decide +kernel, rfl⟩
theorem dL_447 : DD code 447 3 450 (.invokevirtual 35) := ⟨by decide +kernel, rfl⟩
theorem dL_450 : DD code 450 3 453 (.if_icmp .eq 1501) := ⟨by decide +kernel, rfl⟩
theorem dL_453 : DD code 453 1 454 (.iconst 0) := ⟨by decide +kernel, rfl⟩
theorem dL_454 : DD code 454 1 455 (.ireturn) := ⟨by decide +kernel, rfl⟩
theorem dL_455 : DD code 455 1 456 (.aload_n 1) := ⟨by decide +kernel, rfl⟩
theorem dL_456 : DD code 456 1 457 (.aload_n 0) := ⟨by decide +kernel, rfl⟩
theorem dL_457 : DD code 457 1 458 (.iload_n 3) := ⟨by decide +kernel, rfl⟩
theorem dL_458 : DD code 458 1 459 (.iconst 1) := ⟨by decide +kernel, rfl⟩
theorem dL_459 : DD code 459 1 460 (.iadd) := ⟨by decide +kernel, rfl⟩
theorem dL_460 : DD code 460 1 461 (.iaload) := ⟨by decide +kernel, rfl⟩
theorem dL_461 : DD code 461 3 464 (.invokevirtual 36) := ⟨by decide +kernel, rfl⟩
theorem dL_464 : DD code 464 1 465 (.aload_n 2) := ⟨by decide +kernel, rfl⟩
theorem dL_465 : DD code 465 1 466 (.aload_n 0) := ⟨by decide +kernel, rfl⟩
theorem dL_466 : DD code 466 1 467 (.iload_n 3) := ⟨by decide +kernel, rfl⟩
theorem dL_467 : DD code 467 1 468 (.iconst 1) := ⟨by decide +kernel, rfl⟩
theorem dL_468 : DD code 468 1 469 (.iadd) := ⟨by decide +kernel, rfl⟩
theorem dL_469 : DD code 469 1 470 (.iaload) := ⟨by decide +kernel, rfl⟩
theorem dL_470 : DD code 470 3 473 (.invokevirtual 39) := ⟨by decide +kernel, rfl⟩
theorem dL_473 : DD code 473 3 476 (.if_icmp .eq 1478) := ⟨by decide +kernel, rfl⟩
theorem dL_476 : DD code 476 1 477 (.iconst 0) := ⟨by decide +kernel, rfl⟩
theorem dL_477 : DD code 477 1 478 (.ireturn) := ⟨by decide +kernel, rfl⟩
theorem dL_478 : DD code 478 1 479 (.aload_n 1) := ⟨by decide +kernel, rfl⟩
theorem dL_479 : DD code 479 1 480 (.aload_n 0) := ⟨by decide +kernel, rfl⟩
theorem dL_480 : DD code 480 1 481 (.iload_n 3) := ⟨by decide +kernel, rfl⟩
theorem dL_481 : DD code 481 1 482 (.iconst 1) := ⟨by decide +kernel, rfl⟩
theorem dL_482 : DD code 482 1 483 (.iadd) := ⟨by decide +kernel, rfl⟩
theorem dL_483 : DD code 483 1 484 (.iaload) := ⟨by decide +kernel, rfl⟩
theorem dL_484 : DD code 484 1 485 (.aload_n 0) := ⟨by decide +kernel, rfl⟩
theorem dL_485 : DD code 485 1 486 (.iload_n 3) := ⟨by decide +kernel, rfl⟩
theorem dL_486 : DD code 486 1 487 (.iconst 2) := ⟨by decide +kernel, rfl⟩
theorem dL_487 : DD code 487 1 488 (.iadd) := ⟨by decide +kernel, rfl⟩
theorem dL_488 : DD code 488 1 489 (.iaload) := ⟨by decide +kernel, rfl⟩
theorem dL_489 : DD code 489 3 492 (.invokevirtual 40) := ⟨by decide +kernel, rfl⟩
theorem dL_492 : DD code 492 1 493 (.aload_n 2) := ⟨by decide +kernel, rfl⟩
theorem dL_493 : DD code 493 1 494 (.aload_n 0) := ⟨by decide +kernel, rfl⟩
theorem dL_494 : DD code 494 1 495 (.iload_n 3) := ⟨by decide +kernel, rfl⟩
theorem dL_495 : DD code 495 1 496 (.iconst 1) := ⟨by decide +kernel, rfl⟩
theorem dL_496 : DD code 496 1 497 (.iadd) := ⟨by decide +kernel, rfl⟩
theorem dL_497 : DD code 497 1 498 (.iaload) := ⟨by decide +kernel, rfl⟩
theorem dL_498 : DD code 498 1 499 (.aload_n 0) := ⟨by decide +kernel, rfl⟩
theorem dL_499 : DD code 499 1 500 (.iload_n 3) := ⟨by decide +kernel, rfl⟩
theorem dL_500 : DD code 500 1 501 (.iconst 2) := ⟨by decide +kernel, rfl⟩
theorem dL_501 : DD code 501 1 502 (.iadd) := ⟨by decide +kernel, rfl⟩
theorem dL_502 : DD code 502 1 503 (.iaload) := ⟨by decide +kernel, rfl⟩
theorem dL_503 : DD code 503 3 506 (.invokevirtual 44) := ⟨by decide +kernel, rfl⟩
theorem dL_506 : DD code 506 3 509 (.if_icmp .eq 1445) := ⟨by decide +kernel, rfl⟩
theorem dL_509 : DD code 509 1 510 (.iconst 0) := ⟨by decide +kernel, rfl⟩
theorem dL_510 : DD code 510 1 511 (.ireturn) := ⟨by decide +kernel, rfl⟩
theorem dL_511 : DD code 511 1 512 (.aload_n 1) := ⟨by decide +kernel, rfl⟩
theorem dL_512 : DD code 512 1 513 (.aload_n 0) := ⟨by decide +kernel, rfl⟩
theorem dL_513 : DD code 513 1 514 (.iload_n 3) := ⟨by decide +kernel, rfl⟩
theorem dL_514 : DD code 514 1 515 (.iconst 1) := ⟨by decide +kernel, rfl⟩
theorem dL_515 : DD code 515 1 516 (.iadd) := ⟨by decide +kernel, rfl⟩
theorem dL_516 : DD code 516 1 517 (.iaload) := ⟨by decide +kernel, rfl⟩
theorem dL_517 : DD code 517 1 518 (.aload_n 0) := ⟨by decide +kernel, rfl⟩
theorem dL_518 : DD code 518 1 519 (.iload_n 3) := ⟨by decide +kernel, rfl⟩
theorem dL_519 : DD code 519 1 520 (.iconst 2) := ⟨by decide +kernel, rfl⟩
theorem dL_520 : DD code 520 1 521 (.iadd) := ⟨by decide +kernel, rfl⟩
theorem dL_521 : DD code 521 1 522 (.iaload) := ⟨by decide +kernel, rfl⟩
theorem dL_522 : DD code 522 3 525 (.invokevirtual 45) := ⟨by decide +kernel, rfl⟩
theorem dL_525 : DD code 525 1 526 (.aload_n 2) := ⟨by decide +kernel, rfl⟩
theorem dL_526 : DD code 526 1 527 (.aload_n 0) := ⟨by decide +kernel, rfl⟩
theorem dL_527 : DD code 527 1 528 (.iload_n 3) := ⟨by decide +kernel, rfl⟩
theorem dL_528 : DD code 528 1 529 (.iconst 1) := ⟨by decide +kernel, rfl⟩
theorem dL_529 : DD code 529 1 530 (.iadd) := ⟨by decide +kernel, rfl⟩
theorem dL_530 : DD code 530 1 531 (.iaload) := ⟨by decide +kernel, rfl⟩
theorem dL_531 : DD code 531 1 532 (.aload_n 0) := ⟨by decide +kernel, rfl⟩
theorem dL_532 : DD code 532 1 533 (.iload_n 3) := ⟨by decide +kernel, rfl⟩
theorem dL_533 : DD code 533 1 534 (.iconst 2) := ⟨by decide +kernel, rfl⟩
theorem dL_534 : DD code 534 1 535 (.iadd) := ⟨by decide +kernel, rfl⟩
theorem dL_535 : DD code 535 1 536 (.iaload) := ⟨by decide +kernel, rfl⟩
theorem dL_536 : DD code 536 3 539 (.invokevirtual 48) := ⟨by decide +kernel, rfl⟩
theorem dL_539 : DD code 539 3 542 (.if_icmp .eq 1412) := ⟨by decide +kernel, rfl⟩
theorem dL_542 : DD code 542 1 543 (.iconst 0) := ⟨by decide +kernel, rfl⟩
theorem dL_543 : DD code 543 1 544 (.ireturn) := ⟨by decide +kernel, rfl⟩
theorem dL_544 : DD code 544 1 545 (.aload_n 1) := ⟨by decide +kernel, rfl⟩
theorem dL_545 : DD code 545 1 546 (.aload_n 0) := ⟨by decide +kernel, rfl⟩
theorem dL_546 : DD code 546 1 547 (.iload_n 3) := ⟨by decide +kernel, rfl⟩
theorem dL_547 : DD code 547 1 548 (.iconst 1) := ⟨by decide +kernel, rfl⟩
theorem dL_548 : DD code 548 1 549 (.iadd) := ⟨by decide +kernel, rfl⟩
theorem dL_549 : DD code 549 1 550 (.iaload) := ⟨by decide +kernel, rfl⟩
theorem dL_550 : DD code 550 1 551 (.aload_n 0) := ⟨by decide +kernel, rfl⟩
theorem dL_551 : DD code 551 1 552 (.iload_n 3) := ⟨by decide +kernel, rfl⟩
theorem dL_552 : DD code 552 1 553 (.iconst 2) := ⟨by decide +kernel, rfl⟩
theorem dL_553 : DD code 553 1 554 (.iadd) := ⟨by decide +kernel, rfl⟩
theorem dL_554 : DD code 554 1 555 (.iaload) := ⟨by decide +kernel, rfl⟩
theorem dL_555 : DD code 555 3 558 (.invokevirtual 49) := ⟨by decide +kernel, rfl⟩
theorem dL_558 : DD code 558 1 559 (.aload_n 2) := ⟨by decide +kernel, rfl⟩
theorem dL_559 : DD code 559 1 560 (.aload_n 0) := ⟨by decide +kernel, rfl⟩
theorem dL_560 : DD code 560 1 561 (.iload_n 3) := ⟨by decide +kernel, rfl⟩
theorem dL_561 : DD code 561 1 562 (.iconst 1) := ⟨by decide +kernel, rfl⟩
theorem dL_562 : DD code 562 1 563 (.iadd) := ⟨by decide +kernel, rfl⟩
theorem dL_563 : DD code 563 1 564 (.iaload) := ⟨by decide +kernel, rfl⟩
theorem dL_564 : DD code 564 1 565 (.aload_n 0) := ⟨by decide +kernel, rfl⟩
theorem dL_565 : DD code 565 1 566 (.iload_n 3) := ⟨by decide +kernel, rfl⟩
theorem dL_566 : DD code 566 1 567 (.iconst 2) := ⟨by decide +kernel, rfl⟩
theorem dL_567 : DD code 567 1 568 (.iadd) := ⟨by decide +kernel, rfl⟩
theorem dL_568 : DD code 568 1 569 (.iaload) := ⟨by decide +kernel, rfl⟩
theorem dL_569 : DD code 569 3 572 (.invokevirtual 52) := ⟨by decide +kernel, rfl⟩
theorem dL_572 : DD code 572 3 575 (.if_icmp .eq 1379) := ⟨by decide +kernel, rfl⟩
theorem dL_575 : DD code 575 1 576 (.iconst 0) := ⟨by decide +kernel, rfl⟩
theorem dL_576 : DD code 576 1 577 (.ireturn) := ⟨by decide +kernel, rfl⟩
theorem dL_577 : DD code 577 1 578 (.aload_n 1) := ⟨by decide +kernel, rfl⟩
theorem dL_578 : DD code 578 1 579 (.aload_n 0) := ⟨by decide +kernel, rfl⟩
theorem dL_579 : DD code 579 1 580 (.iload_n 3) := ⟨by decide +kernel, rfl⟩
theorem dL_580 : DD code 580 1 581 (.iconst 1) := ⟨by decide +kernel, rfl⟩
theorem dL_581 : DD code 581 1 582 (.iadd) := ⟨by decide +kernel, rfl⟩
theorem dL_582 : DD code 582 1 583 (.iaload) := ⟨by decide +kernel, rfl⟩
theorem dL_583 : DD code 583 3 586 (.invokevirtual 53) := ⟨by decide +kernel, rfl⟩
theorem dL_586 : DD code 586 1 587 (.aload_n 2) := ⟨by decide +kernel, rfl⟩
theorem dL_587 : DD code 587 1 588 (.aload_n 0) := ⟨by decide +kernel, rfl⟩
theorem dL_588 : DD code 588 1 589 (.iload_n 3) := ⟨by decide +kernel, rfl⟩
theorem dL_589 : DD code 589 1 590 (.iconst 1) := ⟨by decide +kernel, rfl⟩
theorem dL_590 : DD code 590 1 591 (.iadd) := ⟨by decide +kernel, rfl⟩
theorem dL_591 : DD code 591 1 592 (.iaload) := ⟨by decide +kernel, rfl⟩
theorem dL_592 : DD code 592 3 595 (.invokevirtual 56) := ⟨by decide +kernel, rfl⟩
theorem dL_595 : DD code 595 3 598 (.if_icmp .eq 1356) := ⟨by decide +kernel, rfl⟩
theorem dL_598 : DD code 598 1 599 (.iconst 0) := ⟨by decide +kernel, rfl⟩
theorem dL_599 : DD code 599 1 600 (.ireturn) := ⟨by decide +kernel, rfl⟩
theorem dL_600 : DD code 600 1 601 (.aload_n 1) := ⟨by decide +kernel, rfl⟩
theorem dL_601 : DD code 601 1 602 (.aload_n 0) := ⟨by decide +kernel, rfl⟩
theorem dL_602 : DD code 602 1 603 (.iload_n 3) := ⟨by decide +kernel, rfl⟩
theorem dL_603 : DD code 603 1 604 (.iconst 1) := ⟨by decide +kernel, rfl⟩
theorem dL_604 : DD code 604 1 605 (.iadd) := ⟨by decide +kernel, rfl⟩
theorem dL_605 : DD code 605 1 606 (.iaload) := ⟨by decide +kernel, rfl⟩
theorem dL_606 : DD code 606 1 607 (.aload_n 0) := ⟨by decide +kernel, rfl⟩
theorem dL_607 : DD code 607 1 608 (.iload_n 3) := ⟨by decide +kernel, rfl⟩
theorem dL_608 : DD code 608 1 609 (.iconst 2) := ⟨by decide +kernel, rfl⟩
theorem dL_609 : DD code 609 1 610 (.iadd) := ⟨by decide +kernel, rfl⟩
theorem dL_610 : DD code 610 1 611 (.iaload) := ⟨by decide +kernel, rfl⟩
theorem dL_611 : DD code 611 1 612 (.i2l) := ⟨by decide +kernel, rfl⟩
theorem dL_612 : DD code 612 2 614 (.bipush 32) := ⟨by decide +kernel, rfl⟩
theorem dL_614 : DD code 614 1 615 (.lshl) := ⟨by decide +kernel, rfl⟩
theorem dL_615 : DD code 615 1 616 (.aload_n 0) := ⟨by decide +kernel, rfl⟩
theorem dL_616 : DD code 616 1 617 (.iload_n 3) := ⟨by decide +kernel, rfl⟩
theorem dL_617 : DD code 617 1 618 (.iconst 3) := ⟨by decide +kernel, rfl⟩
theorem dL_618 : DD code 618 1 619 (.iadd) := ⟨by decide +kernel, rfl⟩
theorem dL_619 : DD code 619 1 620 (.iaload) := ⟨by decide +kernel, rfl⟩
theorem dL_620 : DD code 620 1 621 (.i2l) := ⟨by decide +kernel, rfl⟩
theorem dL_621 : DD code 621 3 624 (.ldc2_w 57) := ⟨by decide +kernel, rfl⟩
theorem dL_624 : DD code 624 1 625 (.land) := ⟨by decide +kernel, rfl⟩
theorem dL_625 : DD code 625 1 626 (.lor) := ⟨by decide +kernel, rfl⟩
theorem dL_626 : DD code 626 3 629 (.invokevirtual 59) := ⟨by decide +kernel, rfl⟩
theorem dL_629 : DD code 629 1 630 (.aload_n 2) := ⟨by decide +kernel, rfl⟩
theorem dL_630 : DD code 630 1 631 (.aload_n 0) := ⟨by decide +kernel, rfl⟩
theorem dL_631 : DD code 631 1 632 (.iload_n 3) := ⟨by decide +kernel, rfl⟩
theorem dL_632 : DD code 632 1 633 (.iconst 1) := ⟨by decide +kernel, rfl⟩
theorem dL_633 : DD code 633 1 634 (.iadd) := ⟨by decide +kernel, rfl⟩
theorem dL_634 : DD code 634 1 635 (.iaload) := ⟨by decide +kernel, rfl⟩
theorem dL_635 : DD code 635 1 636 (.aload_n 0) := ⟨by decide +kernel, rfl⟩
theorem dL_636 : DD code 636 1 637 (.iload_n 3) := ⟨by decide +kernel, rfl⟩
theorem dL_637 : DD code 637 1 638 (.iconst 2) := ⟨by decide +kernel, rfl⟩
theorem dL_638 : DD code 638 1 639 (.iadd) := ⟨by decide +kernel, rfl⟩
theorem dL_639 : DD code 639 1 640 (.iaload) := ⟨by decide +kernel, rfl⟩
theorem dL_640 : DD code 640 1 641 (.i2l) := ⟨by decide +kernel, rfl⟩
theorem dL_641 : DD code 641 2 643 (.bipush 32) := ⟨by decide +kernel, rfl⟩
theorem dL_643 : DD code 643 1 644 (.lshl) := ⟨by decide +kernel, rfl⟩
theorem dL_644 : DD code 644 1 645 (.aload_n 0) := ⟨by decide +kernel, rfl⟩
theorem dL_645 : DD code 645 1 646 (.iload_n 3) := ⟨by decide +kernel, rfl⟩
theorem dL_646 : DD code 646 1 647 (.iconst 3) := ⟨by decide +kernel, rfl⟩
theorem dL_647 : DD code 647 1 648 (.iadd) := ⟨by decide +kernel, rfl⟩
theorem dL_648 : DD code 648 1 649 (.iaload) := ⟨by decide +kernel, rfl⟩
theorem dL_649 : DD code 649 1 650 (.i2l) := ⟨by decide +kernel, rfl⟩
theorem dL_650 : DD code 650 3 653 (.ldc2_w 57) := ⟨by decide +kernel, rfl⟩
theorem dL_653 : DD code 653 1 654 (.land) := ⟨by decide +kernel, rfl⟩
theorem dL_654 : DD code 654 1 655 (.lor) := ⟨by decide +kernel, rfl⟩
theorem dL_655 : DD code 655 3 658 (.invokevirtual 63) := ⟨by decide +kernel, rfl⟩
theorem dL_658 : DD code 658 3 661 (.if_icmp .eq 1293) := ⟨by decide +kernel, rfl⟩
theorem dL_661 : DD code 661 1 662 (.iconst 0) := ⟨by decide +kernel, rfl⟩
theorem dL_662 : DD code 662 1 663 (.ireturn) := ⟨by decide +kernel, rfl⟩
theorem dL_663 : DD code 663 1 664 (.aload_n 1) := ⟨by decide +kernel, rfl⟩
theorem dL_664 : DD code 664 1 665 (.aload_n 0) := ⟨by decide +kernel, rfl⟩
theorem dL_665 : DD code 665 1 666 (.iload_n 3) := ⟨by decide +kernel, rfl⟩
theorem dL_666 : DD code 666 1 667 (.iconst 1) := ⟨by decide +kernel, rfl⟩
theorem dL_667 : DD code 667 1 668 (.iadd) := ⟨by decide +kernel, rfl⟩
theorem dL_668 : DD code 668 1 669 (.iaload) := ⟨by decide +kernel, rfl⟩
theorem dL_669 : DD code 669 1 670 (.aload_n 0) := ⟨by decide +kernel, rfl⟩
theorem dL_670 : DD code 670 1 671 (.iload_n 3) := ⟨by decide +kernel, rfl⟩
theorem dL_671 : DD code 671 1 672 (.iconst 2) := ⟨by decide +kernel, rfl⟩
theorem dL_672 : DD code 672 1 673 (.iadd) := ⟨by decide +kernel, rfl⟩
theorem dL_673 : DD code 673 1 674 (.iaload) := ⟨by decide +kernel, rfl⟩
theorem dL_674 : DD code 674 1 675 (.aload_n 0) := ⟨by decide +kernel, rfl⟩
theorem dL_675 : DD code 675 1 676 (.iload_n 3) := ⟨by decide +kernel, rfl⟩
theorem dL_676 : DD code 676 1 677 (.iconst 3) := ⟨by decide +kernel, rfl⟩
theorem dL_677 : DD code 677 1 678 (.iadd) := ⟨by decide +kernel, rfl⟩
theorem dL_678 : DD code 678 1 679 (.iaload) := ⟨by decide +kernel, rfl⟩
theorem dL_679 : DD code 679 3 682 (.invokevirtual 64) := ⟨by decide +kernel, rfl⟩
theorem dL_682 : DD code 682 1 683 (.aload_n 2) := ⟨by decide +kernel, rfl⟩
theorem dL_683 : DD code 683 1 684 (.aload_n 0) := ⟨by decide +kernel, rfl⟩
theorem dL_684 : DD code 684 1 685 (.iload_n 3) := ⟨by decide +kernel, rfl⟩
theorem dL_685 : DD code 685 1 686 (.iconst 1) := ⟨by decide +kernel, rfl⟩
theorem dL_686 : DD code 686 1 687 (.iadd) := ⟨by decide +kernel, rfl⟩
theorem dL_687 : DD code 687 1 688 (.iaload) := ⟨by decide +kernel, rfl⟩
theorem dL_688 : DD code 688 1 689 (.aload_n 0) := ⟨by decide +kernel, rfl⟩
theorem dL_689 : DD code 689 1 690 (.iload_n 3) := ⟨by decide +kernel, rfl⟩
theorem dL_690 : DD code 690 1 691 (.iconst 2) := ⟨by decide +kernel, rfl⟩
theorem dL_691 : DD code 691 1 692 (.iadd) := ⟨by decide +kernel, rfl⟩
theorem dL_692 : DD code 692 1 693 (.iaload) := ⟨by decide +kernel, rfl⟩
theorem dL_693 : DD code 693 1 694 (.aload_n 0) := ⟨by decide +kernel, rfl⟩
theorem dL_694 : DD code 694 1 695 (.iload_n 3) := ⟨by decide +kernel, rfl⟩
theorem dL_695 : DD code 695 1 696 (.iconst 3) := ⟨by decide +kernel, rfl⟩
theorem dL_696 : DD code 696 1 697 (.iadd) := ⟨by decide +kernel, rfl⟩
theorem dL_697 : DD code 697 1 698 (.iaload) := ⟨by decide +kernel, rfl⟩
theorem dL_698 : DD code 698 3 701 (.invokevirtual 67) := ⟨by decide +kernel, rfl⟩
theorem dL_701 : DD code 701 3 704 (.if_icmp .eq 1250) := ⟨by decide +kernel, rfl⟩
theorem dL_704 : DD code 704 1 705 (.iconst 0) := ⟨by decide +kernel, rfl⟩
theorem dL_705 : DD code 705 1 706 (.ireturn) := ⟨by decide +kernel, rfl⟩
theorem dL_706 : DD code 706 1 707 (.aload_n 1) := ⟨by decide +kernel, rfl⟩
theorem dL_707 : DD code 707 1 708 (.aload_n 0) := ⟨by decide +kernel, rfl⟩
theorem dL_708 : DD code 708 1 709 (.iload_n 3) := ⟨by decide +kernel, rfl⟩
theorem dL_709 : DD code 709 1 710 (.iconst 1) := ⟨by decide +kernel, rfl⟩
theorem dL_710 : DD code 710 1 711 (.iadd) := ⟨by decide +kernel, rfl⟩
theorem dL_711 : DD code 711 1 712 (.iaload) := ⟨by decide +kernel, rfl⟩
theorem dL_712 : DD code 712 1 713 (.aload_n 0) := ⟨by decide +kernel, rfl⟩
theorem dL_713 : DD code 713 1 714 (.iload_n 3) := ⟨by decide +kernel, rfl⟩
theorem dL_714 : DD code 714 1 715 (.iconst 2) := ⟨by decide +kernel, rfl⟩
theorem dL_715 : DD code 715 1 716 (.iadd) := ⟨by decide +kernel, rfl⟩
theorem dL_716 : DD code 716 1 717 (.iaload) := ⟨by decide +kernel, rfl⟩
theorem dL_717 : DD code 717 1 718 (.aload_n 0) := ⟨by decide +kernel, rfl⟩
theorem dL_718 : DD code 718 1 719 (.iload_n 3) := ⟨by decide +kernel, rfl⟩
theorem dL_719 : DD code 719 1 720 (.iconst 3) := ⟨by decide +kernel, rfl⟩
theorem dL_720 : DD code 720 1 721 (.iadd) := ⟨by decide +kernel, rfl⟩
theorem dL_721 : DD code 721 1 722 (.iaload) := ⟨by decide +kernel, rfl⟩
theorem dL_722 : DD code 722 1 723 (.aload_n 0) := ⟨by decide +kernel, rfl⟩
theorem dL_723 : DD code 723 1 724 (.iload_n 3) := ⟨by decide +kernel, rfl⟩
theorem dL_724 : DD code 724 1 725 (.iconst 4) := ⟨by decide +kernel, rfl⟩
theorem dL_725 : DD code 725 1 726 (.iadd) := ⟨by decide +kernel, rfl⟩
theorem dL_726 : DD code 726 1 727 (.iaload) := ⟨by decide +kernel, rfl⟩
theorem dL_727 : DD code 727 1 728 (.aload_n 0) := ⟨by decide +kernel, rfl⟩
theorem dL_728 : DD code 728 1 729 (.iload_n 3) := ⟨by decide +kernel, rfl⟩
theorem dL_729 : DD code 729 1 730 (.iconst 5) := ⟨by decide +kernel, rfl⟩
theorem dL_730 : DD code 730 1 731 (.iadd) := ⟨by decide +kernel, rfl⟩
theorem dL_731 : DD code 731 1 732 (.iaload) := ⟨by decide +kernel, rfl⟩
theorem dL_732 : DD code 732 3 735 (.invokevirtual 68) := ⟨by decide +kernel, rfl⟩
theorem dL_735 : DD code 735 1 736 (.aload_n 2) := ⟨by decide +kernel, rfl⟩
theorem dL_736 : DD code 736 1 737 (.aload_n 0) := ⟨by decide +kernel, rfl⟩
theorem dL_737 : DD code 737 1 738 (.iload_n 3) := ⟨by decide +kernel, rfl⟩
theorem dL_738 : DD code 738 1 739 (.iconst 1) := ⟨by decide +kernel, rfl⟩
theorem dL_739 : DD code 739 1 740 (.iadd) := ⟨by decide +kernel, rfl⟩
theorem dL_740 : DD code 740 1 741 (.iaload) := ⟨by decide +kernel, rfl⟩
theorem dL_741 : DD code 741 1 742 (.aload_n 0) := ⟨by decide +kernel, rfl⟩
theorem dL_742 : DD code 742 1 743 (.iload_n 3) := ⟨by decide +kernel, rfl⟩
theorem dL_743 : DD code 743 1 744 (.iconst 2) := ⟨by decide +kernel, rfl⟩
theorem dL_744 : DD code 744 1 745 (.iadd) := ⟨by decide +kernel, rfl⟩
theorem dL_745 : DD code 745 1 746 (.iaload) := ⟨by decide +kernel, rfl⟩
theorem dL_746 : DD code 746 1 747 (.aload_n 0) := ⟨by decide +kernel, rfl⟩
theorem dL_747 : DD code 747 1 748 (.iload_n 3) := ⟨by decide +kernel, rfl⟩
theorem dL_748 : DD code 748 1 749 (.iconst 3) := ⟨by decide +kernel, rfl⟩
theorem dL_749 : DD code 749 1 750 (.iadd) := ⟨by decide +kernel, rfl⟩
theorem dL_750 : DD code 750 1 751 (.iaload) := ⟨by decide +kernel, rfl⟩
theorem dL_751 : DD code 751 1 752 (.aload_n 0) := ⟨by decide +kernel, rfl⟩
theorem dL_752 : DD code 752 1 753 (.iload_n 3) := ⟨by decide +kernel, rfl⟩
theorem dL_753 : DD code 753 1 754 (.iconst 4) := ⟨by decide +kernel, rfl⟩
theorem dL_754 : DD code 754 1 755 (.iadd) := ⟨by decide +kernel, rfl⟩
theorem dL_755 : DD code 755 1 756 (.iaload) := ⟨by decide +kernel, rfl⟩
theorem dL_756 : DD code 756 1 757 (.aload_n 0) := ⟨by decide +kernel, rfl⟩
theorem dL_757 : DD code 757 1 758 (.iload_n 3) := ⟨by decide +kernel, rfl⟩
theorem dL_758 : DD code 758 1 759 (.iconst 5) := ⟨by decide +kernel, rfl⟩
theorem dL_759 : DD code 759 1 760 (.iadd) := ⟨by decide +kernel, rfl⟩
theorem dL_760 : DD code 760 1 761 (.iaload) := ⟨by decide +kernel, rfl⟩
theorem dL_761 : DD code 761 3 764 (.invokevirtual 71) := ⟨by decide +kernel, rfl⟩
theorem dL_764 : DD code 764 3 767 (.if_icmp .eq 1187) := ⟨by decide +kernel, rfl⟩
theorem dL_767 : DD code 767 1 768 (.iconst 0) := ⟨by decide +kernel, rfl⟩
theorem dL_768 : DD code 768 1 769 (.ireturn) := ⟨by decide +kernel, rfl⟩
theorem dL_769 : DD code 769 1 770 (.aload_n 1) := ⟨by decide +kernel, rfl⟩
theorem dL_770 : DD code 770 3 773 (.invokevirtual 72) := ⟨by decide +kernel, rfl⟩
theorem dL_773 : DD code 773 1 774 (.aload_n 2) := ⟨by decide +kernel, rfl⟩
theorem dL_774 : DD code 774 3 777 (.invokevirtual 76) := ⟨by decide +kernel, rfl⟩
theorem dL_777 : DD code 777 3 780 (.if_icmp .eq 1174) := ⟨by decide +kernel, rfl⟩
theorem dL_780 : DD code 780 1 781 (.iconst 0) := ⟨by decide +kernel, rfl⟩
theorem dL_781 : DD code 781 1 782 (.ireturn) := ⟨by decide +kernel, rfl⟩
theorem dL_782 : DD code 782 1 783 (.aload_n 1) := ⟨by decide +kernel, rfl⟩
theorem dL_783 : DD code 783 1 784 (.aload_n 0) := ⟨by decide +kernel, rfl⟩
theorem dL_784 : DD code 784 1 785 (.iload_n 3) := ⟨by decide +kernel, rfl⟩
theorem dL_785 : DD code 785 1 786 (.iconst 1) := ⟨by decide +kernel, rfl⟩
theorem dL_786 : DD code 786 1 787 (.iadd) := ⟨by decide +kernel, rfl⟩
theorem dL_787 : DD code 787 1 788 (.iaload) := ⟨by decide +kernel, rfl⟩
theorem dL_788 : DD code 788 3 791 (.invokevirtual 77) := ⟨by decide +kernel, rfl⟩
theorem dL_791 : DD code 791 1 792 (.aload_n 2) := ⟨by decide +kernel, rfl⟩
theorem dL_792 : DD code 792 1 793 (.aload_n 0) := ⟨by decide +kernel, rfl⟩
theorem dL_793 : DD code 793 1 794 (.iload_n 3) := ⟨by decide +kernel, rfl⟩
theorem dL_794 : DD code 794 1 795 (.iconst 1) := ⟨by decide +kernel, rfl⟩
theorem dL_795 : DD code 795 1 796 (.iadd) := ⟨by decide +kernel, rfl⟩
theorem dL_796 : DD code 796 1 797 (.iaload) := ⟨by decide +kernel, rfl⟩
theorem dL_797 : DD code 797 3 800 (.invokevirtual 80) := ⟨by decide +kernel, rfl⟩
theorem dL_800 : DD code 800 3 803 (.if_icmp .eq 1151) := ⟨by decide +kernel, rfl⟩
theorem dL_803 : DD code 803 1 804 (.iconst 0) := ⟨by decide +kernel, rfl⟩
theorem dL_804 : DD code 804 1 805 (.ireturn) := ⟨by decide +kernel, rfl⟩
theorem dL_805 : DD code 805 1 806 (.aload_n 1) := ⟨by decide +kernel, rfl⟩
theorem dL_806 : DD code 806 1 807 (.aload_n 0) := ⟨by decide +kernel, rfl⟩
theorem dL_807 : DD code 807 1 808 (.iload_n 3) := ⟨by decide +kernel, rfl⟩
theorem dL_808 : DD code 808 1 809 (.iconst 1) := ⟨by decide +kernel, rfl⟩
theorem dL_809 : DD code 809 1 810 (.iadd) := ⟨by decide +kernel, rfl⟩
theorem dL_810 : DD code 810 1 811 (.iaload) := ⟨by decide +kernel, rfl⟩
theorem dL_811 : DD code 811 3 814 (.invokevirtual 81) := ⟨by decide +kernel, rfl⟩
theorem dL_814 : DD code 814 1 815 (.aload_n 2) := ⟨by decide +kernel, rfl⟩
theorem dL_815 : DD code 815 1 816 (.aload_n 0) := ⟨by decide +kernel, rfl⟩
theorem dL_816 : DD code 816 1 817 (.iload_n 3) := ⟨by decide +kernel, rfl⟩
theorem dL_817 : DD code 817 1 818 (.iconst 1) := ⟨by decide +kernel, rfl⟩
theorem dL_818 : DD code 818 1 819 (.iadd) := ⟨by decide +kernel, rfl⟩
theorem dL_819 : DD code 819 1 820 (.iaload) := ⟨by decide +kernel, rfl⟩
theorem dL_820 : DD code 820 3 823 (.invokevirtual 84) := ⟨by decide +kernel, rfl⟩
theorem dL_823 : DD code 823 3 826 (.if_icmp .eq 1128) := ⟨by decide +kernel, rfl⟩
theorem dL_826 : DD code 826 1 827 (.iconst 0) := ⟨by decide +kernel, rfl⟩
theorem dL_827 : DD code 827 1 828 (.ireturn) := ⟨by decide +kernel, rfl⟩
theorem dL_828 : DD code 828 1 829 (.aload_n 1) := ⟨by decide +kernel, rfl⟩
theorem dL_829 : DD code 829 3 832 (.invokevirtual 85) := ⟨by decide +kernel, rfl⟩
theorem dL_832 : DD code 832 1 833 (.aload_n 2) := ⟨by decide +kernel, rfl⟩
theorem dL_833 : DD code 833 3 836 (.invokevirtual 88) := ⟨by decide +kernel, rfl⟩
theorem dL_836 : DD code 836 3 839 (.if_icmp .eq 1115) := ⟨by decide +kernel, rfl⟩
theorem dL_839 : DD code 839 1 840 (.iconst 0) := ⟨by decide +kernel, rfl⟩
theorem dL_840 : DD code 840 1 841 (.ireturn) := ⟨by decide +kernel, rfl⟩
theorem dL_841 : DD code 841 1 842 (.aload_n 1) := ⟨by decide +kernel, rfl⟩
theorem dL_842 : DD code 842 3 845 (.invokevirtual 89) := ⟨by decide +kernel, rfl⟩
theorem dL_845 : DD code 845 1 846 (.aload_n 2) := ⟨by decide +kernel, rfl⟩
theorem dL_846 : DD code 846 3 849 (.invokevirtual 92) := ⟨by decide +kernel, rfl⟩
theorem dL_849 : DD code 849 3 852 (.if_icmp .eq 1102) := ⟨by decide +kernel, rfl⟩
theorem dL_852 : DD code 852 1 853 (.iconst 0) := ⟨by decide +kernel, rfl⟩
theorem dL_853 : DD code 853 1 854 (.ireturn) := ⟨by decide +kernel, rfl⟩
theorem dL_854 : DD code 854 1 855 (.aload_n 1) := ⟨by decide +kernel, rfl⟩
theorem dL_855 : DD code 855 1 856 (.aload_n 0) := ⟨by decide +kernel, rfl⟩
theorem dL_856 : DD code 856 1 857 (.iload_n 3) := ⟨by decide +kernel, rfl⟩
theorem dL_857 : DD code 857 1 858 (.iconst 1) := ⟨by decide +kernel, rfl⟩
theorem dL_858 : DD code 858 1 859 (.iadd) := ⟨by decide +kernel, rfl⟩
theorem dL_859 : DD code 859 1 860 (.iaload) := ⟨by decide +kernel, rfl⟩
theorem dL_860 : DD code 860 3 863 (.invokevirtual 93) := ⟨by decide +kernel, rfl⟩
theorem dL_863 : DD code 863 1 864 (.aload_n 2) := ⟨by decide +kernel, rfl⟩
theorem dL_864 : DD code 864 1 865 (.aload_n 0) := ⟨by decide +kernel, rfl⟩
theorem dL_865 : DD code 865 1 866 (.iload_n 3) := ⟨by decide +kernel, rfl⟩
theorem dL_866 : DD code 866 1 867 (.iconst 1) := ⟨by decide +kernel, rfl⟩
theorem dL_867 : DD code 867 1 868 (.iadd) := ⟨by decide +kernel, rfl⟩
theorem dL_868 : DD code 868 1 869 (.iaload) := ⟨by decide +kernel, rfl⟩
theorem dL_869 : DD code 869 3 872 (.invokevirtual 96) := ⟨by decide +kernel, rfl⟩
theorem dL_872 : DD code 872 3 875 (.if_icmp .eq 1079) := ⟨by decide +kernel, rfl⟩
theorem dL_875 : DD code 875 1 876 (.iconst 0) := ⟨by decide +kernel, rfl⟩
theorem dL_876 : DD code 876 1 877 (.ireturn) := ⟨by decide +kernel, rfl⟩
theorem dL_877 : DD code 877 1 878 (.aload_n 1) := ⟨by decide +kernel, rfl⟩
theorem dL_878 : DD code 878 3 881 (.invokevirtual 97) := ⟨by decide +kernel, rfl⟩
theorem dL_881 : DD code 881 1 882 (.aload_n 2) := ⟨by decide +kernel, rfl⟩
theorem dL_882 : DD code 882 3 885 (.invokevirtual 100) := ⟨by decide +kernel, rfl⟩
theorem dL_885 : DD code 885 3 888 (.if_icmp .eq 1066) := ⟨by decide +kernel, rfl⟩
theorem dL_888 : DD code 888 1 889 (.iconst 0) := ⟨by decide +kernel, rfl⟩
theorem dL_889 : DD code 889 1 890 (.ireturn) := ⟨by decide +kernel, rfl⟩
theorem dL_890 : DD code 890 1 891 (.aload_n 1) := ⟨by decide +kernel, rfl⟩
theorem dL_891 : DD code 891 3 894 (.invokevirtual 101) := ⟨by decide +kernel, rfl⟩
theorem dL_894 : DD code 894 1 895 (.aload_n 2) := ⟨by decide +kernel, rfl⟩
theorem dL_895 : DD code 895 3 898 (.invokevirtual 104) := ⟨by decide +kernel, rfl⟩
theorem dL_898 : DD code 898 3 901 (.if_icmp .eq 1053) := ⟨by decide +kernel, rfl⟩
theorem dL_901 : DD code 901 1 902 (.iconst 0) := ⟨by decide +kernel, rfl⟩
theorem dL_902 : DD code 902 1 903 (.ireturn) := ⟨by decide +kernel, rfl⟩
theorem dL_903 : DD code 903 1 904 (.aload_n 1) := ⟨by decide +kernel, rfl⟩
theorem dL_904 : DD code 904 3 907 (.invokevirtual 105) := ⟨by decide +kernel, rfl⟩
theorem dL_907 : DD code 907 1 908 (.aload_n 2) := ⟨by decide +kernel, rfl⟩
theorem dL_908 : DD code 908 3 911 (.invokevirtual 108) := ⟨by decide +kernel, rfl⟩
theorem dL_911 : DD code 911 3 914 (.if_icmp .eq 1040) := ⟨by decide +kernel, rfl⟩
theorem dL_914 : DD code 914 1 915 (.iconst 0) := ⟨by decide +kernel, rfl⟩
theorem dL_915 : DD code 915 1 916 (.ireturn) := ⟨by decide +kernel, rfl⟩
theorem dL_916 : DD code 916 1 917 (.aload_n 1) := ⟨by decide +kernel, rfl⟩
theorem dL_917 : DD code 917 1 918 (.aload_n 0) := ⟨by decide +kernel, rfl⟩
theorem dL_918 : DD code 918 1 919 (.iload_n 3) := ⟨by decide +kernel, rfl⟩
theorem dL_919 : DD code 919 1 920 (.iconst 1) := ⟨by decide +kernel, rfl⟩
theorem dL_920 : DD code 920 1 921 (.iadd) := ⟨by decide +kernel, rfl⟩
theorem dL_921 : DD code 921 1 922 (.iaload) := ⟨by decide +kernel, rfl⟩
theorem dL_922 : DD code 922 3 925 (.invokevirtual 109) := ⟨by decide +kernel, rfl⟩
theorem dL_925 : DD code 925 1 926 (.aload_n 2) := ⟨by decide +kernel, rfl⟩
theorem dL_926 : DD code 926 1 927 (.aload_n 0) := ⟨by decide +kernel, rfl⟩
theorem dL_927 : DD code 927 1 928 (.iload_n 3) := ⟨by decide +kernel, rfl⟩
theorem dL_928 : DD code 928 1 929 (.iconst 1) := ⟨by decide +kernel, rfl⟩
theorem dL_929 : DD code 929 1 930 (.iadd) := ⟨by decide +kernel, rfl⟩
theorem dL_930 : DD code 930 1 931 (.iaload) := ⟨by decide +kernel, rfl⟩
theorem dL_931 : DD code 931 3 934 (.invokevirtual 112) := ⟨by decide +kernel, rfl⟩
theorem dL_934 : DD code 934 3 937 (.if_icmp .eq 1017) := ⟨by decide +kernel, rfl⟩
theorem dL_937 : DD code 937 1 938 (.iconst 0) := ⟨by decide +kernel, rfl⟩
theorem dL_938 : DD code 938 1 939 (.ireturn) := ⟨by decide +kernel, rfl⟩
theorem dL_939 : DD code 939 1 940 (.aload_n 1) := ⟨by decide +kernel, rfl⟩
theorem dL_940 : DD code 940 3 943 (.invokevirtual 113) := ⟨by decide +kernel, rfl⟩
theorem dL_943 : DD code 943 1 944 (.aload_n 2) := ⟨by decide +kernel, rfl⟩
theorem dL_944 : DD code 944 3 947 (.invokevirtual 116) := ⟨by decide +kernel, rfl⟩
theorem dL_947 : DD code 947 3 950 (.if_icmp .eq 1004) := ⟨by decide +kernel, rfl⟩
theorem dL_950 : DD code 950 1 951 (.iconst 0) := ⟨by decide +kernel, rfl⟩
theorem dL_951 : DD code 951 1 952 (.ireturn) := ⟨by decide +kernel, rfl⟩
theorem dL_952 : DD code 952 1 953 (.aload_n 1) := ⟨by decide +kernel, rfl⟩
theorem dL_953 : DD code 953 3 956 (.invokevirtual 117) := ⟨by decide +kernel, rfl⟩
theorem dL_956 : DD code 956 1 957 (.aload_n 2) := ⟨by decide +kernel, rfl⟩
theorem dL_957 : DD code 957 3 960 (.invokevirtual 120) := ⟨by decide +kernel, rfl⟩
theorem dL_960 : DD code 960 3 963 (.if_icmp .eq 991) := ⟨by decide +kernel, rfl⟩
theorem dL_963 : DD code 963 1 964 (.iconst 0) := ⟨by decide +kernel, rfl⟩
theorem dL_964 : DD code 964 1 965 (.ireturn) := ⟨by decide +kernel, rfl⟩
theorem dL_965 : DD code 965 1 966 (.aload_n 1) := ⟨by decide +kernel, rfl⟩
theorem dL_966 : DD code 966 1 967 (.aload_n 0) := ⟨by decide +kernel, rfl⟩
theorem dL_967 : DD code 967 1 968 (.iload_n 3) := ⟨by decide +kernel, rfl⟩
theorem dL_968 : DD code 968 1 969 (.iconst 1) := ⟨by decide +kernel, rfl⟩
theorem dL_969 : DD code 969 1 970 (.iadd) := ⟨by decide +kernel, rfl⟩
theorem dL_970 : DD code 970 1 971 (.iaload) := ⟨by decide +kernel, rfl⟩
theorem dL_971 : DD code 971 3 974 (.invokevirtual 121) := ⟨by decide +kernel, rfl⟩
theorem dL_974 : DD code 974 1 975 (.aload_n 2) := ⟨by decide +kernel, rfl⟩
theorem dL_975 : DD code 975 1 976 (.aload_n 0) := ⟨by decide +kernel, rfl⟩
theorem dL_976 : DD code 976 1 977 (.iload_n 3) := ⟨by decide +kernel, rfl⟩
theorem dL_977 : DD code 977 1 978 (.iconst 1) := ⟨by decide +kernel, rfl⟩
theorem dL_978 : DD code 978 1 979 (.iadd) := ⟨by decide +kernel, rfl⟩
theorem dL_979 : DD code 979 1 980 (.iaload) := ⟨by decide +kernel, rfl⟩
theorem dL_980 : DD code 980 3 983 (.invokevirtual 124) := ⟨by decide +kernel, rfl⟩
theorem dL_983 : DD code 983 3 986 (.if_icmp .eq 968) := ⟨by decide +kernel, rfl⟩
theorem dL_986 : DD code 986 1 987 (.iconst 0) := ⟨by decide +kernel, rfl⟩
theorem dL_987 : DD code 987 1 988 (.ireturn) := ⟨by decide +kernel, rfl⟩
theorem dL_988 : DD code 988 1 989 (.aload_n 1) := ⟨by decide +kernel, rfl⟩
theorem dL_989 : DD code 989 1 990 (.aload_n 0) := ⟨by decide +kernel, rfl⟩
theorem dL_990 : DD code 990 1 991 (.iload_n 3) := ⟨by decide +kernel, rfl⟩
theorem dL_991 : DD code 991 1 992 (.iconst 1) := ⟨by decide +kernel, rfl⟩
theorem dL_992 : DD code 992 1 993 (.iadd) := ⟨by decide +kernel, rfl⟩
theorem dL_993 : DD code 993 1 994 (.iaload) := ⟨by decide +kernel, rfl⟩
theorem dL_994 : DD code 994 3 997 (.invokevirtual 125) := ⟨by decide +kernel, rfl⟩
theorem dL_997 : DD code 997 1 998 (.aload_n 2) := ⟨by decide +kernel, rfl⟩
theorem dL_998 : DD code 998 1 999 (.aload_n 0) := ⟨by decide +kernel, rfl⟩
theorem dL_999 : DD code 999 1 1000 (.iload_n 3) := ⟨by decide +kernel, rfl⟩
theorem dL_1000 : DD code 1000 1 1001 (.iconst 1) := ⟨by decide +kernel, rfl⟩
theorem dL_1001 : DD code 1001 1 1002 (.iadd) := ⟨by decide +kernel, rfl⟩
theorem dL_1002 : DD code 1002 1 1003 (.iaload) := ⟨by decide +kernel, rfl⟩
theorem dL_1003 : DD code 1003 3 1006 (.invokevirtual 128) := ⟨by decide +kernel, rfl⟩
theorem dL_1006 : DD code 1006 3 1009 (.if_icmp .eq 945) := ⟨by decide +kernel, rfl⟩
theorem dL_1009 : DD code 1009 1 1010 (.iconst 0) := ⟨by decide +kernel, rfl⟩
theorem dL_1010 : DD code 1010 1 1011 (.ireturn) := ⟨by decide +kernel, rfl⟩
theorem dL_1011 : DD code 1011 1 1012 (.aload_n 1) := ⟨by decide +kernel, rfl⟩
theorem dL_1012 : DD code 1012 1 1013 (.aload_n 0) := ⟨by decide +kernel, rfl⟩
theorem dL_1013 : DD code 1013 1 1014 (.iload_n 3) := ⟨by decide +kernel, rfl⟩
theorem dL_1014 : DD code 1014 1 1015 (.iconst 1) := ⟨by decide +kernel, rfl⟩
theorem dL_1015 : DD code 1015 1 1016 (.iadd) := ⟨by decide +kernel, rfl⟩
theorem dL_1016 : DD code 1016 1 1017 (.iaload) := ⟨by decide +kernel, rfl⟩
theorem dL_1017 : DD code 1017 3 1020 (.invokevirtual 129) := ⟨by decide +kernel, rfl⟩
theorem dL_1020 : DD code 1020 1 1021 (.aload_n 2) := ⟨by decide +kernel, rfl⟩
theorem dL_1021 : DD code 1021 1 1022 (.aload_n 0) := ⟨by decide +kernel, rfl⟩
theorem dL_1022 : DD code 1022 1 1023 (.iload_n 3) := ⟨by decide +kernel, rfl⟩
theorem dL_1023 : DD code 1023 1 1024 (.iconst 1) := ⟨by decide +kernel, rfl⟩
theorem dL_1024 : DD code 1024 1 1025 (.iadd) := ⟨by decide +kernel, rfl⟩
theorem dL_1025 : DD code 1025 1 1026 (.iaload) := ⟨by decide +kernel, rfl⟩
theorem dL_1026 : DD code 1026 3 1029 (.invokevirtual 132) := ⟨by decide +kernel, rfl⟩
theorem dL_1029 : DD code 1029 3 1032 (.if_icmp .eq 922) := ⟨by decide +kernel, rfl⟩
theorem dL_1032 : DD code 1032 1 1033 (.iconst 0) := ⟨by decide +kernel, rfl⟩
theorem dL_1033 : DD code 1033 1 1034 (.ireturn) := ⟨by decide +kernel, rfl⟩
theorem dL_1034 : DD code 1034 1 1035 (.aload_n 1) := ⟨by decide +kernel, rfl⟩
theorem dL_1035 : DD code 1035 1 1036 (.aload_n 0) := ⟨by decide +kernel, rfl⟩
theorem dL_1036 : DD code 1036 1 1037 (.iload_n 3) := ⟨by decide +kernel, rfl⟩
theorem dL_1037 : DD code 1037 1 1038 (.iconst 1) := ⟨by decide +kernel, rfl⟩
theorem dL_1038 : DD code 1038 1 1039 (.iadd) := ⟨by decide +kernel, rfl⟩
theorem dL_1039 : DD code 1039 1 1040 (.iaload) := ⟨by decide +kernel, rfl⟩
theorem dL_1040 : DD code 1040 3 1043 (.invokevirtual 133) := ⟨by decide +kernel, rfl⟩
theorem dL_1043 : DD code 1043 1 1044 (.aload_n 2) := ⟨by decide +kernel, rfl⟩
theorem dL_1044 : DD code 1044 1 1045 (.aload_n 0) := ⟨by decide +kernel, rfl⟩
theorem dL_1045 : DD code 1045 1 1046 (.iload_n 3) := ⟨by decide +kernel, rfl⟩
theorem dL_1046 : DD code 1046 1 1047 (.iconst 1) := ⟨by decide +kernel, rfl⟩
theorem dL_1047 : DD code 1047 1 1048 (.iadd) := ⟨by decide +kernel, rfl⟩
theorem dL_1048 : DD code 1048 1 1049 (.iaload) := ⟨by decide +kernel, rfl⟩
theorem dL_1049 : DD code 1049 3 1052 (.invokevirtual 136) := ⟨by decide +kernel, rfl⟩
theorem dL_1052 : DD code 1052 3 1055 (.if_icmp .eq 899) := ⟨by decide +kernel, rfl⟩
theorem dL_1055 : DD code 1055 1 1056 (.iconst 0) := ⟨by decide +kernel, rfl⟩
theorem dL_1056 : DD code 1056 1 1057 (.ireturn) := ⟨by decide +kernel, rfl⟩
theorem dL_1057 : DD code 1057 1 1058 (.aload_n 1) := ⟨by decide +kernel, rfl⟩
theorem dL_1058 : DD code 1058 1 1059 (.aload_n 0) := ⟨by decide +kernel, rfl⟩
theorem dL_1059 : DD code 1059 1 1060 (.iload_n 3) := ⟨by decide +kernel, rfl⟩
theorem dL_1060 : DD code 1060 1 1061 (.iconst 1) := ⟨by decide +kernel, rfl⟩
theorem dL_1061 : DD code 1061 1 1062 (.iadd) := ⟨by decide +kernel, rfl⟩
theorem dL_1062 : DD code 1062 1 1063 (.iaload) := ⟨by decide +kernel, rfl⟩
theorem dL_1063 : DD code 1063 1 1064 (.aload_n 0) := ⟨by decide +kernel, rfl⟩
theorem dL_1064 : DD code 1064 1 1065 (.iload_n 3) := ⟨by decide +kernel, rfl⟩
theorem dL_1065 : DD code 1065 1 1066 (.iconst 2) := ⟨by decide +kernel, rfl⟩
theorem dL_1066 : DD code 1066 1 1067 (.iadd) := ⟨by decide +kernel, rfl⟩
theorem dL_1067 : DD code 1067 1 1068 (.iaload) := ⟨by decide +kernel, rfl⟩
theorem dL_1068 : DD code 1068 1 1069 (.aload_n 0) := ⟨by decide +kernel, rfl⟩
theorem dL_1069 : DD code 1069 1 1070 (.iload_n 3) := ⟨by decide +kernel, rfl⟩
theorem dL_1070 : DD code 1070 1 1071 (.iconst 3) := ⟨by decide +kernel, rfl⟩
theorem dL_1071 : DD code 1071 1 1072 (.iadd) := ⟨by decide +kernel, rfl⟩
theorem dL_1072 : DD code 1072 1 1073 (.iaload) := ⟨by decide +kernel, rfl⟩
theorem dL_1073 : DD code 1073 3 1076 (.invokevirtual 137) := ⟨by decide +kernel, rfl⟩
theorem dL_1076 : DD code 1076 1 1077 (.aload_n 2) := ⟨by decide +kernel, rfl⟩
theorem dL_1077 : DD code 1077 1 1078 (.aload_n 0) := ⟨by decide +kernel, rfl⟩
theorem dL_1078 : DD code 1078 1 1079 (.iload_n 3) := ⟨by decide +kernel, rfl⟩
theorem dL_1079 : DD code 1079 1 1080 (.iconst 1) := ⟨by decide +kernel, rfl⟩
theorem dL_1080 : DD code 1080 1 1081 (.iadd) := ⟨by decide +kernel, rfl⟩
theorem dL_1081 : DD code 1081 1 1082 (.iaload) := ⟨by decide +kernel, rfl⟩
theorem dL_1082 : DD code 1082 1 1083 (.aload_n 0) := ⟨by decide +kernel, rfl⟩
theorem dL_1083 : DD code 1083 1 1084 (.iload_n 3) := ⟨by decide +kernel, rfl⟩
theorem dL_1084 : DD code 1084 1 1085 (.iconst 2) := ⟨by decide +kernel, rfl⟩
theorem dL_1085 : DD code 1085 1 1086 (.iadd) := ⟨by decide +kernel, rfl⟩
theorem dL_1086 : DD code 1086 1 1087 (.iaload) := ⟨by decide +kernel, rfl⟩
theorem dL_1087 : DD code 1087 1 1088 (.aload_n 0) := ⟨by decide +kernel, rfl⟩
theorem dL_1088 : DD code 1088 1 1089 (.iload_n 3) := ⟨by decide +kernel, rfl⟩
theorem dL_1089 : DD code 1089 1 1090 (.iconst 3) := ⟨by decide +kernel, rfl⟩
theorem dL_1090 : DD code 1090 1 1091 (.iadd) := ⟨by decide +kernel, rfl⟩
theorem dL_1091 : DD code 1091 1 1092 (.iaload) := ⟨by decide +kernel, rfl⟩
theorem dL_1092 : DD code 1092 3 1095 (.invokevirtual 140) := ⟨by decide +kernel, rfl⟩
theorem dL_1095 : DD code 1095 3 1098 (.if_icmp .eq 856) := ⟨by decide +kernel, rfl⟩
theorem dL_1098 : DD code 1098 1 1099 (.iconst 0) := ⟨by decide +kernel, rfl⟩
theorem dL_1099 : DD code 1099 1 1100 (.ireturn) := ⟨by decide +kernel, rfl⟩
theorem dL_1100 : DD code 1100 1 1101 (.aload_n 1) := ⟨by decide +kernel, rfl⟩
theorem dL_1101 : DD code 1101 1 1102 (.aload_n 0) := ⟨by decide +kernel, rfl⟩
theorem dL_1102 : DD code 1102 1 1103 (.iload_n 3) := ⟨by decide +kernel, rfl⟩
theorem dL_1103 : DD code 1103 1 1104 (.iconst 1) := ⟨by decide +kernel, rfl⟩
theorem dL_1104 : DD code 1104 1 1105 (.iadd) := ⟨by decide +kernel, rfl⟩
theorem dL_1105 : DD code 1105 1 1106 (.iaload) := ⟨by decide +kernel, rfl⟩
theorem dL_1106 : DD code 1106 3 1109 (.invokevirtual 141) := ⟨by decide +kernel, rfl⟩
theorem dL_1109 : DD code 1109 1 1110 (.aload_n 2) := ⟨by decide +kernel, rfl⟩
theorem dL_1110 : DD code 1110 1 1111 (.aload_n 0) := ⟨by decide +kernel, rfl⟩
theorem dL_1111 : DD code 1111 1 1112 (.iload_n 3) := ⟨by decide +kernel, rfl⟩
theorem dL_1112 : DD code 1112 1 1113 (.iconst 1) := ⟨by decide +kernel, rfl⟩
theorem dL_1113 : DD code 1113 1 1114 (.iadd) := ⟨by decide +kernel, rfl⟩
theorem dL_1114 : DD code 1114 1 1115 (.iaload) := ⟨by decide +kernel, rfl⟩
theorem dL_1115 : DD code 1115 3 1118 (.invokevirtual 144) := ⟨by decide +kernel, rfl⟩
theorem dL_1118 : DD code 1118 3 1121 (.if_icmp .eq 833) := ⟨by decide +kernel, rfl⟩
theorem dL_1121 : DD code 1121 1 1122 (.iconst 0) := ⟨by decide +kernel, rfl⟩
theorem dL_1122 : DD code 1122 1 1123 (.ireturn) := ⟨by decide +kernel, rfl⟩
theorem dL_1123 : DD code 1123 1 1124 (.aload_n 1) := ⟨by decide +kernel, rfl⟩
theorem dL_1124 : DD code 1124 1 1125 (.aload_n 0) := ⟨by decide +kernel, rfl⟩
theorem dL_1125 : DD code 1125 1 1126 (.iload_n 3) := ⟨by decide +kernel, rfl⟩
theorem dL_1126 : DD code 1126 1 1127 (.iconst 1) := ⟨by decide +kernel, rfl⟩
theorem dL_1127 : DD code 1127 1 1128 (.iadd) := ⟨by decide +kernel, rfl⟩
theorem dL_1128 : DD code 1128 1 1129 (.iaload) := ⟨by decide +kernel, rfl⟩
theorem dL_1129 : DD code 1129 1 1130 (.aload_n 0) := ⟨by decide +kernel, rfl⟩
theorem dL_1130 : DD code 1130 1 1131 (.iload_n 3) := ⟨by decide +kernel, rfl⟩
theorem dL_1131 : DD code 1131 1 1132 (.iconst 2) := ⟨by decide +kernel, rfl⟩
theorem dL_1132 : DD code 1132 1 1133 (.iadd) := ⟨by decide +kernel, rfl⟩
theorem dL_1133 : DD code 1133 1 1134 (.iaload) := ⟨by decide +kernel, rfl⟩
theorem dL_1134 : DD code 1134 3 1137 (.invokevirtual 145) := ⟨by decide +kernel, rfl⟩
theorem dL_1137 : DD code 1137 1 1138 (.aload_n 2) := ⟨by decide +kernel, rfl⟩
theorem dL_1138 : DD code 1138 1 1139 (.aload_n 0) := ⟨by decide +kernel, rfl⟩
theorem dL_1139 : DD code 1139 1 1140 (.iload_n 3) := ⟨by decide +kernel, rfl⟩
theorem dL_1140 : DD code 1140 1 1141 (.iconst 1) := ⟨by decide +kernel, rfl⟩
theorem dL_1141 : DD code 1141 1 1142 (.iadd) := ⟨by decide +kernel, rfl⟩
theorem dL_1142 : DD code 1142 1 1143 (.iaload) := ⟨by decide +kernel, rfl⟩
theorem dL_1143 : DD code 1143 1 1144 (.aload_n 0) := ⟨by decide +kernel, rfl⟩
theorem dL_1144 : DD code 1144 1 1145 (.iload_n 3) := ⟨by decide +kernel, rfl⟩
theorem dL_1145 : DD code 1145 1 1146 (.iconst 2) := ⟨by decide +kernel, rfl⟩
theorem dL_1146 : DD code 1146 1 1147 (.iadd) := ⟨by decide +kernel, rfl⟩
theorem dL_1147 : DD code 1147 1 1148 (.iaload) := ⟨by decide +kernel, rfl⟩
theorem dL_1148 : DD code 1148 3 1151 (.invokevirtual 148) := ⟨by decide +kernel, rfl⟩
theorem dL_1151 : DD code 1151 3 1154 (.if_icmp .eq 800) := ⟨by decide +kernel, rfl⟩
theorem dL_1154 : DD code 1154 1 1155 (.iconst 0) := ⟨by decide +kernel, rfl⟩
theorem dL_1155 : DD code 1155 1 1156 (.ireturn) := ⟨by decide +kernel, rfl⟩
theorem dL_1156 : DD code 1156 1 1157 (.aload_n 1) := ⟨by decide +kernel, rfl⟩
theorem dL_1157 : DD code 1157 1 1158 (.aload_n 0) := ⟨by decide +kernel, rfl⟩
theorem dL_1158 : DD code 1158 1 1159 (.iload_n 3) := ⟨by decide +kernel, rfl⟩
theorem dL_1159 : DD code 1159 1 1160 (.iconst 1) := ⟨by decide +kernel, rfl⟩
theorem dL_1160 : DD code 1160 1 1161 (.iadd) := ⟨by decide +kernel, rfl⟩
theorem dL_1161 : DD code 1161 1 1162 (.iaload) := ⟨by decide +kernel, rfl⟩
theorem dL_1162 : DD code 1162 3 1165 (.invokevirtual 149) := ⟨by decide +kernel, rfl⟩
theorem dL_1165 : DD code 1165 1 1166 (.aload_n 2) := ⟨by decide +kernel, rfl⟩
theorem dL_1166 : DD code 1166 1 1167 (.aload_n 0) := ⟨by decide +kernel, rfl⟩
theorem dL_1167 : DD code 1167 1 1168 (.iload_n 3) := ⟨by decide +kernel, rfl⟩
theorem dL_1168 : DD code 1168 1 1169 (.iconst 1) := ⟨by decide +kernel, rfl⟩
theorem dL_1169 : DD code 1169 1 1170 (.iadd) := ⟨by decide +kernel, rfl⟩
theorem dL_1170 : DD code 1170 1 1171 (.iaload) := ⟨by decide +kernel, rfl⟩
theorem dL_1171 : DD code 1171 3 1174 (.invokevirtual 152) := ⟨by decide +kernel, rfl⟩
theorem dL_1174 : DD code 1174 3 1177 (.if_icmp .eq 777) := ⟨by decide +kernel, rfl⟩
theorem dL_1177 : DD code 1177 1 1178 (.iconst 0) := ⟨by decide +kernel, rfl⟩
theorem dL_1178 : DD code 1178 1 1179 (.ireturn) := ⟨by decide +kernel, rfl⟩
theorem dL_1179 : DD code 1179 1 1180 (.aload_n 1) := ⟨by decide +kernel, rfl⟩
theorem dL_1180 : DD code 1180 1 1181 (.aload_n 0) := ⟨by decide +kernel, rfl⟩
theorem dL_1181 : DD code 1181 1 1182 (.iload_n 3) := ⟨by decide +kernel, rfl⟩
theorem dL_1182 : DD code 1182 1 1183 (.iconst 1) := ⟨by decide +kernel, rfl⟩
theorem dL_1183 : DD code 1183 1 1184 (.iadd) := ⟨by decide +kernel, rfl⟩
theorem dL_1184 : DD code 1184 1 1185 (.iaload) := ⟨by decide +kernel, rfl⟩
theorem dL_1185 : DD code 1185 3 1188 (.invokevirtual 153) := ⟨by decide +kernel, rfl⟩
theorem dL_1188 : DD code 1188 1 1189 (.aload_n 2) := ⟨by decide +kernel, rfl⟩
theorem dL_1189 : DD code 1189 1 1190 (.aload_n 0) := ⟨by decide +kernel, rfl⟩
theorem dL_1190 : DD code 1190 1 1191 (.iload_n 3) := ⟨by decide +kernel, rfl⟩
theorem dL_1191 : DD code 1191 1 1192 (.iconst 1) := ⟨by decide +kernel, rfl⟩
theorem dL_1192 : DD code 1192 1 1193 (.iadd) := ⟨by decide +kernel, rfl⟩
theorem dL_1193 : DD code 1193 1 1194 (.iaload) := ⟨by decide +kernel, rfl⟩
theorem dL_1194 : DD code 1194 3 1197 (.invokevirtual 156) := ⟨by decide +kernel, rfl⟩
theorem dL_1197 : DD code 1197 3 1200 (.if_icmp .eq 754) := ⟨by decide +kernel, rfl⟩
theorem dL_1200 : DD code 1200 1 1201 (.iconst 0) := ⟨by decide +kernel, rfl⟩
theorem dL_1201 : DD code 1201 1 1202 (.ireturn) := ⟨by decide +kernel, rfl⟩
theorem dL_1202 : DD code 1202 1 1203 (.aload_n 1) := ⟨by decide +kernel, rfl⟩
theorem dL_1203 : DD code 1203 1 1204 (.aload_n 0) := ⟨by decide +kernel, rfl⟩
theorem dL_1204 : DD code 1204 1 1205 (.iload_n 3) := ⟨by decide +kernel, rfl⟩
theorem dL_1205 : DD code 1205 1 1206 (.iconst 1) := ⟨by decide +kernel, rfl⟩
theorem dL_1206 : DD code 1206 1 1207 (.iadd) := ⟨by decide +kernel, rfl⟩
theorem dL_1207 : DD code 1207 1 1208 (.iaload) := ⟨by decide +kernel, rfl⟩
theorem dL_1208 : DD code 1208 3 1211 (.invokevirtual 157) := ⟨by decide +kernel, rfl⟩
theorem dL_1211 : DD code 1211 1 1212 (.aload_n 2) := ⟨by decide +kernel, rfl⟩
theorem dL_1212 : DD code 1212 1 1213 (.aload_n 0) := ⟨by decide +kernel, rfl⟩
theorem dL_1213 : DD code 1213 1 1214 (.iload_n 3) := ⟨by decide +kernel, rfl⟩
theorem dL_1214 : DD code 1214 1 1215 (.iconst 1) := ⟨by decide +kernel, rfl⟩
theorem dL_1215 : DD code 1215 1 1216 (.iadd) := ⟨by decide +kernel, rfl⟩
theorem dL_1216 : DD code 1216 1 1217 (.iaload) := ⟨by decide +kernel, rfl⟩
theorem dL_1217 : DD code 1217 3 1220 (.invokevirtual 161) := ⟨by decide +kernel, rfl⟩
theorem dL_1220 : DD code 1220 1 1221 (.lcmp) := ⟨by decide +kernel, rfl⟩
theorem dL_1221 : DD code 1221 3 1224 (.ifCond .eq 730) := ⟨by decide +kernel, rfl⟩
theorem dL_1224 : DD code 1224 1 1225 (.iconst 0) := ⟨by decide +kernel, rfl⟩
theorem dL_1225 : DD code 1225 1 1226 (.ireturn) := ⟨by decide +kernel, rfl⟩
theorem dL_1226 : DD code 1226 1 1227 (.aload_n 1) := ⟨by decide +kernel, rfl⟩
theorem dL_1227 : DD code 1227 1 1228 (.aload_n 0) := ⟨by decide +kernel, rfl⟩
theorem dL_1228 : DD code 1228 1 1229 (.iload_n 3) := ⟨by decide +kernel, rfl⟩
theorem dL_1229 : DD code 1229 1 1230 (.iconst 1) := ⟨by decide +kernel, rfl⟩
theorem dL_1230 : DD code 1230 1 1231 (.iadd) := ⟨by decide +kernel, rfl⟩
theorem dL_1231 : DD code 1231 1 1232 (.iaload) := ⟨by decide +kernel, rfl⟩
theorem dL_1232 : DD code 1232 3 1235 (.invokevirtual 162) := ⟨by decide +kernel, rfl⟩
theorem dL_1235 : DD code 1235 1 1236 (.aload_n 2) := ⟨by decide +kernel, rfl⟩
theorem dL_1236 : DD code 1236 1 1237 (.aload_n 0) := ⟨by decide +kernel, rfl⟩
theorem dL_1237 : DD code 1237 1 1238 (.iload_n 3) := ⟨by decide +kernel, rfl⟩
theorem dL_1238 : DD code 1238 1 1239 (.iconst 1) := ⟨by decide +kernel, rfl⟩
theorem dL_1239 : DD code 1239 1 1240 (.iadd) := ⟨by decide +kernel, rfl⟩
theorem dL_1240 : DD code 1240 1 1241 (.iaload) := ⟨by decide +kernel, rfl⟩
theorem dL_1241 : DD code 1241 3 1244 (.invokevirtual 165) := ⟨by decide +kernel, rfl⟩
theorem dL_1244 : DD code 1244 3 1247 (.if_icmp .eq 707) := ⟨by decide +kernel, rfl⟩
theorem dL_1247 : DD code 1247 1 1248 (.iconst 0) := ⟨by decide +kernel, rfl⟩
theorem dL_1248 : DD code 1248 1 1249 (.ireturn) := ⟨by decide +kernel, rfl⟩
theorem dL_1249 : DD code 1249 1 1250 (.aload_n 1) := ⟨by decide +kernel, rfl⟩
theorem dL_1250 : DD code 1250 1 1251 (.aload_n 0) := ⟨by decide +kernel, rfl⟩
theorem dL_1251 : DD code 1251 1 1252 (.iload_n 3) := ⟨by decide +kernel, rfl⟩
theorem dL_1252 : DD code 1252 1 1253 (.iconst 1) := ⟨by decide +kernel, rfl⟩
theorem dL_1253 : DD code 1253 1 1254 (.iadd) := ⟨by decide +kernel, rfl⟩
theorem dL_1254 : DD code 1254 1 1255 (.iaload) := ⟨by decide +kernel, rfl⟩
theorem dL_1255 : DD code 1255 1 1256 (.aload_n 0) := ⟨by decide +kernel, rfl⟩
theorem dL_1256 : DD code 1256 1 1257 (.iload_n 3) := ⟨by decide +kernel, rfl⟩
theorem dL_1257 : DD code 1257 1 1258 (.iconst 2) := ⟨by decide +kernel, rfl⟩
theorem dL_1258 : DD code 1258 1 1259 (.iadd) := ⟨by decide +kernel, rfl⟩
theorem dL_1259 : DD code 1259 1 1260 (.iaload) := ⟨by decide +kernel, rfl⟩
theorem dL_1260 : DD code 1260 3 1263 (.invokevirtual 166) := ⟨by decide +kernel, rfl⟩
theorem dL_1263 : DD code 1263 1 1264 (.aload_n 2) := ⟨by decide +kernel, rfl⟩
theorem dL_1264 : DD code 1264 1 1265 (.aload_n 0) := ⟨by decide +kernel, rfl⟩
theorem dL_1265 : DD code 1265 1 1266 (.iload_n 3) := ⟨by decide +kernel, rfl⟩
theorem dL_1266 : DD code 1266 1 1267 (.iconst 1) := ⟨by decide +kernel, rfl⟩
theorem dL_1267 : DD code 1267 1 1268 (.iadd) := ⟨by decide +kernel, rfl⟩
theorem dL_1268 : DD code 1268 1 1269 (.iaload) := ⟨by decide +kernel, rfl⟩
theorem dL_1269 : DD code 1269 1 1270 (.aload_n 0) := ⟨by decide +kernel, rfl⟩
theorem dL_1270 : DD code 1270 1 1271 (.iload_n 3) := ⟨by decide +kernel, rfl⟩
theorem dL_1271 : DD code 1271 1 1272 (.iconst 2) := ⟨by decide +kernel, rfl⟩
theorem dL_1272 : DD code 1272 1 1273 (.iadd) := ⟨by decide +kernel, rfl⟩
theorem dL_1273 : DD code 1273 1 1274 (.iaload) := ⟨by decide +kernel, rfl⟩
theorem dL_1274 : DD code 1274 3 1277 (.invokevirtual 170) := ⟨by decide +kernel, rfl⟩
theorem dL_1277 : DD code 1277 1 1278 (.lcmp) := ⟨by decide +kernel, rfl⟩
theorem dL_1278 : DD code 1278 3 1281 (.ifCond .eq 673) := ⟨by decide +kernel, rfl⟩
theorem dL_1281 : DD code 1281 1 1282 (.iconst 0) := ⟨by decide +kernel, rfl⟩
theorem dL_1282 : DD code 1282 1 1283 (.ireturn) := ⟨by decide +kernel, rfl⟩
theorem dL_1283 : DD code 1283 1 1284 (.aload_n 1) := ⟨by decide +kernel, rfl⟩
theorem dL_1284 : DD code 1284 1 1285 (.aload_n 0) := ⟨by decide +kernel, rfl⟩
theorem dL_1285 : DD code 1285 1 1286 (.iload_n 3) := ⟨by decide +kernel, rfl⟩
theorem dL_1286 : DD code 1286 1 1287 (.iconst 1) := ⟨by decide +kernel, rfl⟩
theorem dL_1287 : DD code 1287 1 1288 (.iadd) := ⟨by decide +kernel, rfl⟩
theorem dL_1288 : DD code 1288 1 1289 (.iaload) := ⟨by decide +kernel, rfl⟩
theorem dL_1289 : DD code 1289 1 1290 (.aload_n 0) := ⟨by decide +kernel, rfl⟩
theorem dL_1290 : DD code 1290 1 1291 (.iload_n 3) := ⟨by decide +kernel, rfl⟩
theorem dL_1291 : DD code 1291 1 1292 (.iconst 2) := ⟨by decide +kernel, rfl⟩
theorem dL_1292 : DD code 1292 1 1293 (.iadd) := ⟨by decide +kernel, rfl⟩
theorem dL_1293 : DD code 1293 1 1294 (.iaload) := ⟨by decide +kernel, rfl⟩
theorem dL_1294 : DD code 1294 3 1297 (.invokevirtual 171) := ⟨by decide +kernel, rfl⟩
theorem dL_1297 : DD code 1297 1 1298 (.aload_n 2) := ⟨by decide +kernel, rfl⟩
theorem dL_1298 : DD code 1298 1 1299 (.aload_n 0) := ⟨by decide +kernel, rfl⟩
theorem dL_1299 : DD code 1299 1 1300 (.iload_n 3) := ⟨by decide +kernel, rfl⟩
theorem dL_1300 : DD code 1300 1 1301 (.iconst 1) := ⟨by decide +kernel, rfl⟩
theorem dL_1301 : DD code 1301 1 1302 (.iadd) := ⟨by decide +kernel, rfl⟩
theorem dL_1302 : DD code 1302 1 1303 (.iaload) := ⟨by decide +kernel, rfl⟩
theorem dL_1303 : DD code 1303 1 1304 (.aload_n 0) := ⟨by decide +kernel, rfl⟩
theorem dL_1304 : DD code 1304 1 1305 (.iload_n 3) := ⟨by decide +kernel, rfl⟩
theorem dL_1305 : DD code 1305 1 1306 (.iconst 2) := ⟨by decide +kernel, rfl⟩
theorem dL_1306 : DD code 1306 1 1307 (.iadd) := ⟨by decide +kernel, rfl⟩
theorem dL_1307 : DD code 1307 1 1308 (.iaload) := ⟨by decide +kernel, rfl⟩
theorem dL_1308 : DD code 1308 3 1311 (.invokevirtual 174) := ⟨by decide +kernel, rfl⟩
theorem dL_1311 : DD code 1311 3 1314 (.if_icmp .eq 640) := ⟨by decide +kernel, rfl⟩
theorem dL_1314 : DD code 1314 1 1315 (.iconst 0) := ⟨by decide +kernel, rfl⟩
theorem dL_1315 : DD code 1315 1 1316 (.ireturn) := ⟨by decide +kernel, rfl⟩
theorem dL_1316 : DD code 1316 1 1317 (.aload_n 1) := ⟨by decide +kernel, rfl⟩
theorem dL_1317 : DD code 1317 1 1318 (.aload_n 0) := ⟨by decide +kernel, rfl⟩
theorem dL_1318 : DD code 1318 1 1319 (.iload_n 3) := ⟨by decide +kernel, rfl⟩
theorem dL_1319 : DD code 1319 1 1320 (.iconst 1) := ⟨by decide +kernel, rfl⟩
theorem dL_1320 : DD code 1320 1 1321 (.iadd) := ⟨by decide +kernel, rfl⟩
theorem dL_1321 : DD code 1321 1 1322 (.iaload) := ⟨by decide +kernel, rfl⟩
theorem dL_1322 : DD code 1322 1 1323 (.aload_n 0) := ⟨by decide +kernel, rfl⟩
theorem dL_1323 : DD code 1323 1 1324 (.iload_n 3) := ⟨by decide +kernel, rfl⟩
theorem dL_1324 : DD code 1324 1 1325 (.iconst 2) := ⟨by decide +kernel, rfl⟩
theorem dL_1325 : DD code 1325 1 1326 (.iadd) := ⟨by decide +kernel, rfl⟩
theorem dL_1326 : DD code 1326 1 1327 (.iaload) := ⟨by decide +kernel, rfl⟩
theorem dL_1327 : DD code 1327 3 1330 (.invokevirtual 175) := ⟨by decide +kernel, rfl⟩
theorem dL_1330 : DD code 1330 1 1331 (.aload_n 2) := ⟨by decide +kernel, rfl⟩
theorem dL_1331 : DD code 1331 1 1332 (.aload_n 0) := ⟨by decide +kernel, rfl⟩
theorem dL_1332 : DD code 1332 1 1333 (.iload_n 3) := ⟨by decide +kernel, rfl⟩
theorem dL_1333 : DD code 1333 1 1334 (.iconst 1) := ⟨by decide +kernel, rfl⟩
theorem dL_1334 : DD code 1334 1 1335 (.iadd) := ⟨by decide +kernel, rfl⟩
theorem dL_1335 : DD code 1335 1 1336 (.iaload) := ⟨by decide +kernel, rfl⟩
theorem dL_1336 : DD code 1336 1 1337 (.aload_n 0) := ⟨by decide +kernel, rfl⟩
theorem dL_1337 : DD code 1337 1 1338 (.iload_n 3) := ⟨by decide +kernel, rfl⟩
theorem dL_1338 : DD code 1338 1 1339 (.iconst 2) := ⟨by decide +kernel, rfl⟩
theorem dL_1339 : DD code 1339 1 1340 (.iadd) := ⟨by decide +kernel, rfl⟩
theorem dL_1340 : DD code 1340 1 1341 (.iaload) := ⟨by decide +kernel, rfl⟩
theorem dL_1341 : DD code 1341 3 1344 (.invokevirtual 178) := ⟨by decide +kernel, rfl⟩
theorem dL_1344 : DD code 1344 3 1347 (.if_icmp .eq 607) := ⟨by decide +kernel, rfl⟩
theorem dL_1347 : DD code 1347 1 1348 (.iconst 0) := ⟨by decide +kernel, rfl⟩
theorem dL_1348 : DD code 1348 1 1349 (.ireturn) := ⟨by decide +kernel, rfl⟩
theorem dL_1349 : DD code 1349 1 1350 (.aload_n 1) := ⟨by decide +kernel, rfl⟩
theorem dL_1350 : DD code 1350 1 1351 (.aload_n 0) := ⟨by decide +kernel, rfl⟩
theorem dL_1351 : DD code 1351 1 1352 (.iload_n 3) := ⟨by decide +kernel, rfl⟩
theorem dL_1352 : DD code 1352 1 1353 (.iconst 1) := ⟨by decide +kernel, rfl⟩
theorem dL_1353 : DD code 1353 1 1354 (.iadd) := ⟨by decide +kernel, rfl⟩
theorem dL_1354 : DD code 1354 1 1355 (.iaload) := ⟨by decide +kernel, rfl⟩
theorem dL_1355 : DD code 1355 3 1358 (.invokevirtual 179) := ⟨by decide +kernel, rfl⟩
theorem dL_1358 : DD code 1358 1 1359 (.aload_n 2) := ⟨by decide +kernel, rfl⟩
theorem dL_1359 : DD code 1359 1 1360 (.aload_n 0) := ⟨by decide +kernel, rfl⟩
theorem dL_1360 : DD code 1360 1 1361 (.iload_n 3) := ⟨by decide +kernel, rfl⟩
theorem dL_1361 : DD code 1361 1 1362 (.iconst 1) := ⟨by decide +kernel, rfl⟩
theorem dL_1362 : DD code 1362 1 1363 (.iadd) := ⟨by decide +kernel, rfl⟩
theorem dL_1363 : DD code 1363 1 1364 (.iaload) := ⟨by decide +kernel, rfl⟩
theorem dL_1364 : DD code 1364 3 1367 (.invokevirtual 182) := ⟨by decide +kernel, rfl⟩
theorem dL_1367 : DD code 1367 3 1370 (.if_icmp .eq 584) := ⟨by decide +kernel, rfl⟩
theorem dL_1370 : DD code 1370 1 1371 (.iconst 0) := ⟨by decide +kernel, rfl⟩
theorem dL_1371 : DD code 1371 1 1372 (.ireturn) := ⟨by decide +kernel, rfl⟩
theorem dL_1372 : DD code 1372 1 1373 (.aload_n 1) := ⟨by decide +kernel, rfl⟩
theorem dL_1373 : DD code 1373 1 1374 (.aload_n 0) := ⟨by decide +kernel, rfl⟩
theorem dL_1374 : DD code 1374 1 1375 (.iload_n 3) := ⟨by decide +kernel, rfl⟩
theorem dL_1375 : DD code 1375 1 1376 (.iconst 1) := ⟨by decide +kernel, rfl⟩
theorem dL_1376 : DD code 1376 1 1377 (.iadd) := ⟨by decide +kernel, rfl⟩
theorem dL_1377 : DD code 1377 1 1378 (.iaload) := ⟨by decide +kernel, rfl⟩
theorem dL_1378 : DD code 1378 1 1379 (.aload_n 0) := ⟨by decide +kernel, rfl⟩
theorem dL_1379 : DD code 1379 1 1380 (.iload_n 3) := ⟨by decide +kernel, rfl⟩
theorem dL_1380 : DD code 1380 1 1381 (.iconst 2) := ⟨by decide +kernel, rfl⟩
theorem dL_1381 : DD code 1381 1 1382 (.iadd) := ⟨by decide +kernel, rfl⟩
theorem dL_1382 : DD code 1382 1 1383 (.iaload) := ⟨by decide +kernel, rfl⟩
theorem dL_1383 : DD code 1383 1 1384 (.i2l) := ⟨by decide +kernel, rfl⟩
theorem dL_1384 : DD code 1384 2 1386 (.bipush 32) := ⟨by decide +kernel, rfl⟩
theorem dL_1386 : DD code 1386 1 1387 (.lshl) := ⟨by decide +kernel, rfl⟩
theorem dL_1387 : DD code 1387 1 1388 (.aload_n 0) := ⟨by decide +kernel, rfl⟩
theorem dL_1388 : DD code 1388 1 1389 (.iload_n 3) := ⟨by decide +kernel, rfl⟩
theorem dL_1389 : DD code 1389 1 1390 (.iconst 3) := ⟨by decide +kernel, rfl⟩
theorem dL_1390 : DD code 1390 1 1391 (.iadd) := ⟨by decide +kernel, rfl⟩
theorem dL_1391 : DD code 1391 1 1392 (.iaload) := ⟨by decide +kernel, rfl⟩
theorem dL_1392 : DD code 1392 1 1393 (.i2l) := ⟨by decide +kernel, rfl⟩
theorem dL_1393 : DD code 1393 3 1396 (.ldc2_w 57) := ⟨by decide +kernel, rfl⟩
theorem dL_1396 : DD code 1396 1 1397 (.land) := ⟨by decide +kernel, rfl⟩
theorem dL_1397 : DD code 1397 1 1398 (.lor) := ⟨by decide +kernel, rfl⟩
theorem dL_1398 : DD code 1398 3 1401 (.invokevirtual 183) := ⟨by decide +kernel, rfl⟩
theorem dL_1401 : DD code 1401 1 1402 (.aload_n 2) := ⟨by decide +kernel, rfl⟩
theorem dL_1402 : DD code 1402 1 1403 (.aload_n 0) := ⟨by decide +kernel, rfl⟩
theorem dL_1403 : DD code 1403 1 1404 (.iload_n 3) := ⟨by decide +kernel, rfl⟩
theorem dL_1404 : DD code 1404 1 1405 (.iconst 1) := ⟨by decide +kernel, rfl⟩
theorem dL_1405 : DD code 1405 1 1406 (.iadd) := ⟨by decide +kernel, rfl⟩
theorem dL_1406 : DD code 1406 1 1407 (.iaload) := ⟨by decide +kernel, rfl⟩
theorem dL_1407 : DD code 1407 1 1408 (.aload_n 0) := ⟨by decide +kernel, rfl⟩
theorem dL_1408 : DD code 1408 1 1409 (.iload_n 3) := ⟨by decide +kernel, rfl⟩
theorem dL_1409 : DD code 1409 1 1410 (.iconst 2) := ⟨by decide +kernel, rfl⟩
theorem dL_1410 : DD code 1410 1 1411 (.iadd) := ⟨by decide +kernel, rfl⟩
theorem dL_1411 : DD code 1411 1 1412 (.iaload) := ⟨by decide +kernel, rfl⟩
theorem dL_1412 : DD code 1412 1 1413 (.i2l) := ⟨by decide +kernel, rfl⟩
theorem dL_1413 : DD code 1413 2 1415 (.bipush 32) := ⟨by decide +kernel, rfl⟩
theorem dL_1415 : DD code 1415 1 1416 (.lshl) := ⟨by decide +kernel, rfl⟩
theorem dL_1416 : DD code 1416 1 1417 (.aload_n 0) := ⟨by decide +kernel, rfl⟩
theorem dL_1417 : DD code 1417 1 1418 (.iload_n 3) := ⟨by decide +kernel, rfl⟩
theorem dL_1418 : DD code 1418 1 1419 (.iconst 3) := ⟨by decide +kernel, rfl⟩
theorem dL_1419 : DD code 1419 1 1420 (.iadd) := ⟨by decide +kernel, rfl⟩
theorem dL_1420 : DD code 1420 1 1421 (.iaload) := ⟨by decide +kernel, rfl⟩
theorem dL_1421 : DD code 1421 1 1422 (.i2l) := ⟨by decide +kernel, rfl⟩
theorem dL_1422 : DD code 1422 3 1425 (.ldc2_w 57) := ⟨by decide +kernel, rfl⟩
theorem dL_1425 : DD code 1425 1 1426 (.land) := ⟨by decide +kernel, rfl⟩
theorem dL_1426 : DD code 1426 1 1427 (.lor) := ⟨by decide +kernel, rfl⟩
theorem dL_1427 : DD code 1427 3 1430 (.invokevirtual 186) := ⟨by decide +kernel, rfl⟩
theorem dL_1430 : DD code 1430 3 1433 (.if_icmp .eq 521) := ⟨by decide +kernel, rfl⟩
theorem dL_1433 : DD code 1433 1 1434 (.iconst 0) := ⟨by decide +kernel, rfl⟩
theorem dL_1434 : DD code 1434 1 1435 (.ireturn) := ⟨by decide +kernel, rfl⟩
theorem dL_1435 : DD code 1435 1 1436 (.aload_n 1) := ⟨by decide +kernel, rfl⟩
theorem dL_1436 : DD code 1436 1 1437 (.aload_n 0) := ⟨by decide +kernel, rfl⟩
theorem dL_1437 : DD code 1437 1 1438 (.iload_n 3) := ⟨by decide +kernel, rfl⟩
theorem dL_1438 : DD code 1438 1 1439 (.iconst 1) := ⟨by decide +kernel, rfl⟩
theorem dL_1439 : DD code 1439 1 1440 (.iadd) := ⟨by decide +kernel, rfl⟩
theorem dL_1440 : DD code 1440 1 1441 (.iaload) := ⟨by decide +kernel, rfl⟩
theorem dL_1441 : DD code 1441 1 1442 (.aload_n 0) := ⟨by decide +kernel, rfl⟩
theorem dL_1442 : DD code 1442 1 1443 (.iload_n 3) := ⟨by decide +kernel, rfl⟩
theorem dL_1443 : DD code 1443 1 1444 (.iconst 2) := ⟨by decide +kernel, rfl⟩
theorem dL_1444 : DD code 1444 1 1445 (.iadd) := ⟨by decide +kernel, rfl⟩
theorem dL_1445 : DD code 1445 1 1446 (.iaload) := ⟨by decide +kernel, rfl⟩
theorem dL_1446 : DD code 1446 3 1449 (.invokevirtual 187) := ⟨by decide +kernel, rfl⟩
theorem dL_1449 : DD code 1449 1 1450 (.aload_n 2) := ⟨by decide +kernel, rfl⟩
theorem dL_1450 : DD code 1450 1 1451 (.aload_n 0) := ⟨by decide +kernel, rfl⟩
theorem dL_1451 : DD code 1451 1 1452 (.iload_n 3) := ⟨by decide +kernel, rfl⟩
theorem dL_1452 : DD code 1452 1 1453 (.iconst 1) := ⟨by decide +kernel, rfl⟩
theorem dL_1453 : DD code 1453 1 1454 (.iadd) := ⟨by decide +kernel, rfl⟩
theorem dL_1454 : DD code 1454 1 1455 (.iaload) := ⟨by decide +kernel, rfl⟩
theorem dL_1455 : DD code 1455 1 1456 (.aload_n 0) := ⟨by decide +kernel, rfl⟩
theorem dL_1456 : DD code 1456 1 1457 (.iload_n 3) := ⟨by decide +kernel, rfl⟩
theorem dL_1457 : DD code 1457 1 1458 (.iconst 2) := ⟨by decide +kernel, rfl⟩
theorem dL_1458 : DD code 1458 1 1459 (.iadd) := ⟨by decide +kernel, rfl⟩
theorem dL_1459 : DD code 1459 1 1460 (.iaload) := ⟨by decide +kernel, rfl⟩
theorem dL_1460 : DD code 1460 3 1463 (.invokevirtual 190) := ⟨by decide +kernel, rfl⟩
theorem dL_1463 : DD code 1463 3 1466 (.if_icmp .eq 488) := ⟨by decide +kernel, rfl⟩
theorem dL_1466 : DD code 1466 1 1467 (.iconst 0) := ⟨by decide +kernel, rfl⟩
theorem dL_1467 : DD code 1467 1 1468 (.ireturn) := ⟨by decide +kernel, rfl⟩
theorem dL_1468 : DD code 1468 1 1469 (.aload_n 1) := ⟨by decide +kernel, rfl⟩
theorem dL_1469 : DD code 1469 1 1470 (.aload_n 0) := ⟨by decide +kernel, rfl⟩
theorem dL_1470 : DD code 1470 1 1471 (.iload_n 3) := ⟨by decide +kernel, rfl⟩
theorem dL_1471 : DD code 1471 1 1472 (.iconst 1) := ⟨by decide +kernel, rfl⟩
theorem dL_1472 : DD code 1472 1 1473 (.iadd) := ⟨by decide +kernel, rfl⟩
theorem dL_1473 : DD code 1473 1 1474 (.iaload) := ⟨by decide +kernel, rfl⟩
theorem dL_1474 : DD code 1474 1 1475 (.aload_n 0) := ⟨by decide +kernel, rfl⟩
theorem dL_1475 : DD code 1475 1 1476 (.iload_n 3) := ⟨by decide +kernel, rfl⟩
theorem dL_1476 : DD code 1476 1 1477 (.iconst 2) := ⟨by decide +kernel, rfl⟩
theorem dL_1477 : DD code 1477 1 1478 (.iadd) := ⟨by decide +kernel, rfl⟩
theorem dL_1478 : DD code 1478 1 1479 (.iaload) := ⟨by decide +kernel, rfl⟩
theorem dL_1479 : DD code 1479 3 1482 (.invokevirtual 191) := ⟨by decide +kernel, rfl⟩
theorem dL_1482 : DD code 1482 1 1483 (.aload_n 2) := ⟨by decide +kernel, rfl⟩
theorem dL_1483 : DD code 1483 1 1484 (.aload_n 0) := ⟨by decide +kernel, rfl⟩
theorem dL_1484 : DD code 1484 1 1485 (.iload_n 3) := ⟨by decide +kernel, rfl⟩
theorem dL_1485 : DD code 1485 1 1486 (.iconst 1) := ⟨by decide +kernel, rfl⟩
theorem dL_1486 : DD code 1486 1 1487 (.iadd) := ⟨by decide +kernel, rfl⟩
theorem dL_1487 : DD code 1487 1 1488 (.iaload) := ⟨by decide +kernel, rfl⟩
theorem dL_1488 : DD code 1488 1 1489 (.aload_n 0) := ⟨by decide +kernel, rfl⟩
theorem dL_1489 : DD code 1489 1 1490 (.iload_n 3) := ⟨by decide +kernel, rfl⟩
theorem dL_1490 : DD code 1490 1 1491 (.iconst 2) := ⟨by decide +kernel, rfl⟩
theorem dL_1491 : DD code 1491 1 1492 (.iadd) := ⟨by decide +kernel, rfl⟩
theorem dL_1492 : DD code 1492 1 1493 (.iaload) := ⟨by decide +kernel, rfl⟩
theorem dL_1493 : DD code 1493 3 1496 (.invokevirtual 194) := ⟨by decide +kernel, rfl⟩
theorem dL_1496 : DD code 1496 1 1497 (.lcmp) := ⟨by decide +kernel, rfl⟩
theorem dL_1497 : DD code 1497 3 1500 (.ifCond .eq 454) := ⟨by decide +kernel, rfl⟩
theorem dL_1500 : DD code 1500 1 1501 (.iconst 0) := ⟨by decide +kernel, rfl⟩
theorem dL_1501 : DD code 1501 1 1502 (.ireturn) := ⟨by decide +kernel, rfl⟩
theorem dL_1502 : DD code 1502 1 1503 (.aload_n 1) := ⟨by decide +kernel, rfl⟩
theorem dL_1503 : DD code 1503 1 1504 (.aload_n 0) := ⟨by decide +kernel, rfl⟩
theorem dL_1504 : DD code 1504 1 1505 (.iload_n 3) := ⟨by decide +kernel, rfl⟩
theorem dL_1505 : DD code 1505 1 1506 (.iconst 1) := ⟨by decide +kernel, rfl⟩
theorem dL_1506 : DD code 1506 1 1507 (.iadd) := ⟨by decide +kernel, rfl⟩
theorem dL_1507 : DD code 1507 1 1508 (.iaload) := ⟨by decide +kernel, rfl⟩
theorem dL_1508 : DD code 1508 1 1509 (.aload_n 0) := ⟨by decide +kernel, rfl⟩
theorem dL_1509 : DD code 1509 1 1510 (.iload_n 3) := ⟨by decide +kernel, rfl⟩
theorem dL_1510 : DD code 1510 1 1511 (.iconst 2) := ⟨by decide +kernel, rfl⟩
theorem dL_1511 : DD code 1511 1 1512 (.iadd) := ⟨by decide +kernel, rfl⟩
theorem dL_1512 : DD code 1512 1 1513 (.iaload) := ⟨by decide +kernel, rfl⟩
theorem dL_1513 : DD code 1513 3 1516 (.invokevirtual 195) := ⟨by decide +kernel, rfl⟩
theorem dL_1516 : DD code 1516 1 1517 (.aload_n 2) := ⟨by decide +kernel, rfl⟩
theorem dL_1517 : DD code 1517 1 1518 (.aload_n 0) := ⟨by decide +kernel, rfl⟩
theorem dL_1518 : DD code 1518 1 1519 (.iload_n 3) := ⟨by decide +kernel, rfl⟩
theorem dL_1519 : DD code 1519 1 1520 (.iconst 1) := ⟨by decide +kernel, rfl⟩
theorem dL_1520 : DD code 1520 1 1521 (.iadd) := ⟨by decide +kernel, rfl⟩
theorem dL_1521 : DD code 1521 1 1522 (.iaload) := ⟨by decide +kernel, rfl⟩
theorem dL_1522 : DD code 1522 1 1523 (.aload_n 0) := ⟨by decide +kernel, rfl⟩
theorem dL_1523 : DD code 1523 1 1524 (.iload_n 3) := ⟨by decide +kernel, rfl⟩
theorem dL_1524 : DD code 1524 1 1525 (.iconst 2) := ⟨by decide +kernel, rfl⟩
theorem dL_1525 : DD code 1525 1 1526 (.iadd) := ⟨by decide +kernel, rfl⟩
theorem dL_1526 : DD code 1526 1 1527 (.iaload) := ⟨by decide +kernel, rfl⟩
theorem dL_1527 : DD code 1527 3 1530 (.invokevirtual 198) := ⟨by decide +kernel, rfl⟩
theorem dL_1530 : DD code 1530 3 1533 (.if_icmp .eq 421) := ⟨by decide +kernel, rfl⟩
theorem dL_1533 : DD code 1533 1 1534 (.iconst 0) := ⟨by decide +kernel, rfl⟩
theorem dL_1534 : DD code 1534 1 1535 (.ireturn) := ⟨by decide +kernel, rfl⟩
theorem dL_1535 : DD code 1535 1 1536 (.aload_n 1) := ⟨by decide +kernel, rfl⟩
theorem dL_1536 : DD code 1536 1 1537 (.aload_n 0) := ⟨by decide +kernel, rfl⟩
theorem dL_1537 : DD code 1537 1 1538 (.iload_n 3) := ⟨by decide +kernel, rfl⟩
theorem dL_1538 : DD code 1538 1 1539 (.iconst 1) := ⟨by decide +kernel, rfl⟩
theorem dL_1539 : DD code 1539 1 1540 (.iadd) := ⟨by decide +kernel, rfl⟩
theorem dL_1540 : DD code 1540 1 1541 (.iaload) := ⟨by decide +kernel, rfl⟩
theorem dL_1541 : DD code 1541 1 1542 (.aload_n 0) := ⟨by decide +kernel, rfl⟩
theorem dL_1542 : DD code 1542 1 1543 (.iload_n 3) := ⟨by decide +kernel, rfl⟩
theorem dL_1543 : DD code 1543 1 1544 (.iconst 2) := ⟨by decide +kernel, rfl⟩
theorem dL_1544 : DD code 1544 1 1545 (.iadd) := ⟨by decide +kernel, rfl⟩
theorem dL_1545 : DD code 1545 1 1546 (.iaload) := ⟨by decide +kernel, rfl⟩
theorem dL_1546 : DD code 1546 3 1549 (.invokevirtual 199) := ⟨by decide +kernel, rfl⟩
theorem dL_1549 : DD code 1549 1 1550 (.aload_n 2) := ⟨by decide +kernel, rfl⟩
theorem dL_1550 : DD code 1550 1 1551 (.aload_n 0) := ⟨by decide +kernel, rfl⟩
theorem dL_1551 : DD code 1551 1 1552 (.iload_n 3) := ⟨by decide +kernel, rfl⟩
theorem dL_1552 : DD code 1552 1 1553 (.iconst 1) := ⟨by decide +kernel, rfl⟩
theorem dL_1553 : DD code 1553 1 1554 (.iadd) := ⟨by decide +kernel, rfl⟩
theorem dL_1554 : DD code 1554 1 1555 (.iaload) := ⟨by decide +kernel, rfl⟩
theorem dL_1555 : DD code 1555 1 1556 (.aload_n 0) := ⟨by decide +kernel, rfl⟩
theorem dL_1556 : DD code 1556 1 1557 (.iload_n 3) := ⟨by decide +kernel, rfl⟩
theorem dL_1557 : DD code 1557 1 1558 (.iconst 2) := ⟨by decide +kernel, rfl⟩
theorem dL_1558 : DD code 1558 1 1559 (.iadd) := ⟨by decide +kernel, rfl⟩
theorem dL_1559 : DD code 1559 1 1560 (.iaload) := ⟨by decide +kernel, rfl⟩
theorem dL_1560 : DD code 1560 3 1563 (.invokevirtual 202) := ⟨by decide +kernel, rfl⟩
theorem dL_1563 : DD code 1563 3 1566 (.if_icmp .eq 388) := ⟨by decide +kernel, rfl⟩
theorem dL_1566 : DD code 1566 1 1567 (.iconst 0) := ⟨by decide +kernel, rfl⟩
theorem dL_1567 : DD code 1567 1 1568 (.ireturn) := ⟨by decide +kernel, rfl⟩
theorem dL_1568 : DD code 1568 1 1569 (.aload_n 1) := ⟨by decide +kernel, rfl⟩
theorem dL_1569 : DD code 1569 1 1570 (.aload_n 0) := ⟨by decide +kernel, rfl⟩
theorem dL_1570 : DD code 1570 1 1571 (.iload_n 3) := ⟨by decide +kernel, rfl⟩
theorem dL_1571 : DD code 1571 1 1572 (.iconst 1) := ⟨by decide +kernel, rfl⟩
theorem dL_1572 : DD code 1572 1 1573 (.iadd) := ⟨by decide +kernel, rfl⟩
theorem dL_1573 : DD code 1573 1 1574 (.iaload) := ⟨by decide +kernel, rfl⟩
theorem dL_1574 : DD code 1574 1 1575 (.aload_n 0) := ⟨by decide +kernel, rfl⟩
theorem dL_1575 : DD code 1575 1 1576 (.iload_n 3) := ⟨by decide +kernel, rfl⟩
theorem dL_1576 : DD code 1576 1 1577 (.iconst 2) := ⟨by decide +kernel, rfl⟩
theorem dL_1577 : DD code 1577 1 1578 (.iadd) := ⟨by decide +kernel, rfl⟩
theorem dL_1578 : DD code 1578 1 1579 (.iaload) := ⟨by decide +kernel, rfl⟩
theorem dL_1579 : DD code 1579 3 1582 (.invokevirtual 203) := ⟨by decide +kernel, rfl⟩
theorem dL_1582 : DD code 1582 1 1583 (.aload_n 2) := ⟨by decide +kernel, rfl⟩
theorem dL_1583 : DD code 1583 1 1584 (.aload_n 0) := ⟨by decide +kernel, rfl⟩
theorem dL_1584 : DD code 1584 1 1585 (.iload_n 3) := ⟨by decide +kernel, rfl⟩
theorem dL_1585 : DD code 1585 1 1586 (.iconst 1) := ⟨by decide +kernel, rfl⟩
theorem dL_1586 : DD code 1586 1 1587 (.iadd) := ⟨by decide +kernel, rfl⟩
theorem dL_1587 : DD code 1587 1 1588 (.iaload) := ⟨by decide +kernel, rfl⟩
theorem dL_1588 : DD code 1588 1 1589 (.aload_n 0) := ⟨by decide +kernel, rfl⟩
theorem dL_1589 : DD code 1589 1 1590 (.iload_n 3) := ⟨by decide +kernel, rfl⟩
theorem dL_1590 : DD code 1590 1 1591 (.iconst 2) := ⟨by decide +kernel, rfl⟩
theorem dL_1591 : DD code 1591 1 1592 (.iadd) := ⟨by decide +kernel, rfl⟩
theorem dL_1592 : DD code 1592 1 1593 (.iaload) := ⟨by decide +kernel, rfl⟩
theorem dL_1593 : DD code 1593 3 1596 (.invokevirtual 206) := ⟨by decide +kernel, rfl⟩
theorem dL_1596 : DD code 1596 3 1599 (.if_icmp .eq 355) := ⟨by decide +kernel, rfl⟩
theorem dL_1599 : DD code 1599 1 1600 (.iconst 0) := ⟨by decide +kernel, rfl⟩
theorem dL_1600 : DD code 1600 1 1601 (.ireturn) := ⟨by decide +kernel, rfl⟩
theorem dL_1601 : DD code 1601 1 1602 (.aload_n 1) := ⟨by decide +kernel, rfl⟩
theorem dL_1602 : DD code 1602 1 1603 (.aload_n 0) := ⟨by decide +kernel, rfl⟩
theorem dL_1603 : DD code 1603 1 1604 (.iload_n 3) := ⟨by decide +kernel, rfl⟩
theorem dL_1604 : DD code 1604 1 1605 (.iconst 1) := ⟨by decide +kernel, rfl⟩
theorem dL_1605 : DD code 1605 1 1606 (.iadd) := ⟨by decide +kernel, rfl⟩
theorem dL_1606 : DD code 1606 1 1607 (.iaload) := ⟨by decide +kernel, rfl⟩
theorem dL_1607 : DD code 1607 1 1608 (.aload_n 0) := ⟨by decide +kernel, rfl⟩
theorem dL_1608 : DD code 1608 1 1609 (.iload_n 3) := ⟨by decide +kernel, rfl⟩
theorem dL_1609 : DD code 1609 1 1610 (.iconst 2) := ⟨by decide +kernel, rfl⟩
theorem dL_1610 : DD code 1610 1 1611 (.iadd) := ⟨by decide +kernel, rfl⟩
theorem dL_1611 : DD code 1611 1 1612 (.iaload) := ⟨by decide +kernel, rfl⟩
theorem dL_1612 : DD code 1612 3 1615 (.invokevirtual 207) := ⟨by decide +kernel, rfl⟩
theorem dL_1615 : DD code 1615 1 1616 (.aload_n 2) := ⟨by decide +kernel, rfl⟩
theorem dL_1616 : DD code 1616 1 1617 (.aload_n 0) := ⟨by decide +kernel, rfl⟩
theorem dL_1617 : DD code 1617 1 1618 (.iload_n 3) := ⟨by decide +kernel, rfl⟩
theorem dL_1618 : DD code 1618 1 1619 (.iconst 1) := ⟨by decide +kernel, rfl⟩
theorem dL_1619 : DD code 1619 1 1620 (.iadd) := ⟨by decide +kernel, rfl⟩
theorem dL_1620 : DD code 1620 1 1621 (.iaload) := ⟨by decide +kernel, rfl⟩
theorem dL_1621 : DD code 1621 1 1622 (.aload_n 0) := ⟨by decide +kernel, rfl⟩
theorem dL_1622 : DD code 1622 1 1623 (.iload_n 3) := ⟨by decide +kernel, rfl⟩
theorem dL_1623 : DD code 1623 1 1624 (.iconst 2) := ⟨by decide +kernel, rfl⟩
theorem dL_1624 : DD code 1624 1 1625 (.iadd) := ⟨by decide +kernel, rfl⟩
theorem dL_1625 : DD code 1625 1 1626 (.iaload) := ⟨by decide +kernel, rfl⟩
theorem dL_1626 : DD code 1626 3 1629 (.invokevirtual 210) := ⟨by decide +kernel, rfl⟩
theorem dL_1629 : DD code 1629 3 1632 (.if_icmp .eq 322) := ⟨by decide +kernel, rfl⟩
theorem dL_1632 : DD code 1632 1 1633 (.iconst 0) := ⟨by decide +kernel, rfl⟩
theorem dL_1633 : DD code 1633 1 1634 (.ireturn) := ⟨by decide +kernel, rfl⟩
theorem dL_1634 : DD code 1634 1 1635 (.aload_n 1) := ⟨by decide +kernel, rfl⟩
theorem dL_1635 : DD code 1635 1 1636 (.aload_n 0) := ⟨by decide +kernel, rfl⟩
theorem dL_1636 : DD code 1636 1 1637 (.iload_n 3) := ⟨by decide +kernel, rfl⟩
theorem dL_1637 : DD code 1637 1 1638 (.iconst 1) := ⟨by decide +kernel, rfl⟩
theorem dL_1638 : DD code 1638 1 1639 (.iadd) := ⟨by decide +kernel, rfl⟩
theorem dL_1639 : DD code 1639 1 1640 (.iaload) := ⟨by decide +kernel, rfl⟩
theorem dL_1640 : DD code 1640 1 1641 (.aload_n 0) := ⟨by decide +kernel, rfl⟩
theorem dL_1641 : DD code 1641 1 1642 (.iload_n 3) := ⟨by decide +kernel, rfl⟩
theorem dL_1642 : DD code 1642 1 1643 (.iconst 2) := ⟨by decide +kernel, rfl⟩
theorem dL_1643 : DD code 1643 1 1644 (.iadd) := ⟨by decide +kernel, rfl⟩
theorem dL_1644 : DD code 1644 1 1645 (.iaload) := ⟨by decide +kernel, rfl⟩
theorem dL_1645 : DD code 1645 3 1648 (.invokevirtual 211) := ⟨by decide +kernel, rfl⟩
theorem dL_1648 : DD code 1648 1 1649 (.aload_n 2) := ⟨by decide +kernel, rfl⟩
theorem dL_1649 : DD code 1649 1 1650 (.aload_n 0) := ⟨by decide +kernel, rfl⟩
theorem dL_1650 : DD code 1650 1 1651 (.iload_n 3) := ⟨by decide +kernel, rfl⟩
theorem dL_1651 : DD code 1651 1 1652 (.iconst 1) := ⟨by decide +kernel, rfl⟩
theorem dL_1652 : DD code 1652 1 1653 (.iadd) := ⟨by decide +kernel, rfl⟩
theorem dL_1653 : DD code 1653 1 1654 (.iaload) := ⟨by decide +kernel, rfl⟩
theorem dL_1654 : DD code 1654 1 1655 (.aload_n 0) := ⟨by decide +kernel, rfl⟩
theorem dL_1655 : DD code 1655 1 1656 (.iload_n 3) := ⟨by decide +kernel, rfl⟩
theorem dL_1656 : DD code 1656 1 1657 (.iconst 2) := ⟨by decide +kernel, rfl⟩
theorem dL_1657 : DD code 1657 1 1658 (.iadd) := ⟨by decide +kernel, rfl⟩
theorem dL_1658 : DD code 1658 1 1659 (.iaload) := ⟨by decide +kernel, rfl⟩
theorem dL_1659 : DD code 1659 3 1662 (.invokevirtual 214) := ⟨by decide +kernel, rfl⟩
theorem dL_1662 : DD code 1662 3 1665 (.if_icmp .eq 289) := ⟨by decide +kernel, rfl⟩
theorem dL_1665 : DD code 1665 1 1666 (.iconst 0) := ⟨by decide +kernel, rfl⟩
theorem dL_1666 : DD code 1666 1 1667 (.ireturn) := ⟨by decide +kernel, rfl⟩
theorem dL_1667 : DD code 1667 1 1668 (.aload_n 1) := ⟨by decide +kernel, rfl⟩
theorem dL_1668 : DD code 1668 1 1669 (.aload_n 0) := ⟨by decide +kernel, rfl⟩
theorem dL_1669 : DD code 1669 1 1670 (.iload_n 3) := ⟨by decide +kernel, rfl⟩
theorem dL_1670 : DD code 1670 1 1671 (.iconst 1) := ⟨by decide +kernel, rfl⟩
theorem dL_1671 : DD code 1671 1 1672 (.iadd) := ⟨by decide +kernel, rfl⟩
theorem dL_1672 : DD code 1672 1 1673 (.iaload) := ⟨by decide +kernel, rfl⟩
theorem dL_1673 : DD code 1673 1 1674 (.aload_n 0) := ⟨by decide +kernel, rfl⟩
theorem dL_1674 : DD code 1674 1 1675 (.iload_n 3) := ⟨by decide +kernel, rfl⟩
theorem dL_1675 : DD code 1675 1 1676 (.iconst 2) := ⟨by decide +kernel, rfl⟩
theorem dL_1676 : DD code 1676 1 1677 (.iadd) := ⟨by decide +kernel, rfl⟩
theorem dL_1677 : DD code 1677 1 1678 (.iaload) := ⟨by decide +kernel, rfl⟩
theorem dL_1678 : DD code 1678 1 1679 (.aload_n 0) := ⟨by decide +kernel, rfl⟩
theorem dL_1679 : DD code 1679 1 1680 (.iload_n 3) := ⟨by decide +kernel, rfl⟩
theorem dL_1680 : DD code 1680 1 1681 (.iconst 3) := ⟨by decide +kernel, rfl⟩
theorem dL_1681 : DD code 1681 1 1682 (.iadd) := ⟨by decide +kernel, rfl⟩
theorem dL_1682 : DD code 1682 1 1683 (.iaload) := ⟨by decide +kernel, rfl⟩
theorem dL_1683 : DD code 1683 1 1684 (.aload_n 0) := ⟨by decide +kernel, rfl⟩
theorem dL_1684 : DD code 1684 1 1685 (.iload_n 3) := ⟨by decide +kernel, rfl⟩
theorem dL_1685 : DD code 1685 1 1686 (.iconst 4) := ⟨by decide +kernel, rfl⟩
theorem dL_1686 : DD code 1686 1 1687 (.iadd) := ⟨by decide +kernel, rfl⟩
theorem dL_1687 : DD code 1687 1 1688 (.iaload) := ⟨by decide +kernel, rfl⟩
theorem dL_1688 : DD code 1688 1 1689 (.aload_n 0) := ⟨by decide +kernel, rfl⟩
theorem dL_1689 : DD code 1689 1 1690 (.iload_n 3) := ⟨by decide +kernel, rfl⟩
theorem dL_1690 : DD code 1690 1 1691 (.iconst 5) := ⟨by decide +kernel, rfl⟩
theorem dL_1691 : DD code 1691 1 1692 (.iadd) := ⟨by decide +kernel, rfl⟩
theorem dL_1692 : DD code 1692 1 1693 (.iaload) := ⟨by decide +kernel, rfl⟩
theorem dL_1693 : DD code 1693 1 1694 (.aload_n 0) := ⟨by decide +kernel, rfl⟩
theorem dL_1694 : DD code 1694 1 1695 (.iload_n 3) := ⟨by decide +kernel, rfl⟩
theorem dL_1695 : DD code 1695 2 1697 (.bipush 6) := ⟨by decide +kernel, rfl⟩
theorem dL_1697 : DD code 1697 1 1698 (.iadd) := ⟨by decide +kernel, rfl⟩
theorem dL_1698 : DD code 1698 1 1699 (.iaload) := ⟨by decide +kernel, rfl⟩
theorem dL_1699 : DD code 1699 1 1700 (.aload_n 0) := ⟨by decide +kernel, rfl⟩
theorem dL_1700 : DD code 1700 1 1701 (.iload_n 3) := ⟨by decide +kernel, rfl⟩
theorem dL_1701 : DD code 1701 2 1703 (.bipush 7) := ⟨by decide +kernel, rfl⟩
theorem dL_1703 : DD code 1703 1 1704 (.iadd) := ⟨by decide +kernel, rfl⟩
theorem dL_1704 : DD code 1704 1 1705 (.iaload) := ⟨by decide +kernel, rfl⟩
theorem dL_1705 : DD code 1705 3 1708 (.invokevirtual 215) := ⟨by decide +kernel, rfl⟩
theorem dL_1708 : DD code 1708 1 1709 (.aload_n 2) := ⟨by decide +kernel, rfl⟩
theorem dL_1709 : DD code 1709 1 1710 (.aload_n 0) := ⟨by decide +kernel, rfl⟩
theorem dL_1710 : DD code 1710 1 1711 (.iload_n 3) := ⟨by decide +kernel, rfl⟩
theorem dL_1711 : DD code 1711 1 1712 (.iconst 1) := ⟨by decide +kernel, rfl⟩
theorem dL_1712 : DD code 1712 1 1713 (.iadd) := ⟨by decide +kernel, rfl⟩
theorem dL_1713 : DD code 1713 1 1714 (.iaload) := ⟨by decide +kernel, rfl⟩
theorem dL_1714 : DD code 1714 1 1715 (.aload_n 0) := ⟨by decide +kernel, rfl⟩
theorem dL_1715 : DD code 1715 1 1716 (.iload_n 3) := ⟨by decide +kernel, rfl⟩
theorem dL_1716 : DD code 1716 1 1717 (.iconst 2) := ⟨by decide +kernel, rfl⟩
theorem dL_1717 : DD code 1717 1 1718 (.iadd) := ⟨by decide +kernel, rfl⟩
theorem dL_1718 : DD code 1718 1 1719 (.iaload) := ⟨by decide +kernel, rfl⟩
theorem dL_1719 : DD code 1719 1 1720 (.aload_n 0) := ⟨by decide +kernel, rfl⟩
theorem dL_1720 : DD code 1720 1 1721 (.iload_n 3) := ⟨by decide +kernel, rfl⟩
theorem dL_1721 : DD code 1721 1 1722 (.iconst 3) := ⟨by decide +kernel, rfl⟩
theorem dL_1722 : DD code 1722 1 1723 (.iadd) := ⟨by decide +kernel, rfl⟩
theorem dL_1723 : DD code 1723 1 1724 (.iaload) := ⟨by decide +kernel, rfl⟩
theorem dL_1724 : DD code 1724 1 1725 (.aload_n 0) := ⟨by decide +kernel, rfl⟩
theorem dL_1725 : DD code 1725 1 1726 (.iload_n 3) := ⟨by decide +kernel, rfl⟩
theorem dL_1726 : DD code 1726 1 1727 (.iconst 4) := ⟨by decide +kernel, rfl⟩
theorem dL_1727 : DD code 1727 1 1728 (.iadd) := ⟨by decide +kernel, rfl⟩
theorem dL_1728 : DD code 1728 1 1729 (.iaload) := ⟨by decide +kernel, rfl⟩
theorem dL_1729 : DD code 1729 1 1730 (.aload_n 0) := ⟨by decide +kernel, rfl⟩
theorem dL_1730 : DD code 1730 1 1731 (.iload_n 3) := ⟨by decide +kernel, rfl⟩
theorem dL_1731 : DD code 1731 1 1732 (.iconst 5) := ⟨by decide +kernel, rfl⟩
theorem dL_1732 : DD code 1732 1 1733 (.iadd) := ⟨by decide +kernel, rfl⟩
theorem dL_1733 : DD code 1733 1 1734 (.iaload) := ⟨by decide +kernel, rfl⟩
theorem dL_1734 : DD code 1734 1 1735 (.aload_n 0) := ⟨by decide +kernel, rfl⟩
theorem dL_1735 : DD code 1735 1 1736 (.iload_n 3) := ⟨by decide +kernel, rfl⟩
theorem dL_1736 : DD code 1736 2 1738 (.bipush 6) := ⟨by decide +kernel, rfl⟩
theorem dL_1738 : DD code 1738 1 1739 (.iadd) := ⟨by decide +kernel, rfl⟩
theorem dL_1739 : DD code 1739 1 1740 (.iaload) := ⟨by decide +kernel, rfl⟩
theorem dL_1740 : DD code 1740 1 1741 (.aload_n 0) := ⟨by decide +kernel, rfl⟩
theorem dL_1741 : DD code 1741 1 1742 (.iload_n 3) := ⟨by decide +kernel, rfl⟩
theorem dL_1742 : DD code 1742 2 1744 (.bipush 7) := ⟨by decide +kernel, rfl⟩
theorem dL_1744 : DD code 1744 1 1745 (.iadd) := ⟨by decide +kernel, rfl⟩
theorem dL_1745 : DD code 1745 1 1746 (.iaload) := ⟨by decide +kernel, rfl⟩
theorem dL_1746 : DD code 1746 3 1749 (.invokevirtual 219) := ⟨by decide +kernel, rfl⟩
theorem dL_1749 : DD code 1749 3 1752 (.if_icmp .eq 202) := ⟨by decide +kernel, rfl⟩
theorem dL_1752 : DD code 1752 1 1753 (.iconst 0) := ⟨by decide +kernel, rfl⟩
theorem dL_1753 : DD code 1753 1 1754 (.ireturn) := ⟨by decide +kernel, rfl⟩
theorem dL_1754 : DD code 1754 1 1755 (.aload_n 1) := ⟨by decide +kernel, rfl⟩
theorem dL_1755 : DD code 1755 3 1758 (.invokevirtual 220) := ⟨by decide +kernel, rfl⟩
theorem dL_1758 : DD code 1758 1 1759 (.aload_n 2) := ⟨by decide +kernel, rfl⟩
theorem dL_1759 : DD code 1759 3 1762 (.invokevirtual 223) := ⟨by decide +kernel, rfl⟩
theorem dL_1762 : DD code 1762 3 1765 (.if_icmp .eq 189) := ⟨by decide +kernel, rfl⟩
theorem dL_1765 : DD code 1765 1 1766 (.iconst 0) := ⟨by decide +kernel, rfl⟩
theorem dL_1766 : DD code 1766 1 1767 (.ireturn) := ⟨by decide +kernel, rfl⟩
theorem dL_1767 : DD code 1767 1 1768 (.aload_n 1) := ⟨by decide +kernel, rfl⟩
theorem dL_1768 : DD code 1768 1 1769 (.aload_n 0) := ⟨by decide +kernel, rfl⟩
theorem dL_1769 : DD code 1769 1 1770 (.iload_n 3) := ⟨by decide +kernel, rfl⟩
theorem dL_1770 : DD code 1770 1 1771 (.iconst 1) := ⟨by decide +kernel, rfl⟩
theorem dL_1771 : DD code 1771 1 1772 (.iadd) := ⟨by decide +kernel, rfl⟩
theorem dL_1772 : DD code 1772 1 1773 (.iaload) := ⟨by decide +kernel, rfl⟩
theorem dL_1773 : DD code 1773 3 1776 (.invokevirtual 224) := ⟨by decide +kernel, rfl⟩
theorem dL_1776 : DD code 1776 1 1777 (.aload_n 2) := ⟨by decide +kernel, rfl⟩
theorem dL_1777 : DD code 1777 1 1778 (.aload_n 0) := ⟨by decide +kernel, rfl⟩
theorem dL_1778 : DD code 1778 1 1779 (.iload_n 3) := ⟨by decide +kernel, rfl⟩
theorem dL_1779 : DD code 1779 1 1780 (.iconst 1) := ⟨by decide +kernel, rfl⟩
theorem dL_1780 : DD code 1780 1 1781 (.iadd) := ⟨by decide +kernel, rfl⟩
theorem dL_1781 : DD code 1781 1 1782 (.iaload) := ⟨by decide +kernel, rfl⟩
theorem dL_1782 : DD code 1782 3 1785 (.invokevirtual 227) := ⟨by decide +kernel, rfl⟩
theorem dL_1785 : DD code 1785 3 1788 (.if_icmp .eq 166) := ⟨by decide +kernel, rfl⟩
theorem dL_1788 : DD code 1788 1 1789 (.iconst 0) := ⟨by decide +kernel, rfl⟩
theorem dL_1789 : DD code 1789 1 1790 (.ireturn) := ⟨by decide +kernel, rfl⟩
theorem dL_1790 : DD code 1790 1 1791 (.aload_n 1) := ⟨by decide +kernel, rfl⟩
theorem dL_1791 : DD code 1791 1 1792 (.aload_n 0) := ⟨by decide +kernel, rfl⟩
theorem dL_1792 : DD code 1792 1 1793 (.iload_n 3) := ⟨by decide +kernel, rfl⟩
theorem dL_1793 : DD code 1793 1 1794 (.iconst 1) := ⟨by decide +kernel, rfl⟩
theorem dL_1794 : DD code 1794 1 1795 (.iadd) := ⟨by decide +kernel, rfl⟩
theorem dL_1795 : DD code 1795 1 1796 (.iaload) := ⟨by decide +kernel, rfl⟩
theorem dL_1796 : DD code 1796 1 1797 (.aload_n 0) := ⟨by decide +kernel, rfl⟩
theorem dL_1797 : DD code 1797 1 1798 (.iload_n 3) := ⟨by decide +kernel, rfl⟩
theorem dL_1798 : DD code 1798 1 1799 (.iconst 2) := ⟨by decide +kernel, rfl⟩
theorem dL_1799 : DD code 1799 1 1800 (.iadd) := ⟨by decide +kernel, rfl⟩
theorem dL_1800 : DD code 1800 1 1801 (.iaload) := ⟨by decide +kernel, rfl⟩
theorem dL_1801 : DD code 1801 3 1804 (.invokevirtual 228) := ⟨by decide +kernel, rfl⟩
theorem dL_1804 : DD code 1804 1 1805 (.aload_n 2) := ⟨by decide +kernel, rfl⟩
theorem dL_1805 : DD code 1805 1 1806 (.aload_n 0) := ⟨by decide +kernel, rfl⟩
theorem dL_1806 : DD code 1806 1 1807 (.iload_n 3) := ⟨by decide +kernel, rfl⟩
theorem dL_1807 : DD code 1807 1 1808 (.iconst 1) := ⟨by decide +kernel, rfl⟩
theorem dL_1808 : DD code 1808 1 1809 (.iadd) := ⟨by decide +kernel, rfl⟩
theorem dL_1809 : DD code 1809 1 1810 (.iaload) := ⟨by decide +kernel, rfl⟩
theorem dL_1810 : DD code 1810 1 1811 (.aload_n 0) := ⟨by decide +kernel, rfl⟩
theorem dL_1811 : DD code 1811 1 1812 (.iload_n 3) := ⟨by decide +kernel, rfl⟩
theorem dL_1812 : DD code 1812 1 1813 (.iconst 2) := ⟨by decide +kernel, rfl⟩
theorem dL_1813 : DD code 1813 1 1814 (.iadd) := ⟨by decide +kernel, rfl⟩
theorem dL_1814 : DD code 1814 1 1815 (.iaload) := ⟨by decide +kernel, rfl⟩
theorem dL_1815 : DD code 1815 3 1818 (.invokevirtual 231) := ⟨by decide +kernel, rfl⟩
theorem dL_1818 : DD code 1818 3 1821 (.if_icmp .eq 133) := ⟨by decide +kernel, rfl⟩
theorem dL_1821 : DD code 1821 1 1822 (.iconst 0) := ⟨by decide +kernel, rfl⟩
theorem dL_1822 : DD code 1822 1 1823 (.ireturn) := ⟨by decide +kernel, rfl⟩
theorem dL_1823 : DD code 1823 1 1824 (.aload_n 1) := ⟨by decide +kernel, rfl⟩
theorem dL_1824 : DD code 1824 1 1825 (.aload_n 0) := ⟨by decide +kernel, rfl⟩
theorem dL_1825 : DD code 1825 1 1826 (.iload_n 3) := ⟨by decide +kernel, rfl⟩
theorem dL_1826 : DD code 1826 1 1827 (.iconst 1) := ⟨by decide +kernel, rfl⟩
theorem dL_1827 : DD code 1827 1 1828 (.iadd) := ⟨by decide +kernel, rfl⟩
theorem dL_1828 : DD code 1828 1 1829 (.iaload) := ⟨by decide +kernel, rfl⟩
theorem dL_1829 : DD code 1829 1 1830 (.aload_n 0) := ⟨by decide +kernel, rfl⟩
theorem dL_1830 : DD code 1830 1 1831 (.iload_n 3) := ⟨by decide +kernel, rfl⟩
theorem dL_1831 : DD code 1831 1 1832 (.iconst 2) := ⟨by decide +kernel, rfl⟩
theorem dL_1832 : DD code 1832 1 1833 (.iadd) := ⟨by decide +kernel, rfl⟩
theorem dL_1833 : DD code 1833 1 1834 (.iaload) := ⟨by decide +kernel, rfl⟩
theorem dL_1834 : DD code 1834 3 1837 (.invokevirtual 232) := ⟨by decide +kernel, rfl⟩
theorem dL_1837 : DD code 1837 1 1838 (.aload_n 2) := ⟨by decide +kernel, rfl⟩
theorem dL_1838 : DD code 1838 1 1839 (.aload_n 0) := ⟨by decide +kernel, rfl⟩
theorem dL_1839 : DD code 1839 1 1840 (.iload_n 3) := ⟨by decide +kernel, rfl⟩
theorem dL_1840 : DD code 1840 1 1841 (.iconst 1) := ⟨by decide +kernel, rfl⟩
theorem dL_1841 : DD code 1841 1 1842 (.iadd) := ⟨by decide +kernel, rfl⟩
theorem dL_1842 : DD code 1842 1 1843 (.iaload) := ⟨by decide +kernel, rfl⟩
theorem dL_1843 : DD code 1843 1 1844 (.aload_n 0) := ⟨by decide +kernel, rfl⟩
theorem dL_1844 : DD code 1844 1 1845 (.iload_n 3) := ⟨by decide +kernel, rfl⟩
theorem dL_1845 : DD code 1845 1 1846 (.iconst 2) := ⟨by decide +kernel, rfl⟩
theorem dL_1846 : DD code 1846 1 1847 (.iadd) := ⟨by decide +kernel, rfl⟩
theorem dL_1847 : DD code 1847 1 1848 (.iaload) := ⟨by decide +kernel, rfl⟩
theorem dL_1848 : DD code 1848 3 1851 (.invokevirtual 235) := ⟨by decide +kernel, rfl⟩
theorem dL_1851 : DD code 1851 3 1854 (.if_icmp .eq 100) := ⟨by decide +kernel, rfl⟩
theorem dL_1854 : DD code 1854 1 1855 (.iconst 0) := ⟨by decide +kernel, rfl⟩
theorem dL_1855 : DD code 1855 1 1856 (.ireturn) := ⟨by decide +kernel, rfl⟩
theorem dL_1856 : DD code 1856 1 1857 (.aload_n 1) := ⟨by decide +kernel, rfl⟩
theorem dL_1857 : DD code 1857 1 1858 (.aload_n 0) := ⟨by decide +kernel, rfl⟩
theorem dL_1858 : DD code 1858 1 1859 (.iload_n 3) := ⟨by decide +kernel, rfl⟩
theorem dL_1859 : DD code 1859 1 1860 (.iconst 1) := ⟨by decide +kernel, rfl⟩
theorem dL_1860 : DD code 1860 1 1861 (.iadd) := ⟨by decide +kernel, rfl⟩
theorem dL_1861 : DD code 1861 1 1862 (.iaload) := ⟨by decide +kernel, rfl⟩
theorem dL_1862 : DD code 1862 3 1865 (.invokevirtual 236) := ⟨by decide +kernel, rfl⟩
theorem dL_1865 : DD code 1865 1 1866 (.aload_n 2) := ⟨by decide +kernel, rfl⟩
theorem dL_1866 : DD code 1866 1 1867 (.aload_n 0) := ⟨by decide +kernel, rfl⟩
theorem dL_1867 : DD code 1867 1 1868 (.iload_n 3) := ⟨by decide +kernel, rfl⟩
theorem dL_1868 : DD code 1868 1 1869 (.iconst 1) := ⟨by decide +kernel, rfl⟩
theorem dL_1869 : DD code 1869 1 1870 (.iadd) := ⟨by decide +kernel, rfl⟩
theorem dL_1870 : DD code 1870 1 1871 (.iaload) := ⟨by decide +kernel, rfl⟩
theorem dL_1871 : DD code 1871 3 1874 (.invokevirtual 239) := ⟨by decide +kernel, rfl⟩
theorem dL_1874 : DD code 1874 3 1877 (.if_icmp .eq 77) := ⟨by decide +kernel, rfl⟩
theorem dL_1877 : DD code 1877 1 1878 (.iconst 0) := ⟨by decide +kernel, rfl⟩
theorem dL_1878 : DD code 1878 1 1879 (.ireturn) := ⟨by decide +kernel, rfl⟩
theorem dL_1879 : DD code 1879 1 1880 (.aload_n 1) := ⟨by decide +kernel, rfl⟩
theorem dL_1880 : DD code 1880 1 1881 (.aload_n 0) := ⟨by decide +kernel, rfl⟩
theorem dL_1881 : DD code 1881 1 1882 (.iload_n 3) := ⟨by decide +kernel, rfl⟩
theorem dL_1882 : DD code 1882 1 1883 (.iconst 1) := ⟨by decide +kernel, rfl⟩
theorem dL_1883 : DD code 1883 1 1884 (.iadd) := ⟨by decide +kernel, rfl⟩
theorem dL_1884 : DD code 1884 1 1885 (.iaload) := ⟨by decide +kernel, rfl⟩
theorem dL_1885 : DD code 1885 3 1888 (.invokevirtual 240) := ⟨by decide +kernel, rfl⟩
theorem dL_1888 : DD code 1888 1 1889 (.aload_n 2) := ⟨by decide +kernel, rfl⟩
theorem dL_1889 : DD code 1889 1 1890 (.aload_n 0) := ⟨by decide +kernel, rfl⟩
theorem dL_1890 : DD code 1890 1 1891 (.iload_n 3) := ⟨by decide +kernel, rfl⟩
theorem dL_1891 : DD code 1891 1 1892 (.iconst 1) := ⟨by decide +kernel, rfl⟩
theorem dL_1892 : DD code 1892 1 1893 (.iadd) := ⟨by decide +kernel, rfl⟩
theorem dL_1893 : DD code 1893 1 1894 (.iaload) := ⟨by decide +kernel, rfl⟩
theorem dL_1894 : DD code 1894 3 1897 (.invokevirtual 243) := ⟨by decide +kernel, rfl⟩
theorem dL_1897 : DD code 1897 3 1900 (.if_icmp .eq 54) := ⟨by decide +kernel, rfl⟩
theorem dL_1900 : DD code 1900 1 1901 (.iconst 0) := ⟨by decide +kernel, rfl⟩
theorem dL_1901 : DD code 1901 1 1902 (.ireturn) := ⟨by decide +kernel, rfl⟩
theorem dL_1902 : DD code 1902 1 1903 (.aload_n 1) := ⟨by decide +kernel, rfl⟩
theorem dL_1903 : DD code 1903 3 1906 (.invokevirtual 244) := ⟨by decide +kernel, rfl⟩
theorem dL_1906 : DD code 1906 1 1907 (.aload_n 2) := ⟨by decide +kernel, rfl⟩
theorem dL_1907 : DD code 1907 3 1910 (.invokevirtual 247) := ⟨by decide +kernel, rfl⟩
theorem dL_1910 : DD code 1910 3 1913 (.if_icmp .eq 41) := ⟨by decide +kernel, rfl⟩
theorem dL_1913 : DD code 1913 1 1914 (.iconst 0) := ⟨by decide +kernel, rfl⟩
theorem dL_1914 : DD code 1914 1 1915 (.ireturn) := ⟨by decide +kernel, rfl⟩
theorem dL_1915 : DD code 1915 1 1916 (.aload_n 1) := ⟨by decide +kernel, rfl⟩
theorem dL_1916 : DD code 1916 1 1917 (.aload_n 0) := ⟨by decide +kernel, rfl⟩
theorem dL_1917 : DD code 1917 1 1918 (.iload_n 3) := ⟨by decide +kernel, rfl⟩
theorem dL_1918 : DD code 1918 1 1919 (.iconst 1) := ⟨by decide +kernel, rfl⟩
theorem dL_1919 : DD code 1919 1 1920 (.iadd) := ⟨by decide +kernel, rfl⟩
theorem dL_1920 : DD code 1920 1 1921 (.iaload) := ⟨by decide +kernel, rfl⟩
theorem dL_1921 : DD code 1921 3 1924 (.invokevirtual 248) := ⟨by decide +kernel, rfl⟩
theorem dL_1924 : DD code 1924 1 1925 (.aload_n 2) := ⟨by decide +kernel, rfl⟩
theorem dL_1925 : DD code 1925 1 1926 (.aload_n 0) := ⟨by decide +kernel, rfl⟩
theorem dL_1926 : DD code 1926 1 1927 (.iload_n 3) := ⟨by decide +kernel, rfl⟩
theorem dL_1927 : DD code 1927 1 1928 (.iconst 1) := ⟨by decide +kernel, rfl⟩
theorem dL_1928 : DD code 1928 1 1929 (.iadd) := ⟨by decide +kernel, rfl⟩
theorem dL_1929 : DD code 1929 1 1930 (.iaload) := ⟨by decide +kernel, rfl⟩
theorem dL_1930 : DD code 1930 3 1933 (.invokevirtual 251) := ⟨by decide +kernel, rfl⟩
theorem dL_1933 : DD code 1933 3 1936 (.if_icmp .eq 18) := ⟨by decide +kernel, rfl⟩
theorem dL_1936 : DD code 1936 1 1937 (.iconst 0) := ⟨by decide +kernel, rfl⟩
theorem dL_1937 : DD code 1937 1 1938 (.ireturn) := ⟨by decide +kernel, rfl⟩
theorem dL_1938 : DD code 1938 1 1939 (.aload_n 1) := ⟨by decide +kernel, rfl⟩
theorem dL_1939 : DD code 1939 3 1942 (.invokevirtual 252) := ⟨by decide +kernel, rfl⟩
theorem dL_1942 : DD code 1942 1 1943 (.aload_n 2) := ⟨by decide +kernel, rfl⟩
theorem dL_1943 : DD code 1943 3 1946 (.invokevirtual 255) := ⟨by decide +kernel, rfl⟩
theorem dL_1946 : DD code 1946 3 1949 (.if_icmp .eq 5) := ⟨by decide +kernel, rfl⟩
theorem dL_1949 : DD code 1949 1 1950 (.iconst 0) := ⟨by decide +kernel, rfl⟩
theorem dL_1950 : DD code 1950 1 1951 (.ireturn) := ⟨by decide +kernel, rfl⟩
theorem dL_1951 : DD code 1951 3 1954 (.iinc 3 8) := ⟨by decide +kernel, rfl⟩
theorem dL_1954 : decode code 1954 = .ok (.goto (-1936), 3) := by decide +kernel
theorem dL_1957 : DD code 1957 1 1958 (.iconst 1) := ⟨by decide +kernel, rfl⟩
theorem dL_1958 : DD code 1958 1 1959 (.ireturn) := ⟨by decide +kernel, rfl⟩
abbrev mLaw : MI := (x, code, 4, some .boolean, [])
theorem cmp3_0 {x y : Int} (h : x = y) : cmp3 x y = 0 := by subst h; unfold cmp3; simp
theorem b64or_in (x y : Int) : inL (b64or x y) := by
  have a := Int64.minValue_le_toInt (Int64.ofInt x ||| Int64.ofInt y)
  have b := Int64.toInt_lt (Int64.ofInt x ||| Int64.ofInt y)
  have e : Int64.minValue.toInt = -9223372036854775808 := rfl
  unfold b64or inL
  omega
/-- one operation, of both: the same answer, and the relation again -/
def OPI (E : XE) (d : Nat) (mX mM : MI) (as : List AV) (σ : Sto) (K : Sto → Prop) : Prop := CC E mX d (aO 0 :: as) σ (RVI (fun y σ1 => SF σ σ1 → CC E mM d (aO 555 :: as) σ1 (RVI (fun z σ2 => SF σ1 σ2 → z = y ∧ K σ2))))
def OPL (E : XE) (d : Nat) (mX mM : MI) (as : List AV) (σ : Sto) (K : Sto → Prop) : Prop := CC E mX d (aO 0 :: as) σ (RVL (fun y σ1 => SF σ σ1 → CC E mM d (aO 555 :: as) σ1 (RVL (fun z σ2 => SF σ1 σ2 → z = y ∧ K σ2))))
theorem lc_0 {E : XE} {d : Nat} {σ : Sto} {i : Int} {K : Sto → Prop} {Q : Res → Sto → Prop} (h0 : 0 ≤ i) (h1 : i + 8 ≤ (E.sa 1001 : Int)) (hL : Lay σ) (hop : OPI E d mX0_feed mX9_feed [aI (scr E (i + 1)), aI (scr E (i + 2)), aI (scr E (i + 3)), aI (scr E (i + 4)), aI (scr E (i + 5))] σ K) (h : ∀ σ2, K σ2 → VV E mLaw (d + 1) 1951 [(3, aI i), (2, aO 555), (1, aO 0), (0, aS 1000)] [] σ2 Q) : VV E mLaw (d + 1) 280 [(3, aI i), (2, aO 555), (1, aO 0), (0, aS 1000)] [] σ Q := by
  refine v_aload_n 2 dL_280 rfl rfl ?_
  refine v_sload_n 3 dL_281 rfl rfl ?_
  refine v_iload_n 0 dL_282 rfl rfl ?_
  refine v_iconst dL_283 ?_
  refine v_iadd dL_284 ?_
  refine v_ialdP (k := i + 1) dL_285 (by omega) (by omega) (fun iq285 => ?_)
  refine v_sload_n 3 dL_286 rfl rfl ?_
  refine v_iload_n 0 dL_287 rfl rfl ?_
  refine v_iconst dL_288 ?_
  refine v_iadd dL_289 ?_
  refine v_ialdP (k := i + 2) dL_290 (by omega) (by omega) (fun iq290 => ?_)
  refine v_sload_n 3 dL_291 rfl rfl ?_
  refine v_iload_n 0 dL_292 rfl rfl ?_
  refine v_iconst dL_293 ?_
  refine v_iadd dL_294 ?_
  refine v_ialdP (k := i + 3) dL_295 (by omega) (by omega) (fun iq295 => ?_)
  refine v_sload_n 3 dL_296 rfl rfl ?_
  refine v_iload_n 0 dL_297 rfl rfl ?_
  refine v_iconst dL_298 ?_
  refine v_iadd dL_299 ?_
  refine v_ialdP (k := i + 4) dL_300 (by omega) (by omega) (fun iq300 => ?_)
  refine v_sload_n 3 dL_301 rfl rfl ?_
  refine v_iload_n 0 dL_302 rfl rfl ?_
  refine v_iconst dL_303 ?_
  refine v_iadd dL_304 ?_
  refine v_ialdP (k := i + 5) dL_305 (by omega) (by omega) (fun iq305 => ?_)
  refine v_invV (ci := 0) (as := [aI (scr E (i + 1)), aI (scr E (i + 2)), aI (scr E (i + 3)), aI (scr E (i + 4)), aI (scr E (i + 5))]) (b := 0) (st := []) dL_306 rfl okX0_feed (Or.inl q283) q284 (s_0 hL) rfl q285 npX0_feed hop (Nat.le_of_ble_eq_true rfl) (Nat.le_refl _) (Nat.le_of_ble_eq_true rfl) (RVI_ret (fun y σ1 gy s1 e1 => ?_)) RVI_thr
  refine v_aload_n 1 dL_309 rfl rfl ?_
  refine v_sload_n 3 dL_310 rfl rfl ?_
  refine v_iload_n 0 dL_311 rfl rfl ?_
  refine v_iconst dL_312 ?_
  refine v_iadd dL_313 ?_
  refine v_ialdP (k := i + 1) dL_314 (by omega) (by omega) (fun iq314 => ?_)
  refine v_sload_n 3 dL_315 rfl rfl ?_
  refine v_iload_n 0 dL_316 rfl rfl ?_
  refine v_iconst dL_317 ?_
  refine v_iadd dL_318 ?_
  refine v_ialdP (k := i + 2) dL_319 (by omega) (by omega) (fun iq319 => ?_)
  refine v_sload_n 3 dL_320 rfl rfl ?_
  refine v_iload_n 0 dL_321 rfl rfl ?_
  refine v_iconst dL_322 ?_
  refine v_iadd dL_323 ?_
  refine v_ialdP (k := i + 3) dL_324 (by omega) (by omega) (fun iq324 => ?_)
  refine v_sload_n 3 dL_325 rfl rfl ?_
  refine v_iload_n 0 dL_326 rfl rfl ?_
  refine v_iconst dL_327 ?_
  refine v_iadd dL_328 ?_
  refine v_ialdP (k := i + 4) dL_329 (by omega) (by omega) (fun iq329 => ?_)
  refine v_sload_n 3 dL_330 rfl rfl ?_
  refine v_iload_n 0 dL_331 rfl rfl ?_
  refine v_iconst dL_332 ?_
  refine v_iadd dL_333 ?_
  refine v_ialdP (k := i + 5) dL_334 (by omega) (by omega) (fun iq334 => ?_)
  refine v_invV (ci := 9) (as := [aI (scr E (i + 1)), aI (scr E (i + 2)), aI (scr E (i + 3)), aI (scr E (i + 4)), aI (scr E (i + 5))]) (b := 555) (st := [aI y]) dL_335 rfl okX9_feed (Or.inl q2723) q2724 (s_555 (hL.sf s1)) rfl q2725 npX9_feed (e1 s1) (Nat.le_of_ble_eq_true rfl) (Nat.le_refl _) (Nat.le_of_ble_eq_true rfl) (RVI_ret (fun z σ2 gz s2 e2 => ?_)) RVI_thr
  refine v_icmp_eq (tg := 1951) dL_338 rfl gy gz (fun _ => ?_) (fun q => absurd (e2 s2).1.symm q)
  exact h σ2 (e2 s2).2
theorem lc_1 {E : XE} {d : Nat} {σ : Sto} {i : Int} {K : Sto → Prop} {Q : Res → Sto → Prop} (h0 : 0 ≤ i) (h1 : i + 8 ≤ (E.sa 1001 : Int)) (hL : Lay σ) (hop : OPI E d mX0_cut mX9_cut [aI (scr E (i + 1))] σ K) (h : ∀ σ2, K σ2 → VV E mLaw (d + 1) 1951 [(3, aI i), (2, aO 555), (1, aO 0), (0, aS 1000)] [] σ2 Q) : VV E mLaw (d + 1) 343 [(3, aI i), (2, aO 555), (1, aO 0), (0, aS 1000)] [] σ Q := by
  refine v_aload_n 2 dL_343 rfl rfl ?_
  refine v_sload_n 3 dL_344 rfl rfl ?_
  refine v_iload_n 0 dL_345 rfl rfl ?_
  refine v_iconst dL_346 ?_
  refine v_iadd dL_347 ?_
  refine v_ialdP (k := i + 1) dL_348 (by omega) (by omega) (fun iq348 => ?_)
  refine v_invV (ci := 0) (as := [aI (scr E (i + 1))]) (b := 0) (st := []) dL_349 rfl okX0_cut (Or.inl q292) q293 (s_0 hL) rfl q294 npX0_cut hop (Nat.le_of_ble_eq_true rfl) (Nat.le_refl _) (Nat.le_of_ble_eq_true rfl) (RVI_ret (fun y σ1 gy s1 e1 => ?_)) RVI_thr
  refine v_aload_n 1 dL_352 rfl rfl ?_
  refine v_sload_n 3 dL_353 rfl rfl ?_
  refine v_iload_n 0 dL_354 rfl rfl ?_
  refine v_iconst dL_355 ?_
  refine v_iadd dL_356 ?_
  refine v_ialdP (k := i + 1) dL_357 (by omega) (by omega) (fun iq357 => ?_)
  refine v_invV (ci := 9) (as := [aI (scr E (i + 1))]) (b := 555) (st := [aI y]) dL_358 rfl okX9_cut (Or.inl q2727) q2728 (s_555 (hL.sf s1)) rfl q2729 npX9_cut (e1 s1) (Nat.le_of_ble_eq_true rfl) (Nat.le_refl _) (Nat.le_of_ble_eq_true rfl) (RVI_ret (fun z σ2 gz s2 e2 => ?_)) RVI_thr
  refine v_icmp_eq (tg := 1951) dL_361 rfl gy gz (fun _ => ?_) (fun q => absurd (e2 s2).1.symm q)
  exact h σ2 (e2 s2).2
theorem lc_2 {E : XE} {d : Nat} {σ : Sto} {i : Int} {K : Sto → Prop} {Q : Res → Sto → Prop} (h0 : 0 ≤ i) (h1 : i + 8 ≤ (E.sa 1001 : Int)) (hL : Lay σ) (hop : OPI E d mX0_analyser mX9_analyser [aI (scr E (i + 1)), aI (scr E (i + 2)), aI (scr E (i + 3))] σ K) (h : ∀ σ2, K σ2 → VV E mLaw (d + 1) 1951 [(3, aI i), (2, aO 555), (1, aO 0), (0, aS 1000)] [] σ2 Q) : VV E mLaw (d + 1) 366 [(3, aI i), (2, aO 555), (1, aO 0), (0, aS 1000)] [] σ Q := by
  refine v_aload_n 2 dL_366 rfl rfl ?_
  refine v_sload_n 3 dL_367 rfl rfl ?_
  refine v_iload_n 0 dL_368 rfl rfl ?_
  refine v_iconst dL_369 ?_
  refine v_iadd dL_370 ?_
  refine v_ialdP (k := i + 1) dL_371 (by omega) (by omega) (fun iq371 => ?_)
  refine v_sload_n 3 dL_372 rfl rfl ?_
  refine v_iload_n 0 dL_373 rfl rfl ?_
  refine v_iconst dL_374 ?_
  refine v_iadd dL_375 ?_
  refine v_ialdP (k := i + 2) dL_376 (by omega) (by omega) (fun iq376 => ?_)
  refine v_sload_n 3 dL_377 rfl rfl ?_
  refine v_iload_n 0 dL_378 rfl rfl ?_
  refine v_iconst dL_379 ?_
  refine v_iadd dL_380 ?_
  refine v_ialdP (k := i + 3) dL_381 (by omega) (by omega) (fun iq381 => ?_)
  refine v_invV (ci := 0) (as := [aI (scr E (i + 1)), aI (scr E (i + 2)), aI (scr E (i + 3))]) (b := 0) (st := []) dL_382 rfl okX0_analyser (Or.inl q296) q297 (s_0 hL) rfl q298 npX0_analyser hop (Nat.le_of_ble_eq_true rfl) (Nat.le_refl _) (Nat.le_of_ble_eq_true rfl) (RVI_ret (fun y σ1 gy s1 e1 => ?_)) RVI_thr
  refine v_aload_n 1 dL_385 rfl rfl ?_
  refine v_sload_n 3 dL_386 rfl rfl ?_
  refine v_iload_n 0 dL_387 rfl rfl ?_
  refine v_iconst dL_388 ?_
  refine v_iadd dL_389 ?_
  refine v_ialdP (k := i + 1) dL_390 (by omega) (by omega) (fun iq390 => ?_)
  refine v_sload_n 3 dL_391 rfl rfl ?_
  refine v_iload_n 0 dL_392 rfl rfl ?_
  refine v_iconst dL_393 ?_
  refine v_iadd dL_394 ?_
  refine v_ialdP (k := i + 2) dL_395 (by omega) (by omega) (fun iq395 => ?_)
  refine v_sload_n 3 dL_396 rfl rfl ?_
  refine v_iload_n 0 dL_397 rfl rfl ?_
  refine v_iconst dL_398 ?_
  refine v_iadd dL_399 ?_
  refine v_ialdP (k := i + 3) dL_400 (by omega) (by omega) (fun iq400 => ?_)
  refine v_invV (ci := 9) (as := [aI (scr E (i + 1)), aI (scr E (i + 2)), aI (scr E (i + 3))]) (b := 555) (st := [aI y]) dL_401 rfl okX9_analyser (Or.inl q2731) q2732 (s_555 (hL.sf s1)) rfl q2733 npX9_analyser (e1 s1) (Nat.le_of_ble_eq_true rfl) (Nat.le_refl _) (Nat.le_of_ble_eq_true rfl) (RVI_ret (fun z σ2 gz s2 e2 => ?_)) RVI_thr
  refine v_icmp_eq (tg := 1951) dL_404 rfl gy gz (fun _ => ?_) (fun q => absurd (e2 s2).1.symm q)
  exact h σ2 (e2 s2).2
theorem lc_3 {E : XE} {d : Nat} {σ : Sto} {i : Int} {K : Sto → Prop} {Q : Res → Sto → Prop} (h0 : 0 ≤ i) (h1 : i + 8 ≤ (E.sa 1001 : Int)) (hL : Lay σ) (hop : OPI E d mX0_stop mX9_stop [aI (scr E (i + 1))] σ K) (h : ∀ σ2, K σ2 → VV E mLaw (d + 1) 1951 [(3, aI i), (2, aO 555), (1, aO 0), (0, aS 1000)] [] σ2 Q) : VV E mLaw (d + 1) 409 [(3, aI i), (2, aO 555), (1, aO 0), (0, aS 1000)] [] σ Q := by
  refine v_aload_n 2 dL_409 rfl rfl ?_
  refine v_sload_n 3 dL_410 rfl rfl ?_
  refine v_iload_n 0 dL_411 rfl rfl ?_
  refine v_iconst dL_412 ?_
  refine v_iadd dL_413 ?_
  refine v_ialdP (k := i + 1) dL_414 (by omega) (by omega) (fun iq414 => ?_)
  refine v_invV (ci := 0) (as := [aI (scr E (i + 1))]) (b := 0) (st := []) dL_415 rfl okX0_stop (Or.inl q369) q370 (s_0 hL) rfl q371 npX0_stop hop (Nat.le_of_ble_eq_true rfl) (Nat.le_refl _) (Nat.le_of_ble_eq_true rfl) (RVI_ret (fun y σ1 gy s1 e1 => ?_)) RVI_thr
  refine v_aload_n 1 dL_418 rfl rfl ?_
  refine v_sload_n 3 dL_419 rfl rfl ?_
  refine v_iload_n 0 dL_420 rfl rfl ?_
  refine v_iconst dL_421 ?_
  refine v_iadd dL_422 ?_
  refine v_ialdP (k := i + 1) dL_423 (by omega) (by omega) (fun iq423 => ?_)
  refine v_invV (ci := 9) (as := [aI (scr E (i + 1))]) (b := 555) (st := [aI y]) dL_424 rfl okX9_stop (Or.inl q2735) q2736 (s_555 (hL.sf s1)) rfl q2737 npX9_stop (e1 s1) (Nat.le_of_ble_eq_true rfl) (Nat.le_refl _) (Nat.le_of_ble_eq_true rfl) (RVI_ret (fun z σ2 gz s2 e2 => ?_)) RVI_thr
  refine v_icmp_eq (tg := 1951) dL_427 rfl gy gz (fun _ => ?_) (fun q => absurd (e2 s2).1.symm q)
  exact h σ2 (e2 s2).2
theorem lc_4 {E : XE} {d : Nat} {σ : Sto} {i : Int} {K : Sto → Prop} {Q : Res → Sto → Prop} (h0 : 0 ≤ i) (h1 : i + 8 ≤ (E.sa 1001 : Int)) (hL : Lay σ) (hop : OPI E d mX0_synonym mX9_synonym [aI (scr E (i + 1))] σ K) (h : ∀ σ2, K σ2 → VV E mLaw (d + 1) 1951 [(3, aI i), (2, aO 555), (1, aO 0), (0, aS 1000)] [] σ2 Q) : VV E mLaw (d + 1) 432 [(3, aI i), (2, aO 555), (1, aO 0), (0, aS 1000)] [] σ Q := by
  refine v_aload_n 2 dL_432 rfl rfl ?_
  refine v_sload_n 3 dL_433 rfl rfl ?_
  refine v_iload_n 0 dL_434 rfl rfl ?_
  refine v_iconst dL_435 ?_
  refine v_iadd dL_436 ?_
  refine v_ialdP (k := i + 1) dL_437 (by omega) (by omega) (fun iq437 => ?_)
  refine v_invV (ci := 0) (as := [aI (scr E (i + 1))]) (b := 0) (st := []) dL_438 rfl okX0_synonym (Or.inl q407) q408 (s_0 hL) rfl q409 npX0_synonym hop (Nat.le_of_ble_eq_true rfl) (Nat.le_refl _) (Nat.le_of_ble_eq_true rfl) (RVI_ret (fun y σ1 gy s1 e1 => ?_)) RVI_thr
  refine v_aload_n 1 dL_441 rfl rfl ?_
  refine v_sload_n 3 dL_442 rfl rfl ?_
  refine v_iload_n 0 dL_443 rfl rfl ?_
  refine v_iconst dL_444 ?_
  refine v_iadd dL_445 ?_
  refine v_ialdP (k := i + 1) dL_446 (by omega) (by omega) (fun iq446 => ?_)
  refine v_invV (ci := 9) (as := [aI (scr E (i + 1))]) (b := 555) (st := [aI y]) dL_447 rfl okX9_synonym (Or.inl q2768) q2769 (s_555 (hL.sf s1)) rfl q2770 npX9_synonym (e1 s1) (Nat.le_of_ble_eq_true rfl) (Nat.le_refl _) (Nat.le_of_ble_eq_true rfl) (RVI_ret (fun z σ2 gz s2 e2 => ?_)) RVI_thr
  refine v_icmp_eq (tg := 1951) dL_450 rfl gy gz (fun _ => ?_) (fun q => absurd (e2 s2).1.symm q)
  exact h σ2 (e2 s2).2
theorem lc_5 {E : XE} {d : Nat} {σ : Sto} {i : Int} {K : Sto → Prop} {Q : Res → Sto → Prop} (h0 : 0 ≤ i) (h1 : i + 8 ≤ (E.sa 1001 : Int)) (hL : Lay σ) (hop : OPI E d mX0_analyse mX9_analyse [aI (scr E (i + 1))] σ K) (h : ∀ σ2, K σ2 → VV E mLaw (d + 1) 1951 [(3, aI i), (2, aO 555), (1, aO 0), (0, aS 1000)] [] σ2 Q) : VV E mLaw (d + 1) 455 [(3, aI i), (2, aO 555), (1, aO 0), (0, aS 1000)] [] σ Q := by
  refine v_aload_n 2 dL_455 rfl rfl ?_
  refine v_sload_n 3 dL_456 rfl rfl ?_
  refine v_iload_n 0 dL_457 rfl rfl ?_
  refine v_iconst dL_458 ?_
  refine v_iadd dL_459 ?_
  refine v_ialdP (k := i + 1) dL_460 (by omega) (by omega) (fun iq460 => ?_)
  refine v_invV (ci := 0) (as := [aI (scr E (i + 1))]) (b := 0) (st := []) dL_461 rfl okX0_analyse (Or.inl q411) q412 (s_0 hL) rfl q413 npX0_analyse hop (Nat.le_of_ble_eq_true rfl) (Nat.le_refl _) (Nat.le_of_ble_eq_true rfl) (RVI_ret (fun y σ1 gy s1 e1 => ?_)) RVI_thr
  refine v_aload_n 1 dL_464 rfl rfl ?_
  refine v_sload_n 3 dL_465 rfl rfl ?_
  refine v_iload_n 0 dL_466 rfl rfl ?_
  refine v_iconst dL_467 ?_
  refine v_iadd dL_468 ?_
  refine v_ialdP (k := i + 1) dL_469 (by omega) (by omega) (fun iq469 => ?_)
  refine v_invV (ci := 9) (as := [aI (scr E (i + 1))]) (b := 555) (st := [aI y]) dL_470 rfl okX9_analyse (Or.inl q2775) q2776 (s_555 (hL.sf s1)) rfl q2777 npX9_analyse (e1 s1) (Nat.le_of_ble_eq_true rfl) (Nat.le_refl _) (Nat.le_of_ble_eq_true rfl) (RVI_ret (fun z σ2 gz s2 e2 => ?_)) RVI_thr
  refine v_icmp_eq (tg := 1951) dL_473 rfl gy gz (fun _ => ?_) (fun q => absurd (e2 s2).1.symm q)
  exact h σ2 (e2 s2).2
theorem lc_6 {E : XE} {d : Nat} {σ : Sto} {i : Int} {K : Sto → Prop} {Q : Res → Sto → Prop} (h0 : 0 ≤ i) (h1 : i + 8 ≤ (E.sa 1001 : Int)) (hL : Lay σ) (hop : OPI E d mX0_token mX9_token [aI (scr E (i + 1)), aI (scr E (i + 2))] σ K) (h : ∀ σ2, K σ2 → VV E mLaw (d + 1) 1951 [(3, aI i), (2, aO 555), (1, aO 0), (0, aS 1000)] [] σ2 Q) : VV E mLaw (d + 1) 478 [(3, aI i), (2, aO 555), (1, aO 0), (0, aS 1000)] [] σ Q := by
  refine v_aload_n 2 dL_478 rfl rfl ?_
  refine v_sload_n 3 dL_479 rfl rfl ?_
  refine v_iload_n 0 dL_480 rfl rfl ?_
  refine v_iconst dL_481 ?_
  refine v_iadd dL_482 ?_
  refine v_ialdP (k := i + 1) dL_483 (by omega) (by omega) (fun iq483 => ?_)
  refine v_sload_n 3 dL_484 rfl rfl ?_
  refine v_iload_n 0 dL_485 rfl rfl ?_
  refine v_iconst dL_486 ?_
  refine v_iadd dL_487 ?_
  refine v_ialdP (k := i + 2) dL_488 (by omega) (by omega) (fun iq488 => ?_)
  refine v_invV (ci := 0) (as := [aI (scr E (i + 1)), aI (scr E (i + 2))]) (b := 0) (st := []) dL_489 rfl okX0_token (Or.inl q604) q605 (s_0 hL) rfl q606 npX0_token hop (Nat.le_of_ble_eq_true rfl) (Nat.le_refl _) (Nat.le_of_ble_eq_true rfl) (RVI_ret (fun y σ1 gy s1 e1 => ?_)) RVI_thr
  refine v_aload_n 1 dL_492 rfl rfl ?_
  refine v_sload_n 3 dL_493 rfl rfl ?_
  refine v_iload_n 0 dL_494 rfl rfl ?_
  refine v_iconst dL_495 ?_
  refine v_iadd dL_496 ?_
  refine v_ialdP (k := i + 1) dL_497 (by omega) (by omega) (fun iq497 => ?_)
  refine v_sload_n 3 dL_498 rfl rfl ?_
  refine v_iload_n 0 dL_499 rfl rfl ?_
  refine v_iconst dL_500 ?_
  refine v_iadd dL_501 ?_
  refine v_ialdP (k := i + 2) dL_502 (by omega) (by omega) (fun iq502 => ?_)
  refine v_invV (ci := 9) (as := [aI (scr E (i + 1)), aI (scr E (i + 2))]) (b := 555) (st := [aI y]) dL_503 rfl okX9_token (Or.inl q2871) q2872 (s_555 (hL.sf s1)) rfl q2873 npX9_token (e1 s1) (Nat.le_of_ble_eq_true rfl) (Nat.le_refl _) (Nat.le_of_ble_eq_true rfl) (RVI_ret (fun z σ2 gz s2 e2 => ?_)) RVI_thr
  refine v_icmp_eq (tg := 1951) dL_506 rfl gy gz (fun _ => ?_) (fun q => absurd (e2 s2).1.symm q)
  exact h σ2 (e2 s2).2
theorem lc_7 {E : XE} {d : Nat} {σ : Sto} {i : Int} {K : Sto → Prop} {Q : Res → Sto → Prop} (h0 : 0 ≤ i) (h1 : i + 8 ≤ (E.sa 1001 : Int)) (hL : Lay σ) (hop : OPI E d mX0_letter mX9_letter [aI (scr E (i + 1)), aI (scr E (i + 2))] σ K) (h : ∀ σ2, K σ2 → VV E mLaw (d + 1) 1951 [(3, aI i), (2, aO 555), (1, aO 0), (0, aS 1000)] [] σ2 Q) : VV E mLaw (d + 1) 511 [(3, aI i), (2, aO 555), (1, aO 0), (0, aS 1000)] [] σ Q := by
  refine v_aload_n 2 dL_511 rfl rfl ?_
  refine v_sload_n 3 dL_512 rfl rfl ?_
  refine v_iload_n 0 dL_513 rfl rfl ?_
  refine v_iconst dL_514 ?_
  refine v_iadd dL_515 ?_
  refine v_ialdP (k := i + 1) dL_516 (by omega) (by omega) (fun iq516 => ?_)
  refine v_sload_n 3 dL_517 rfl rfl ?_
  refine v_iload_n 0 dL_518 rfl rfl ?_
  refine v_iconst dL_519 ?_
  refine v_iadd dL_520 ?_
  refine v_ialdP (k := i + 2) dL_521 (by omega) (by omega) (fun iq521 => ?_)
  refine v_invV (ci := 0) (as := [aI (scr E (i + 1)), aI (scr E (i + 2))]) (b := 0) (st := []) dL_522 rfl okX0_letter (Or.inl q608) q609 (s_0 hL) rfl q610 npX0_letter hop (Nat.le_of_ble_eq_true rfl) (Nat.le_refl _) (Nat.le_of_ble_eq_true rfl) (RVI_ret (fun y σ1 gy s1 e1 => ?_)) RVI_thr
  refine v_aload_n 1 dL_525 rfl rfl ?_
  refine v_sload_n 3 dL_526 rfl rfl ?_
  refine v_iload_n 0 dL_527 rfl rfl ?_
  refine v_iconst dL_528 ?_
  refine v_iadd dL_529 ?_
  refine v_ialdP (k := i + 1) dL_530 (by omega) (by omega) (fun iq530 => ?_)
  refine v_sload_n 3 dL_531 rfl rfl ?_
  refine v_iload_n 0 dL_532 rfl rfl ?_
  refine v_iconst dL_533 ?_
  refine v_iadd dL_534 ?_
  refine v_ialdP (k := i + 2) dL_535 (by omega) (by omega) (fun iq535 => ?_)
  refine v_invV (ci := 9) (as := [aI (scr E (i + 1)), aI (scr E (i + 2))]) (b := 555) (st := [aI y]) dL_536 rfl okX9_letter (Or.inl q2875) q2876 (s_555 (hL.sf s1)) rfl q2877 npX9_letter (e1 s1) (Nat.le_of_ble_eq_true rfl) (Nat.le_refl _) (Nat.le_of_ble_eq_true rfl) (RVI_ret (fun z σ2 gz s2 e2 => ?_)) RVI_thr
  refine v_icmp_eq (tg := 1951) dL_539 rfl gy gz (fun _ => ?_) (fun q => absurd (e2 s2).1.symm q)
  exact h σ2 (e2 s2).2
theorem lc_8 {E : XE} {d : Nat} {σ : Sto} {i : Int} {K : Sto → Prop} {Q : Res → Sto → Prop} (h0 : 0 ≤ i) (h1 : i + 8 ≤ (E.sa 1001 : Int)) (hL : Lay σ) (hop : OPI E d mX0_field mX9_field [aI (scr E (i + 1)), aI (scr E (i + 2))] σ K) (h : ∀ σ2, K σ2 → VV E mLaw (d + 1) 1951 [(3, aI i), (2, aO 555), (1, aO 0), (0, aS 1000)] [] σ2 Q) : VV E mLaw (d + 1) 544 [(3, aI i), (2, aO 555), (1, aO 0), (0, aS 1000)] [] σ Q := by
  refine v_aload_n 2 dL_544 rfl rfl ?_
  refine v_sload_n 3 dL_545 rfl rfl ?_
  refine v_iload_n 0 dL_546 rfl rfl ?_
  refine v_iconst dL_547 ?_
  refine v_iadd dL_548 ?_
  refine v_ialdP (k := i + 1) dL_549 (by omega) (by omega) (fun iq549 => ?_)
  refine v_sload_n 3 dL_550 rfl rfl ?_
  refine v_iload_n 0 dL_551 rfl rfl ?_
  refine v_iconst dL_552 ?_
  refine v_iadd dL_553 ?_
  refine v_ialdP (k := i + 2) dL_554 (by omega) (by omega) (fun iq554 => ?_)
  refine v_invV (ci := 0) (as := [aI (scr E (i + 1)), aI (scr E (i + 2))]) (b := 0) (st := []) dL_555 rfl okX0_field (Or.inl q612) q613 (s_0 hL) rfl q614 npX0_field hop (Nat.le_of_ble_eq_true rfl) (Nat.le_refl _) (Nat.le_of_ble_eq_true rfl) (RVI_ret (fun y σ1 gy s1 e1 => ?_)) RVI_thr
  refine v_aload_n 1 dL_558 rfl rfl ?_
  refine v_sload_n 3 dL_559 rfl rfl ?_
  refine v_iload_n 0 dL_560 rfl rfl ?_
  refine v_iconst dL_561 ?_
  refine v_iadd dL_562 ?_
  refine v_ialdP (k := i + 1) dL_563 (by omega) (by omega) (fun iq563 => ?_)
  refine v_sload_n 3 dL_564 rfl rfl ?_
  refine v_iload_n 0 dL_565 rfl rfl ?_
  refine v_iconst dL_566 ?_
  refine v_iadd dL_567 ?_
  refine v_ialdP (k := i + 2) dL_568 (by omega) (by omega) (fun iq568 => ?_)
  refine v_invV (ci := 9) (as := [aI (scr E (i + 1)), aI (scr E (i + 2))]) (b := 555) (st := [aI y]) dL_569 rfl okX9_field (Or.inl q2879) q2880 (s_555 (hL.sf s1)) rfl q2881 npX9_field (e1 s1) (Nat.le_of_ble_eq_true rfl) (Nat.le_refl _) (Nat.le_of_ble_eq_true rfl) (RVI_ret (fun z σ2 gz s2 e2 => ?_)) RVI_thr
  refine v_icmp_eq (tg := 1951) dL_572 rfl gy gz (fun _ => ?_) (fun q => absurd (e2 s2).1.symm q)
  exact h σ2 (e2 s2).2
theorem lc_9 {E : XE} {d : Nat} {σ : Sto} {i : Int} {K : Sto → Prop} {Q : Res → Sto → Prop} (h0 : 0 ≤ i) (h1 : i + 8 ≤ (E.sa 1001 : Int)) (hL : Lay σ) (hop : OPI E d mX0_text mX9_text [aI (scr E (i + 1))] σ K) (h : ∀ σ2, K σ2 → VV E mLaw (d + 1) 1951 [(3, aI i), (2, aO 555), (1, aO 0), (0, aS 1000)] [] σ2 Q) : VV E mLaw (d + 1) 577 [(3, aI i), (2, aO 555), (1, aO 0), (0, aS 1000)] [] σ Q := by
  refine v_aload_n 2 dL_577 rfl rfl ?_
  refine v_sload_n 3 dL_578 rfl rfl ?_
  refine v_iload_n 0 dL_579 rfl rfl ?_
  refine v_iconst dL_580 ?_
  refine v_iadd dL_581 ?_
  refine v_ialdP (k := i + 1) dL_582 (by omega) (by omega) (fun iq582 => ?_)
  refine v_invV (ci := 0) (as := [aI (scr E (i + 1))]) (b := 0) (st := []) dL_583 rfl okX0_text (Or.inl q1359) q1360 (s_0 hL) rfl q1361 npX0_text hop (Nat.le_of_ble_eq_true rfl) (Nat.le_refl _) (Nat.le_of_ble_eq_true rfl) (RVI_ret (fun y σ1 gy s1 e1 => ?_)) RVI_thr
  refine v_aload_n 1 dL_586 rfl rfl ?_
  refine v_sload_n 3 dL_587 rfl rfl ?_
  refine v_iload_n 0 dL_588 rfl rfl ?_
  refine v_iconst dL_589 ?_
  refine v_iadd dL_590 ?_
  refine v_ialdP (k := i + 1) dL_591 (by omega) (by omega) (fun iq591 => ?_)
  refine v_invV (ci := 9) (as := [aI (scr E (i + 1))]) (b := 555) (st := [aI y]) dL_592 rfl okX9_text (Or.inl q2883) q2884 (s_555 (hL.sf s1)) rfl q2885 npX9_text (e1 s1) (Nat.le_of_ble_eq_true rfl) (Nat.le_refl _) (Nat.le_of_ble_eq_true rfl) (RVI_ret (fun z σ2 gz s2 e2 => ?_)) RVI_thr
  refine v_icmp_eq (tg := 1951) dL_595 rfl gy gz (fun _ => ?_) (fun q => absurd (e2 s2).1.symm q)
  exact h σ2 (e2 s2).2
theorem lc_10 {E : XE} {d : Nat} {σ : Sto} {i : Int} {K : Sto → Prop} {Q : Res → Sto → Prop} (h0 : 0 ≤ i) (h1 : i + 8 ≤ (E.sa 1001 : Int)) (hL : Lay σ) (hop : OPI E d mX0_number mX9_number [aI (scr E (i + 1)), aL (b64or (b64shl (scr E (i + 2)) 32) (b64and (scr E (i + 3)) 4294967295))] σ K) (h : ∀ σ2, K σ2 → VV E mLaw (d + 1) 1951 [(3, aI i), (2, aO 555), (1, aO 0), (0, aS 1000)] [] σ2 Q) : VV E mLaw (d + 1) 600 [(3, aI i), (2, aO 555), (1, aO 0), (0, aS 1000)] [] σ Q := by
  refine v_aload_n 2 dL_600 rfl rfl ?_
  refine v_sload_n 3 dL_601 rfl rfl ?_
  refine v_iload_n 0 dL_602 rfl rfl ?_
  refine v_iconst dL_603 ?_
  refine v_iadd dL_604 ?_
  refine v_ialdP (k := i + 1) dL_605 (by omega) (by omega) (fun iq605 => ?_)
  refine v_sload_n 3 dL_606 rfl rfl ?_
  refine v_iload_n 0 dL_607 rfl rfl ?_
  refine v_iconst dL_608 ?_
  refine v_iadd dL_609 ?_
  refine v_ialdP (k := i + 2) dL_610 (by omega) (by omega) (fun iq610 => ?_)
  refine v_i2l dL_611 iq610 ?_
  refine v_bipush dL_612 (by decide) ?_
  refine v_lshl dL_614 ?_
  refine v_sload_n 3 dL_615 rfl rfl ?_
  refine v_iload_n 0 dL_616 rfl rfl ?_
  refine v_iconst dL_617 ?_
  refine v_iadd dL_618 ?_
  refine v_ialdP (k := i + 3) dL_619 (by omega) (by omega) (fun iq619 => ?_)
  refine v_i2l dL_620 iq619 ?_
  refine v_ldc2 (x := 4294967295) dL_621 q3654 rfl ?_
  refine v_land dL_624 ?_
  refine v_lor dL_625 ?_
  refine v_invV (ci := 0) (as := [aI (scr E (i + 1)), aL (b64or (b64shl (scr E (i + 2)) 32) (b64and (scr E (i + 3)) 4294967295))]) (b := 0) (st := []) dL_626 rfl okX0_number (Or.inl q1402) q1403 (s_0 hL) rfl q1404 npX0_number hop (Nat.le_of_ble_eq_true rfl) (Nat.le_refl _) (Nat.le_of_ble_eq_true rfl) (RVI_ret (fun y σ1 gy s1 e1 => ?_)) RVI_thr
  refine v_aload_n 1 dL_629 rfl rfl ?_
  refine v_sload_n 3 dL_630 rfl rfl ?_
  refine v_iload_n 0 dL_631 rfl rfl ?_
  refine v_iconst dL_632 ?_
  refine v_iadd dL_633 ?_
  refine v_ialdP (k := i + 1) dL_634 (by omega) (by omega) (fun iq634 => ?_)
  refine v_sload_n 3 dL_635 rfl rfl ?_
  refine v_iload_n 0 dL_636 rfl rfl ?_
  refine v_iconst dL_637 ?_
  refine v_iadd dL_638 ?_
  refine v_ialdP (k := i + 2) dL_639 (by omega) (by omega) (fun iq639 => ?_)
  refine v_i2l dL_640 iq639 ?_
  refine v_bipush dL_641 (by decide) ?_
  refine v_lshl dL_643 ?_
  refine v_sload_n 3 dL_644 rfl rfl ?_
  refine v_iload_n 0 dL_645 rfl rfl ?_
  refine v_iconst dL_646 ?_
  refine v_iadd dL_647 ?_
  refine v_ialdP (k := i + 3) dL_648 (by omega) (by omega) (fun iq648 => ?_)
  refine v_i2l dL_649 iq648 ?_
  refine v_ldc2 (x := 4294967295) dL_650 q3654 rfl ?_
  refine v_land dL_653 ?_
  refine v_lor dL_654 ?_
  refine v_invV (ci := 9) (as := [aI (scr E (i + 1)), aL (b64or (b64shl (scr E (i + 2)) 32) (b64and (scr E (i + 3)) 4294967295))]) (b := 555) (st := [aI y]) dL_655 rfl okX9_number (Or.inl q2915) q2916 (s_555 (hL.sf s1)) rfl q2917 npX9_number (e1 s1) (Nat.le_of_ble_eq_true rfl) (Nat.le_refl _) (Nat.le_of_ble_eq_true rfl) (RVI_ret (fun z σ2 gz s2 e2 => ?_)) RVI_thr
  refine v_icmp_eq (tg := 1951) dL_658 rfl gy gz (fun _ => ?_) (fun q => absurd (e2 s2).1.symm q)
  exact h σ2 (e2 s2).2
theorem lc_11 {E : XE} {d : Nat} {σ : Sto} {i : Int} {K : Sto → Prop} {Q : Res → Sto → Prop} (h0 : 0 ≤ i) (h1 : i + 8 ≤ (E.sa 1001 : Int)) (hL : Lay σ) (hop : OPI E d mX0_place mX9_place [aI (scr E (i + 1)), aI (scr E (i + 2)), aI (scr E (i + 3))] σ K) (h : ∀ σ2, K σ2 → VV E mLaw (d + 1) 1951 [(3, aI i), (2, aO 555), (1, aO 0), (0, aS 1000)] [] σ2 Q) : VV E mLaw (d + 1) 663 [(3, aI i), (2, aO 555), (1, aO 0), (0, aS 1000)] [] σ Q := by
  refine v_aload_n 2 dL_663 rfl rfl ?_
  refine v_sload_n 3 dL_664 rfl rfl ?_
  refine v_iload_n 0 dL_665 rfl rfl ?_
  refine v_iconst dL_666 ?_
  refine v_iadd dL_667 ?_
  refine v_ialdP (k := i + 1) dL_668 (by omega) (by omega) (fun iq668 => ?_)
  refine v_sload_n 3 dL_669 rfl rfl ?_
  refine v_iload_n 0 dL_670 rfl rfl ?_
  refine v_iconst dL_671 ?_
  refine v_iadd dL_672 ?_
  refine v_ialdP (k := i + 2) dL_673 (by omega) (by omega) (fun iq673 => ?_)
  refine v_sload_n 3 dL_674 rfl rfl ?_
  refine v_iload_n 0 dL_675 rfl rfl ?_
  refine v_iconst dL_676 ?_
  refine v_iadd dL_677 ?_
  refine v_ialdP (k := i + 3) dL_678 (by omega) (by omega) (fun iq678 => ?_)
  refine v_invV (ci := 0) (as := [aI (scr E (i + 1)), aI (scr E (i + 2)), aI (scr E (i + 3))]) (b := 0) (st := []) dL_679 rfl okX0_place (Or.inl q1410) q1411 (s_0 hL) rfl q1412 npX0_place hop (Nat.le_of_ble_eq_true rfl) (Nat.le_refl _) (Nat.le_of_ble_eq_true rfl) (RVI_ret (fun y σ1 gy s1 e1 => ?_)) RVI_thr
  refine v_aload_n 1 dL_682 rfl rfl ?_
  refine v_sload_n 3 dL_683 rfl rfl ?_
  refine v_iload_n 0 dL_684 rfl rfl ?_
  refine v_iconst dL_685 ?_
  refine v_iadd dL_686 ?_
  refine v_ialdP (k := i + 1) dL_687 (by omega) (by omega) (fun iq687 => ?_)
  refine v_sload_n 3 dL_688 rfl rfl ?_
  refine v_iload_n 0 dL_689 rfl rfl ?_
  refine v_iconst dL_690 ?_
  refine v_iadd dL_691 ?_
  refine v_ialdP (k := i + 2) dL_692 (by omega) (by omega) (fun iq692 => ?_)
  refine v_sload_n 3 dL_693 rfl rfl ?_
  refine v_iload_n 0 dL_694 rfl rfl ?_
  refine v_iconst dL_695 ?_
  refine v_iadd dL_696 ?_
  refine v_ialdP (k := i + 3) dL_697 (by omega) (by omega) (fun iq697 => ?_)
  refine v_invV (ci := 9) (as := [aI (scr E (i + 1)), aI (scr E (i + 2)), aI (scr E (i + 3))]) (b := 555) (st := [aI y]) dL_698 rfl okX9_place (Or.inl q2919) q2920 (s_555 (hL.sf s1)) rfl q2921 npX9_place (e1 s1) (Nat.le_of_ble_eq_true rfl) (Nat.le_refl _) (Nat.le_of_ble_eq_true rfl) (RVI_ret (fun z σ2 gz s2 e2 => ?_)) RVI_thr
  refine v_icmp_eq (tg := 1951) dL_701 rfl gy gz (fun _ => ?_) (fun q => absurd (e2 s2).1.symm q)
  exact h σ2 (e2 s2).2
theorem lc_12 {E : XE} {d : Nat} {σ : Sto} {i : Int} {K : Sto → Prop} {Q : Res → Sto → Prop} (h0 : 0 ≤ i) (h1 : i + 8 ≤ (E.sa 1001 : Int)) (hL : Lay σ) (hop : OPI E d mX0_row mX9_row [aI (scr E (i + 1)), aI (scr E (i + 2)), aI (scr E (i + 3)), aI (scr E (i + 4)), aI (scr E (i + 5))] σ K) (h : ∀ σ2, K σ2 → VV E mLaw (d + 1) 1951 [(3, aI i), (2, aO 555), (1, aO 0), (0, aS 1000)] [] σ2 Q) : VV E mLaw (d + 1) 706 [(3, aI i), (2, aO 555), (1, aO 0), (0, aS 1000)] [] σ Q := by
  refine v_aload_n 2 dL_706 rfl rfl ?_
  refine v_sload_n 3 dL_707 rfl rfl ?_
  refine v_iload_n 0 dL_708 rfl rfl ?_
  refine v_iconst dL_709 ?_
  refine v_iadd dL_710 ?_
  refine v_ialdP (k := i + 1) dL_711 (by omega) (by omega) (fun iq711 => ?_)
  refine v_sload_n 3 dL_712 rfl rfl ?_
  refine v_iload_n 0 dL_713 rfl rfl ?_
  refine v_iconst dL_714 ?_
  refine v_iadd dL_715 ?_
  refine v_ialdP (k := i + 2) dL_716 (by omega) (by omega) (fun iq716 => ?_)
  refine v_sload_n 3 dL_717 rfl rfl ?_
  refine v_iload_n 0 dL_718 rfl rfl ?_
  refine v_iconst dL_719 ?_
  refine v_iadd dL_720 ?_
  refine v_ialdP (k := i + 3) dL_721 (by omega) (by omega) (fun iq721 => ?_)
  refine v_sload_n 3 dL_722 rfl rfl ?_
  refine v_iload_n 0 dL_723 rfl rfl ?_
  refine v_iconst dL_724 ?_
  refine v_iadd dL_725 ?_
  refine v_ialdP (k := i + 4) dL_726 (by omega) (by omega) (fun iq726 => ?_)
  refine v_sload_n 3 dL_727 rfl rfl ?_
  refine v_iload_n 0 dL_728 rfl rfl ?_
  refine v_iconst dL_729 ?_
  refine v_iadd dL_730 ?_
  refine v_ialdP (k := i + 5) dL_731 (by omega) (by omega) (fun iq731 => ?_)
  refine v_invV (ci := 0) (as := [aI (scr E (i + 1)), aI (scr E (i + 2)), aI (scr E (i + 3)), aI (scr E (i + 4)), aI (scr E (i + 5))]) (b := 0) (st := []) dL_732 rfl okX0_row (Or.inl q1420) q1421 (s_0 hL) rfl q1422 npX0_row hop (Nat.le_of_ble_eq_true rfl) (Nat.le_refl _) (Nat.le_of_ble_eq_true rfl) (RVI_ret (fun y σ1 gy s1 e1 => ?_)) RVI_thr
  refine v_aload_n 1 dL_735 rfl rfl ?_
  refine v_sload_n 3 dL_736 rfl rfl ?_
  refine v_iload_n 0 dL_737 rfl rfl ?_
  refine v_iconst dL_738 ?_
  refine v_iadd dL_739 ?_
  refine v_ialdP (k := i + 1) dL_740 (by omega) (by omega) (fun iq740 => ?_)
  refine v_sload_n 3 dL_741 rfl rfl ?_
  refine v_iload_n 0 dL_742 rfl rfl ?_
  refine v_iconst dL_743 ?_
  refine v_iadd dL_744 ?_
  refine v_ialdP (k := i + 2) dL_745 (by omega) (by omega) (fun iq745 => ?_)
  refine v_sload_n 3 dL_746 rfl rfl ?_
  refine v_iload_n 0 dL_747 rfl rfl ?_
  refine v_iconst dL_748 ?_
  refine v_iadd dL_749 ?_
  refine v_ialdP (k := i + 3) dL_750 (by omega) (by omega) (fun iq750 => ?_)
  refine v_sload_n 3 dL_751 rfl rfl ?_
  refine v_iload_n 0 dL_752 rfl rfl ?_
  refine v_iconst dL_753 ?_
  refine v_iadd dL_754 ?_
  refine v_ialdP (k := i + 4) dL_755 (by omega) (by omega) (fun iq755 => ?_)
  refine v_sload_n 3 dL_756 rfl rfl ?_
  refine v_iload_n 0 dL_757 rfl rfl ?_
  refine v_iconst dL_758 ?_
  refine v_iadd dL_759 ?_
  refine v_ialdP (k := i + 5) dL_760 (by omega) (by omega) (fun iq760 => ?_)
  refine v_invV (ci := 9) (as := [aI (scr E (i + 1)), aI (scr E (i + 2)), aI (scr E (i + 3)), aI (scr E (i + 4)), aI (scr E (i + 5))]) (b := 555) (st := [aI y]) dL_761 rfl okX9_row (Or.inl q2931) q2932 (s_555 (hL.sf s1)) rfl q2933 npX9_row (e1 s1) (Nat.le_of_ble_eq_true rfl) (Nat.le_refl _) (Nat.le_of_ble_eq_true rfl) (RVI_ret (fun z σ2 gz s2 e2 => ?_)) RVI_thr
  refine v_icmp_eq (tg := 1951) dL_764 rfl gy gz (fun _ => ?_) (fun q => absurd (e2 s2).1.symm q)
  exact h σ2 (e2 s2).2
theorem lc_13 {E : XE} {d : Nat} {σ : Sto} {i : Int} {K : Sto → Prop} {Q : Res → Sto → Prop} (h0 : 0 ≤ i) (h1 : i + 8 ≤ (E.sa 1001 : Int)) (hL : Lay σ) (hop : OPI E d mX0_discard mX9_discard [] σ K) (h : ∀ σ2, K σ2 → VV E mLaw (d + 1) 1951 [(3, aI i), (2, aO 555), (1, aO 0), (0, aS 1000)] [] σ2 Q) : VV E mLaw (d + 1) 769 [(3, aI i), (2, aO 555), (1, aO 0), (0, aS 1000)] [] σ Q := by
  refine v_aload_n 2 dL_769 rfl rfl ?_
  refine v_invV (ci := 0) (as := []) (b := 0) (st := []) dL_770 rfl okX0_discard (Or.inl q1431) q1432 (s_0 hL) rfl q1433 npX0_discard hop (Nat.le_of_ble_eq_true rfl) (Nat.le_refl _) (Nat.le_of_ble_eq_true rfl) (RVI_ret (fun y σ1 gy s1 e1 => ?_)) RVI_thr
  refine v_aload_n 1 dL_773 rfl rfl ?_
  refine v_invV (ci := 9) (as := []) (b := 555) (st := [aI y]) dL_774 rfl okX9_discard (Or.inl q2938) q2939 (s_555 (hL.sf s1)) rfl q2940 npX9_discard (e1 s1) (Nat.le_of_ble_eq_true rfl) (Nat.le_refl _) (Nat.le_of_ble_eq_true rfl) (RVI_ret (fun z σ2 gz s2 e2 => ?_)) RVI_thr
  refine v_icmp_eq (tg := 1951) dL_777 rfl gy gz (fun _ => ?_) (fun q => absurd (e2 s2).1.symm q)
  exact h σ2 (e2 s2).2
theorem lc_14 {E : XE} {d : Nat} {σ : Sto} {i : Int} {K : Sto → Prop} {Q : Res → Sto → Prop} (h0 : 0 ≤ i) (h1 : i + 8 ≤ (E.sa 1001 : Int)) (hL : Lay σ) (hop : OPI E d mX0_add mX9_add [aI (scr E (i + 1))] σ K) (h : ∀ σ2, K σ2 → VV E mLaw (d + 1) 1951 [(3, aI i), (2, aO 555), (1, aO 0), (0, aS 1000)] [] σ2 Q) : VV E mLaw (d + 1) 782 [(3, aI i), (2, aO 555), (1, aO 0), (0, aS 1000)] [] σ Q := by
  refine v_aload_n 2 dL_782 rfl rfl ?_
  refine v_sload_n 3 dL_783 rfl rfl ?_
  refine v_iload_n 0 dL_784 rfl rfl ?_
  refine v_iconst dL_785 ?_
  refine v_iadd dL_786 ?_
  refine v_ialdP (k := i + 1) dL_787 (by omega) (by omega) (fun iq787 => ?_)
  refine v_invV (ci := 0) (as := [aI (scr E (i + 1))]) (b := 0) (st := []) dL_788 rfl okX0_add (Or.inl q1439) q1440 (s_0 hL) rfl q1441 npX0_add hop (Nat.le_of_ble_eq_true rfl) (Nat.le_refl _) (Nat.le_of_ble_eq_true rfl) (RVI_ret (fun y σ1 gy s1 e1 => ?_)) RVI_thr
  refine v_aload_n 1 dL_791 rfl rfl ?_
  refine v_sload_n 3 dL_792 rfl rfl ?_
  refine v_iload_n 0 dL_793 rfl rfl ?_
  refine v_iconst dL_794 ?_
  refine v_iadd dL_795 ?_
  refine v_ialdP (k := i + 1) dL_796 (by omega) (by omega) (fun iq796 => ?_)
  refine v_invV (ci := 9) (as := [aI (scr E (i + 1))]) (b := 555) (st := [aI y]) dL_797 rfl okX9_add (Or.inl q2946) q2947 (s_555 (hL.sf s1)) rfl q2948 npX9_add (e1 s1) (Nat.le_of_ble_eq_true rfl) (Nat.le_refl _) (Nat.le_of_ble_eq_true rfl) (RVI_ret (fun z σ2 gz s2 e2 => ?_)) RVI_thr
  refine v_icmp_eq (tg := 1951) dL_800 rfl gy gz (fun _ => ?_) (fun q => absurd (e2 s2).1.symm q)
  exact h σ2 (e2 s2).2
theorem lc_15 {E : XE} {d : Nat} {σ : Sto} {i : Int} {K : Sto → Prop} {Q : Res → Sto → Prop} (h0 : 0 ≤ i) (h1 : i + 8 ≤ (E.sa 1001 : Int)) (hL : Lay σ) (hop : OPI E d mX0_remove mX9_remove [aI (scr E (i + 1))] σ K) (h : ∀ σ2, K σ2 → VV E mLaw (d + 1) 1951 [(3, aI i), (2, aO 555), (1, aO 0), (0, aS 1000)] [] σ2 Q) : VV E mLaw (d + 1) 805 [(3, aI i), (2, aO 555), (1, aO 0), (0, aS 1000)] [] σ Q := by
  refine v_aload_n 2 dL_805 rfl rfl ?_
  refine v_sload_n 3 dL_806 rfl rfl ?_
  refine v_iload_n 0 dL_807 rfl rfl ?_
  refine v_iconst dL_808 ?_
  refine v_iadd dL_809 ?_
  refine v_ialdP (k := i + 1) dL_810 (by omega) (by omega) (fun iq810 => ?_)
  refine v_invV (ci := 0) (as := [aI (scr E (i + 1))]) (b := 0) (st := []) dL_811 rfl okX0_remove (Or.inl q1456) q1457 (s_0 hL) rfl q1458 npX0_remove hop (Nat.le_of_ble_eq_true rfl) (Nat.le_refl _) (Nat.le_of_ble_eq_true rfl) (RVI_ret (fun y σ1 gy s1 e1 => ?_)) RVI_thr
  refine v_aload_n 1 dL_814 rfl rfl ?_
  refine v_sload_n 3 dL_815 rfl rfl ?_
  refine v_iload_n 0 dL_816 rfl rfl ?_
  refine v_iconst dL_817 ?_
  refine v_iadd dL_818 ?_
  refine v_ialdP (k := i + 1) dL_819 (by omega) (by omega) (fun iq819 => ?_)
  refine v_invV (ci := 9) (as := [aI (scr E (i + 1))]) (b := 555) (st := [aI y]) dL_820 rfl okX9_remove (Or.inl q2963) q2964 (s_555 (hL.sf s1)) rfl q2965 npX9_remove (e1 s1) (Nat.le_of_ble_eq_true rfl) (Nat.le_refl _) (Nat.le_of_ble_eq_true rfl) (RVI_ret (fun z σ2 gz s2 e2 => ?_)) RVI_thr
  refine v_icmp_eq (tg := 1951) dL_823 rfl gy gz (fun _ => ?_) (fun q => absurd (e2 s2).1.symm q)
  exact h σ2 (e2 s2).2
theorem lc_16 {E : XE} {d : Nat} {σ : Sto} {i : Int} {K : Sto → Prop} {Q : Res → Sto → Prop} (h0 : 0 ≤ i) (h1 : i + 8 ≤ (E.sa 1001 : Int)) (hL : Lay σ) (hop : OPI E d mX0_refresh mX9_refresh [] σ K) (h : ∀ σ2, K σ2 → VV E mLaw (d + 1) 1951 [(3, aI i), (2, aO 555), (1, aO 0), (0, aS 1000)] [] σ2 Q) : VV E mLaw (d + 1) 828 [(3, aI i), (2, aO 555), (1, aO 0), (0, aS 1000)] [] σ Q := by
  refine v_aload_n 2 dL_828 rfl rfl ?_
  refine v_invV (ci := 0) (as := []) (b := 0) (st := []) dL_829 rfl okX0_refresh (Or.inl q1460) q1461 (s_0 hL) rfl q1462 npX0_refresh hop (Nat.le_of_ble_eq_true rfl) (Nat.le_refl _) (Nat.le_of_ble_eq_true rfl) (RVI_ret (fun y σ1 gy s1 e1 => ?_)) RVI_thr
  refine v_aload_n 1 dL_832 rfl rfl ?_
  refine v_invV (ci := 9) (as := []) (b := 555) (st := [aI y]) dL_833 rfl okX9_refresh (Or.inl q2971) q2972 (s_555 (hL.sf s1)) rfl q2973 npX9_refresh (e1 s1) (Nat.le_of_ble_eq_true rfl) (Nat.le_refl _) (Nat.le_of_ble_eq_true rfl) (RVI_ret (fun z σ2 gz s2 e2 => ?_)) RVI_thr
  refine v_icmp_eq (tg := 1951) dL_836 rfl gy gz (fun _ => ?_) (fun q => absurd (e2 s2).1.symm q)
  exact h σ2 (e2 s2).2
theorem lc_17 {E : XE} {d : Nat} {σ : Sto} {i : Int} {K : Sto → Prop} {Q : Res → Sto → Prop} (h0 : 0 ≤ i) (h1 : i + 8 ≤ (E.sa 1001 : Int)) (hL : Lay σ) (hop : OPI E d mX0_pin mX9_pin [] σ K) (h : ∀ σ2, K σ2 → VV E mLaw (d + 1) 1951 [(3, aI i), (2, aO 555), (1, aO 0), (0, aS 1000)] [] σ2 Q) : VV E mLaw (d + 1) 841 [(3, aI i), (2, aO 555), (1, aO 0), (0, aS 1000)] [] σ Q := by
  refine v_aload_n 2 dL_841 rfl rfl ?_
  refine v_invV (ci := 0) (as := []) (b := 0) (st := []) dL_842 rfl okX0_pin (Or.inl q1472) q1473 (s_0 hL) rfl q1474 npX0_pin hop (Nat.le_of_ble_eq_true rfl) (Nat.le_refl _) (Nat.le_of_ble_eq_true rfl) (RVI_ret (fun y σ1 gy s1 e1 => ?_)) RVI_thr
  refine v_aload_n 1 dL_845 rfl rfl ?_
  refine v_invV (ci := 9) (as := []) (b := 555) (st := [aI y]) dL_846 rfl okX9_pin (Or.inl q2983) q2984 (s_555 (hL.sf s1)) rfl q2985 npX9_pin (e1 s1) (Nat.le_of_ble_eq_true rfl) (Nat.le_refl _) (Nat.le_of_ble_eq_true rfl) (RVI_ret (fun z σ2 gz s2 e2 => ?_)) RVI_thr
  refine v_icmp_eq (tg := 1951) dL_849 rfl gy gz (fun _ => ?_) (fun q => absurd (e2 s2).1.symm q)
  exact h σ2 (e2 s2).2
theorem lc_18 {E : XE} {d : Nat} {σ : Sto} {i : Int} {K : Sto → Prop} {Q : Res → Sto → Prop} (h0 : 0 ≤ i) (h1 : i + 8 ≤ (E.sa 1001 : Int)) (hL : Lay σ) (hop : OPI E d mX0_unpin mX9_unpin [aI (scr E (i + 1))] σ K) (h : ∀ σ2, K σ2 → VV E mLaw (d + 1) 1951 [(3, aI i), (2, aO 555), (1, aO 0), (0, aS 1000)] [] σ2 Q) : VV E mLaw (d + 1) 854 [(3, aI i), (2, aO 555), (1, aO 0), (0, aS 1000)] [] σ Q := by
  refine v_aload_n 2 dL_854 rfl rfl ?_
  refine v_sload_n 3 dL_855 rfl rfl ?_
  refine v_iload_n 0 dL_856 rfl rfl ?_
  refine v_iconst dL_857 ?_
  refine v_iadd dL_858 ?_
  refine v_ialdP (k := i + 1) dL_859 (by omega) (by omega) (fun iq859 => ?_)
  refine v_invV (ci := 0) (as := [aI (scr E (i + 1))]) (b := 0) (st := []) dL_860 rfl okX0_unpin (Or.inl q1476) q1477 (s_0 hL) rfl q1478 npX0_unpin hop (Nat.le_of_ble_eq_true rfl) (Nat.le_refl _) (Nat.le_of_ble_eq_true rfl) (RVI_ret (fun y σ1 gy s1 e1 => ?_)) RVI_thr
  refine v_aload_n 1 dL_863 rfl rfl ?_
  refine v_sload_n 3 dL_864 rfl rfl ?_
  refine v_iload_n 0 dL_865 rfl rfl ?_
  refine v_iconst dL_866 ?_
  refine v_iadd dL_867 ?_
  refine v_ialdP (k := i + 1) dL_868 (by omega) (by omega) (fun iq868 => ?_)
  refine v_invV (ci := 9) (as := [aI (scr E (i + 1))]) (b := 555) (st := [aI y]) dL_869 rfl okX9_unpin (Or.inl q2987) q2988 (s_555 (hL.sf s1)) rfl q2989 npX9_unpin (e1 s1) (Nat.le_of_ble_eq_true rfl) (Nat.le_refl _) (Nat.le_of_ble_eq_true rfl) (RVI_ret (fun z σ2 gz s2 e2 => ?_)) RVI_thr
  refine v_icmp_eq (tg := 1951) dL_872 rfl gy gz (fun _ => ?_) (fun q => absurd (e2 s2).1.symm q)
  exact h σ2 (e2 s2).2
theorem lc_19 {E : XE} {d : Nat} {σ : Sto} {i : Int} {K : Sto → Prop} {Q : Res → Sto → Prop} (h0 : 0 ≤ i) (h1 : i + 8 ≤ (E.sa 1001 : Int)) (hL : Lay σ) (hop : OPI E d mX0_sweep mX9_sweep [] σ K) (h : ∀ σ2, K σ2 → VV E mLaw (d + 1) 1951 [(3, aI i), (2, aO 555), (1, aO 0), (0, aS 1000)] [] σ2 Q) : VV E mLaw (d + 1) 877 [(3, aI i), (2, aO 555), (1, aO 0), (0, aS 1000)] [] σ Q := by
  refine v_aload_n 2 dL_877 rfl rfl ?_
  refine v_invV (ci := 0) (as := []) (b := 0) (st := []) dL_878 rfl okX0_sweep (Or.inl q1484) q1485 (s_0 hL) rfl q1486 npX0_sweep hop (Nat.le_of_ble_eq_true rfl) (Nat.le_refl _) (Nat.le_of_ble_eq_true rfl) (RVI_ret (fun y σ1 gy s1 e1 => ?_)) RVI_thr
  refine v_aload_n 1 dL_881 rfl rfl ?_
  refine v_invV (ci := 9) (as := []) (b := 555) (st := [aI y]) dL_882 rfl okX9_sweep (Or.inl q2991) q2992 (s_555 (hL.sf s1)) rfl q2993 npX9_sweep (e1 s1) (Nat.le_of_ble_eq_true rfl) (Nat.le_refl _) (Nat.le_of_ble_eq_true rfl) (RVI_ret (fun z σ2 gz s2 e2 => ?_)) RVI_thr
  refine v_icmp_eq (tg := 1951) dL_885 rfl gy gz (fun _ => ?_) (fun q => absurd (e2 s2).1.symm q)
  exact h σ2 (e2 s2).2
theorem lc_20 {E : XE} {d : Nat} {σ : Sto} {i : Int} {K : Sto → Prop} {Q : Res → Sto → Prop} (h0 : 0 ≤ i) (h1 : i + 8 ≤ (E.sa 1001 : Int)) (hL : Lay σ) (hop : OPI E d mX0_commit mX9_commit [] σ K) (h : ∀ σ2, K σ2 → VV E mLaw (d + 1) 1951 [(3, aI i), (2, aO 555), (1, aO 0), (0, aS 1000)] [] σ2 Q) : VV E mLaw (d + 1) 890 [(3, aI i), (2, aO 555), (1, aO 0), (0, aS 1000)] [] σ Q := by
  refine v_aload_n 2 dL_890 rfl rfl ?_
  refine v_invV (ci := 0) (as := []) (b := 0) (st := []) dL_891 rfl okX0_commit (Or.inl q1480) q1481 (s_0 hL) rfl q1482 npX0_commit hop (Nat.le_of_ble_eq_true rfl) (Nat.le_refl _) (Nat.le_of_ble_eq_true rfl) (RVI_ret (fun y σ1 gy s1 e1 => ?_)) RVI_thr
  refine v_aload_n 1 dL_894 rfl rfl ?_
  refine v_invV (ci := 9) (as := []) (b := 555) (st := [aI y]) dL_895 rfl okX9_commit (Or.inl q3015) q3016 (s_555 (hL.sf s1)) rfl q3017 npX9_commit (e1 s1) (Nat.le_of_ble_eq_true rfl) (Nat.le_refl _) (Nat.le_of_ble_eq_true rfl) (RVI_ret (fun z σ2 gz s2 e2 => ?_)) RVI_thr
  refine v_icmp_eq (tg := 1951) dL_898 rfl gy gz (fun _ => ?_) (fun q => absurd (e2 s2).1.symm q)
  exact h σ2 (e2 s2).2
theorem lc_21 {E : XE} {d : Nat} {σ : Sto} {i : Int} {K : Sto → Prop} {Q : Res → Sto → Prop} (h0 : 0 ≤ i) (h1 : i + 8 ≤ (E.sa 1001 : Int)) (hL : Lay σ) (hop : OPI E d mX0_crash mX9_crash [] σ K) (h : ∀ σ2, K σ2 → VV E mLaw (d + 1) 1951 [(3, aI i), (2, aO 555), (1, aO 0), (0, aS 1000)] [] σ2 Q) : VV E mLaw (d + 1) 903 [(3, aI i), (2, aO 555), (1, aO 0), (0, aS 1000)] [] σ Q := by
  refine v_aload_n 2 dL_903 rfl rfl ?_
  refine v_invV (ci := 0) (as := []) (b := 0) (st := []) dL_904 rfl okX0_crash (Or.inl q1508) q1509 (s_0 hL) rfl q1510 npX0_crash hop (Nat.le_of_ble_eq_true rfl) (Nat.le_refl _) (Nat.le_of_ble_eq_true rfl) (RVI_ret (fun y σ1 gy s1 e1 => ?_)) RVI_thr
  refine v_aload_n 1 dL_907 rfl rfl ?_
  refine v_invV (ci := 9) (as := []) (b := 555) (st := [aI y]) dL_908 rfl okX9_crash (Or.inl q3019) q3020 (s_555 (hL.sf s1)) rfl q3021 npX9_crash (e1 s1) (Nat.le_of_ble_eq_true rfl) (Nat.le_refl _) (Nat.le_of_ble_eq_true rfl) (RVI_ret (fun z σ2 gz s2 e2 => ?_)) RVI_thr
  refine v_icmp_eq (tg := 1951) dL_911 rfl gy gz (fun _ => ?_) (fun q => absurd (e2 s2).1.symm q)
  exact h σ2 (e2 s2).2
theorem lc_22 {E : XE} {d : Nat} {σ : Sto} {i : Int} {K : Sto → Prop} {Q : Res → Sto → Prop} (h0 : 0 ≤ i) (h1 : i + 8 ≤ (E.sa 1001 : Int)) (hL : Lay σ) (hop : OPI E d mX0_told mX9_told [aI (scr E (i + 1))] σ K) (h : ∀ σ2, K σ2 → VV E mLaw (d + 1) 1951 [(3, aI i), (2, aO 555), (1, aO 0), (0, aS 1000)] [] σ2 Q) : VV E mLaw (d + 1) 916 [(3, aI i), (2, aO 555), (1, aO 0), (0, aS 1000)] [] σ Q := by
  refine v_aload_n 2 dL_916 rfl rfl ?_
  refine v_sload_n 3 dL_917 rfl rfl ?_
  refine v_iload_n 0 dL_918 rfl rfl ?_
  refine v_iconst dL_919 ?_
  refine v_iadd dL_920 ?_
  refine v_ialdP (k := i + 1) dL_921 (by omega) (by omega) (fun iq921 => ?_)
  refine v_invV (ci := 0) (as := [aI (scr E (i + 1))]) (b := 0) (st := []) dL_922 rfl okX0_told (Or.inl q1517) q1518 (s_0 hL) rfl q1519 npX0_told hop (Nat.le_of_ble_eq_true rfl) (Nat.le_refl _) (Nat.le_of_ble_eq_true rfl) (RVI_ret (fun y σ1 gy s1 e1 => ?_)) RVI_thr
  refine v_aload_n 1 dL_925 rfl rfl ?_
  refine v_sload_n 3 dL_926 rfl rfl ?_
  refine v_iload_n 0 dL_927 rfl rfl ?_
  refine v_iconst dL_928 ?_
  refine v_iadd dL_929 ?_
  refine v_ialdP (k := i + 1) dL_930 (by omega) (by omega) (fun iq930 => ?_)
  refine v_invV (ci := 9) (as := [aI (scr E (i + 1))]) (b := 555) (st := [aI y]) dL_931 rfl okX9_told (Or.inl q3023) q3024 (s_555 (hL.sf s1)) rfl q3025 npX9_told (e1 s1) (Nat.le_of_ble_eq_true rfl) (Nat.le_refl _) (Nat.le_of_ble_eq_true rfl) (RVI_ret (fun z σ2 gz s2 e2 => ?_)) RVI_thr
  refine v_icmp_eq (tg := 1951) dL_934 rfl gy gz (fun _ => ?_) (fun q => absurd (e2 s2).1.symm q)
  exact h σ2 (e2 s2).2
theorem lc_23 {E : XE} {d : Nat} {σ : Sto} {i : Int} {K : Sto → Prop} {Q : Res → Sto → Prop} (h0 : 0 ≤ i) (h1 : i + 8 ≤ (E.sa 1001 : Int)) (hL : Lay σ) (hop : OPI E d mX0_question mX9_question [] σ K) (h : ∀ σ2, K σ2 → VV E mLaw (d + 1) 1951 [(3, aI i), (2, aO 555), (1, aO 0), (0, aS 1000)] [] σ2 Q) : VV E mLaw (d + 1) 939 [(3, aI i), (2, aO 555), (1, aO 0), (0, aS 1000)] [] σ Q := by
  refine v_aload_n 2 dL_939 rfl rfl ?_
  refine v_invV (ci := 0) (as := []) (b := 0) (st := []) dL_940 rfl okX0_question (Or.inl q1521) q1522 (s_0 hL) rfl q1523 npX0_question hop (Nat.le_of_ble_eq_true rfl) (Nat.le_refl _) (Nat.le_of_ble_eq_true rfl) (RVI_ret (fun y σ1 gy s1 e1 => ?_)) RVI_thr
  refine v_aload_n 1 dL_943 rfl rfl ?_
  refine v_invV (ci := 9) (as := []) (b := 555) (st := [aI y]) dL_944 rfl okX9_question (Or.inl q3072) q3073 (s_555 (hL.sf s1)) rfl q3074 npX9_question (e1 s1) (Nat.le_of_ble_eq_true rfl) (Nat.le_refl _) (Nat.le_of_ble_eq_true rfl) (RVI_ret (fun z σ2 gz s2 e2 => ?_)) RVI_thr
  refine v_icmp_eq (tg := 1951) dL_947 rfl gy gz (fun _ => ?_) (fun q => absurd (e2 s2).1.symm q)
  exact h σ2 (e2 s2).2
theorem lc_24 {E : XE} {d : Nat} {σ : Sto} {i : Int} {K : Sto → Prop} {Q : Res → Sto → Prop} (h0 : 0 ≤ i) (h1 : i + 8 ≤ (E.sa 1001 : Int)) (hL : Lay σ) (hop : OPI E d mX0_keep mX9_keep [] σ K) (h : ∀ σ2, K σ2 → VV E mLaw (d + 1) 1951 [(3, aI i), (2, aO 555), (1, aO 0), (0, aS 1000)] [] σ2 Q) : VV E mLaw (d + 1) 952 [(3, aI i), (2, aO 555), (1, aO 0), (0, aS 1000)] [] σ Q := by
  refine v_aload_n 2 dL_952 rfl rfl ?_
  refine v_invV (ci := 0) (as := []) (b := 0) (st := []) dL_953 rfl okX0_keep (Or.inl q1689) q1690 (s_0 hL) rfl q1691 npX0_keep hop (Nat.le_of_ble_eq_true rfl) (Nat.le_refl _) (Nat.le_of_ble_eq_true rfl) (RVI_ret (fun y σ1 gy s1 e1 => ?_)) RVI_thr
  refine v_aload_n 1 dL_956 rfl rfl ?_
  refine v_invV (ci := 9) (as := []) (b := 555) (st := [aI y]) dL_957 rfl okX9_keep (Or.inl q3056) q3057 (s_555 (hL.sf s1)) rfl q3058 npX9_keep (e1 s1) (Nat.le_of_ble_eq_true rfl) (Nat.le_refl _) (Nat.le_of_ble_eq_true rfl) (RVI_ret (fun z σ2 gz s2 e2 => ?_)) RVI_thr
  refine v_icmp_eq (tg := 1951) dL_960 rfl gy gz (fun _ => ?_) (fun q => absurd (e2 s2).1.symm q)
  exact h σ2 (e2 s2).2
theorem lc_25 {E : XE} {d : Nat} {σ : Sto} {i : Int} {K : Sto → Prop} {Q : Res → Sto → Prop} (h0 : 0 ≤ i) (h1 : i + 8 ≤ (E.sa 1001 : Int)) (hL : Lay σ) (hop : OPI E d mX0_use mX9_use [aI (scr E (i + 1))] σ K) (h : ∀ σ2, K σ2 → VV E mLaw (d + 1) 1951 [(3, aI i), (2, aO 555), (1, aO 0), (0, aS 1000)] [] σ2 Q) : VV E mLaw (d + 1) 965 [(3, aI i), (2, aO 555), (1, aO 0), (0, aS 1000)] [] σ Q := by
  refine v_aload_n 2 dL_965 rfl rfl ?_
  refine v_sload_n 3 dL_966 rfl rfl ?_
  refine v_iload_n 0 dL_967 rfl rfl ?_
  refine v_iconst dL_968 ?_
  refine v_iadd dL_969 ?_
  refine v_ialdP (k := i + 1) dL_970 (by omega) (by omega) (fun iq970 => ?_)
  refine v_invV (ci := 0) (as := [aI (scr E (i + 1))]) (b := 0) (st := []) dL_971 rfl okX0_use (Or.inl q1693) q1694 (s_0 hL) rfl q1695 npX0_use hop (Nat.le_of_ble_eq_true rfl) (Nat.le_refl _) (Nat.le_of_ble_eq_true rfl) (RVI_ret (fun y σ1 gy s1 e1 => ?_)) RVI_thr
  refine v_aload_n 1 dL_974 rfl rfl ?_
  refine v_sload_n 3 dL_975 rfl rfl ?_
  refine v_iload_n 0 dL_976 rfl rfl ?_
  refine v_iconst dL_977 ?_
  refine v_iadd dL_978 ?_
  refine v_ialdP (k := i + 1) dL_979 (by omega) (by omega) (fun iq979 => ?_)
  refine v_invV (ci := 9) (as := [aI (scr E (i + 1))]) (b := 555) (st := [aI y]) dL_980 rfl okX9_use (Or.inl q3060) q3061 (s_555 (hL.sf s1)) rfl q3062 npX9_use (e1 s1) (Nat.le_of_ble_eq_true rfl) (Nat.le_refl _) (Nat.le_of_ble_eq_true rfl) (RVI_ret (fun z σ2 gz s2 e2 => ?_)) RVI_thr
  refine v_icmp_eq (tg := 1951) dL_983 rfl gy gz (fun _ => ?_) (fun q => absurd (e2 s2).1.symm q)
  exact h σ2 (e2 s2).2
theorem lc_26 {E : XE} {d : Nat} {σ : Sto} {i : Int} {K : Sto → Prop} {Q : Res → Sto → Prop} (h0 : 0 ≤ i) (h1 : i + 8 ≤ (E.sa 1001 : Int)) (hL : Lay σ) (hop : OPI E d mX0_user mX9_user [aI (scr E (i + 1))] σ K) (h : ∀ σ2, K σ2 → VV E mLaw (d + 1) 1951 [(3, aI i), (2, aO 555), (1, aO 0), (0, aS 1000)] [] σ2 Q) : VV E mLaw (d + 1) 988 [(3, aI i), (2, aO 555), (1, aO 0), (0, aS 1000)] [] σ Q := by
  refine v_aload_n 2 dL_988 rfl rfl ?_
  refine v_sload_n 3 dL_989 rfl rfl ?_
  refine v_iload_n 0 dL_990 rfl rfl ?_
  refine v_iconst dL_991 ?_
  refine v_iadd dL_992 ?_
  refine v_ialdP (k := i + 1) dL_993 (by omega) (by omega) (fun iq993 => ?_)
  refine v_invV (ci := 0) (as := [aI (scr E (i + 1))]) (b := 0) (st := []) dL_994 rfl okX0_user (Or.inl q1697) q1698 (s_0 hL) rfl q1699 npX0_user hop (Nat.le_of_ble_eq_true rfl) (Nat.le_refl _) (Nat.le_of_ble_eq_true rfl) (RVI_ret (fun y σ1 gy s1 e1 => ?_)) RVI_thr
  refine v_aload_n 1 dL_997 rfl rfl ?_
  refine v_sload_n 3 dL_998 rfl rfl ?_
  refine v_iload_n 0 dL_999 rfl rfl ?_
  refine v_iconst dL_1000 ?_
  refine v_iadd dL_1001 ?_
  refine v_ialdP (k := i + 1) dL_1002 (by omega) (by omega) (fun iq1002 => ?_)
  refine v_invV (ci := 9) (as := [aI (scr E (i + 1))]) (b := 555) (st := [aI y]) dL_1003 rfl okX9_user (Or.inl q3048) q3049 (s_555 (hL.sf s1)) rfl q3050 npX9_user (e1 s1) (Nat.le_of_ble_eq_true rfl) (Nat.le_refl _) (Nat.le_of_ble_eq_true rfl) (RVI_ret (fun z σ2 gz s2 e2 => ?_)) RVI_thr
  refine v_icmp_eq (tg := 1951) dL_1006 rfl gy gz (fun _ => ?_) (fun q => absurd (e2 s2).1.symm q)
  exact h σ2 (e2 s2).2
theorem lc_27 {E : XE} {d : Nat} {σ : Sto} {i : Int} {K : Sto → Prop} {Q : Res → Sto → Prop} (h0 : 0 ≤ i) (h1 : i + 8 ≤ (E.sa 1001 : Int)) (hL : Lay σ) (hop : OPI E d mX0_hide mX9_hide [aI (scr E (i + 1))] σ K) (h : ∀ σ2, K σ2 → VV E mLaw (d + 1) 1951 [(3, aI i), (2, aO 555), (1, aO 0), (0, aS 1000)] [] σ2 Q) : VV E mLaw (d + 1) 1011 [(3, aI i), (2, aO 555), (1, aO 0), (0, aS 1000)] [] σ Q := by
  refine v_aload_n 2 dL_1011 rfl rfl ?_
  refine v_sload_n 3 dL_1012 rfl rfl ?_
  refine v_iload_n 0 dL_1013 rfl rfl ?_
  refine v_iconst dL_1014 ?_
  refine v_iadd dL_1015 ?_
  refine v_ialdP (k := i + 1) dL_1016 (by omega) (by omega) (fun iq1016 => ?_)
  refine v_invV (ci := 0) (as := [aI (scr E (i + 1))]) (b := 0) (st := []) dL_1017 rfl okX0_hide (Or.inl q1701) q1702 (s_0 hL) rfl q1703 npX0_hide hop (Nat.le_of_ble_eq_true rfl) (Nat.le_refl _) (Nat.le_of_ble_eq_true rfl) (RVI_ret (fun y σ1 gy s1 e1 => ?_)) RVI_thr
  refine v_aload_n 1 dL_1020 rfl rfl ?_
  refine v_sload_n 3 dL_1021 rfl rfl ?_
  refine v_iload_n 0 dL_1022 rfl rfl ?_
  refine v_iconst dL_1023 ?_
  refine v_iadd dL_1024 ?_
  refine v_ialdP (k := i + 1) dL_1025 (by omega) (by omega) (fun iq1025 => ?_)
  refine v_invV (ci := 9) (as := [aI (scr E (i + 1))]) (b := 555) (st := [aI y]) dL_1026 rfl okX9_hide (Or.inl q3064) q3065 (s_555 (hL.sf s1)) rfl q3066 npX9_hide (e1 s1) (Nat.le_of_ble_eq_true rfl) (Nat.le_refl _) (Nat.le_of_ble_eq_true rfl) (RVI_ret (fun z σ2 gz s2 e2 => ?_)) RVI_thr
  refine v_icmp_eq (tg := 1951) dL_1029 rfl gy gz (fun _ => ?_) (fun q => absurd (e2 s2).1.symm q)
  exact h σ2 (e2 s2).2
theorem lc_28 {E : XE} {d : Nat} {σ : Sto} {i : Int} {K : Sto → Prop} {Q : Res → Sto → Prop} (h0 : 0 ≤ i) (h1 : i + 8 ≤ (E.sa 1001 : Int)) (hL : Lay σ) (hop : OPI E d mX0_unhide mX9_unhide [aI (scr E (i + 1))] σ K) (h : ∀ σ2, K σ2 → VV E mLaw (d + 1) 1951 [(3, aI i), (2, aO 555), (1, aO 0), (0, aS 1000)] [] σ2 Q) : VV E mLaw (d + 1) 1034 [(3, aI i), (2, aO 555), (1, aO 0), (0, aS 1000)] [] σ Q := by
  refine v_aload_n 2 dL_1034 rfl rfl ?_
  refine v_sload_n 3 dL_1035 rfl rfl ?_
  refine v_iload_n 0 dL_1036 rfl rfl ?_
  refine v_iconst dL_1037 ?_
  refine v_iadd dL_1038 ?_
  refine v_ialdP (k := i + 1) dL_1039 (by omega) (by omega) (fun iq1039 => ?_)
  refine v_invV (ci := 0) (as := [aI (scr E (i + 1))]) (b := 0) (st := []) dL_1040 rfl okX0_unhide (Or.inl q1705) q1706 (s_0 hL) rfl q1707 npX0_unhide hop (Nat.le_of_ble_eq_true rfl) (Nat.le_refl _) (Nat.le_of_ble_eq_true rfl) (RVI_ret (fun y σ1 gy s1 e1 => ?_)) RVI_thr
  refine v_aload_n 1 dL_1043 rfl rfl ?_
  refine v_sload_n 3 dL_1044 rfl rfl ?_
  refine v_iload_n 0 dL_1045 rfl rfl ?_
  refine v_iconst dL_1046 ?_
  refine v_iadd dL_1047 ?_
  refine v_ialdP (k := i + 1) dL_1048 (by omega) (by omega) (fun iq1048 => ?_)
  refine v_invV (ci := 9) (as := [aI (scr E (i + 1))]) (b := 555) (st := [aI y]) dL_1049 rfl okX9_unhide (Or.inl q3068) q3069 (s_555 (hL.sf s1)) rfl q3070 npX9_unhide (e1 s1) (Nat.le_of_ble_eq_true rfl) (Nat.le_refl _) (Nat.le_of_ble_eq_true rfl) (RVI_ret (fun z σ2 gz s2 e2 => ?_)) RVI_thr
  refine v_icmp_eq (tg := 1951) dL_1052 rfl gy gz (fun _ => ?_) (fun q => absurd (e2 s2).1.symm q)
  exact h σ2 (e2 s2).2
theorem lc_29 {E : XE} {d : Nat} {σ : Sto} {i : Int} {K : Sto → Prop} {Q : Res → Sto → Prop} (h0 : 0 ≤ i) (h1 : i + 8 ≤ (E.sa 1001 : Int)) (hL : Lay σ) (hop : OPI E d mX0_blind mX9_blind [aI (scr E (i + 1)), aI (scr E (i + 2)), aI (scr E (i + 3))] σ K) (h : ∀ σ2, K σ2 → VV E mLaw (d + 1) 1951 [(3, aI i), (2, aO 555), (1, aO 0), (0, aS 1000)] [] σ2 Q) : VV E mLaw (d + 1) 1057 [(3, aI i), (2, aO 555), (1, aO 0), (0, aS 1000)] [] σ Q := by
  refine v_aload_n 2 dL_1057 rfl rfl ?_
  refine v_sload_n 3 dL_1058 rfl rfl ?_
  refine v_iload_n 0 dL_1059 rfl rfl ?_
  refine v_iconst dL_1060 ?_
  refine v_iadd dL_1061 ?_
  refine v_ialdP (k := i + 1) dL_1062 (by omega) (by omega) (fun iq1062 => ?_)
  refine v_sload_n 3 dL_1063 rfl rfl ?_
  refine v_iload_n 0 dL_1064 rfl rfl ?_
  refine v_iconst dL_1065 ?_
  refine v_iadd dL_1066 ?_
  refine v_ialdP (k := i + 2) dL_1067 (by omega) (by omega) (fun iq1067 => ?_)
  refine v_sload_n 3 dL_1068 rfl rfl ?_
  refine v_iload_n 0 dL_1069 rfl rfl ?_
  refine v_iconst dL_1070 ?_
  refine v_iadd dL_1071 ?_
  refine v_ialdP (k := i + 3) dL_1072 (by omega) (by omega) (fun iq1072 => ?_)
  refine v_invV (ci := 0) (as := [aI (scr E (i + 1)), aI (scr E (i + 2)), aI (scr E (i + 3))]) (b := 0) (st := []) dL_1073 rfl okX0_blind (Or.inl q1709) q1710 (s_0 hL) rfl q1711 npX0_blind hop (Nat.le_of_ble_eq_true rfl) (Nat.le_refl _) (Nat.le_of_ble_eq_true rfl) (RVI_ret (fun y σ1 gy s1 e1 => ?_)) RVI_thr
  refine v_aload_n 1 dL_1076 rfl rfl ?_
  refine v_sload_n 3 dL_1077 rfl rfl ?_
  refine v_iload_n 0 dL_1078 rfl rfl ?_
  refine v_iconst dL_1079 ?_
  refine v_iadd dL_1080 ?_
  refine v_ialdP (k := i + 1) dL_1081 (by omega) (by omega) (fun iq1081 => ?_)
  refine v_sload_n 3 dL_1082 rfl rfl ?_
  refine v_iload_n 0 dL_1083 rfl rfl ?_
  refine v_iconst dL_1084 ?_
  refine v_iadd dL_1085 ?_
  refine v_ialdP (k := i + 2) dL_1086 (by omega) (by omega) (fun iq1086 => ?_)
  refine v_sload_n 3 dL_1087 rfl rfl ?_
  refine v_iload_n 0 dL_1088 rfl rfl ?_
  refine v_iconst dL_1089 ?_
  refine v_iadd dL_1090 ?_
  refine v_ialdP (k := i + 3) dL_1091 (by omega) (by omega) (fun iq1091 => ?_)
  refine v_invV (ci := 9) (as := [aI (scr E (i + 1)), aI (scr E (i + 2)), aI (scr E (i + 3))]) (b := 555) (st := [aI y]) dL_1092 rfl okX9_blind (Or.inl q3052) q3053 (s_555 (hL.sf s1)) rfl q3054 npX9_blind (e1 s1) (Nat.le_of_ble_eq_true rfl) (Nat.le_refl _) (Nat.le_of_ble_eq_true rfl) (RVI_ret (fun z σ2 gz s2 e2 => ?_)) RVI_thr
  refine v_icmp_eq (tg := 1951) dL_1095 rfl gy gz (fun _ => ?_) (fun q => absurd (e2 s2).1.symm q)
  exact h σ2 (e2 s2).2
theorem lc_30 {E : XE} {d : Nat} {σ : Sto} {i : Int} {K : Sto → Prop} {Q : Res → Sto → Prop} (h0 : 0 ≤ i) (h1 : i + 8 ≤ (E.sa 1001 : Int)) (hL : Lay σ) (hop : OPI E d mX0_formula mX9_formula [aI (scr E (i + 1))] σ K) (h : ∀ σ2, K σ2 → VV E mLaw (d + 1) 1951 [(3, aI i), (2, aO 555), (1, aO 0), (0, aS 1000)] [] σ2 Q) : VV E mLaw (d + 1) 1100 [(3, aI i), (2, aO 555), (1, aO 0), (0, aS 1000)] [] σ Q := by
  refine v_aload_n 2 dL_1100 rfl rfl ?_
  refine v_sload_n 3 dL_1101 rfl rfl ?_
  refine v_iload_n 0 dL_1102 rfl rfl ?_
  refine v_iconst dL_1103 ?_
  refine v_iadd dL_1104 ?_
  refine v_ialdP (k := i + 1) dL_1105 (by omega) (by omega) (fun iq1105 => ?_)
  refine v_invV (ci := 0) (as := [aI (scr E (i + 1))]) (b := 0) (st := []) dL_1106 rfl okX0_formula (Or.inl q1713) q1714 (s_0 hL) rfl q1715 npX0_formula hop (Nat.le_of_ble_eq_true rfl) (Nat.le_refl _) (Nat.le_of_ble_eq_true rfl) (RVI_ret (fun y σ1 gy s1 e1 => ?_)) RVI_thr
  refine v_aload_n 1 dL_1109 rfl rfl ?_
  refine v_sload_n 3 dL_1110 rfl rfl ?_
  refine v_iload_n 0 dL_1111 rfl rfl ?_
  refine v_iconst dL_1112 ?_
  refine v_iadd dL_1113 ?_
  refine v_ialdP (k := i + 1) dL_1114 (by omega) (by omega) (fun iq1114 => ?_)
  refine v_invV (ci := 9) (as := [aI (scr E (i + 1))]) (b := 555) (st := [aI y]) dL_1115 rfl okX9_formula (Or.inl q3166) q3167 (s_555 (hL.sf s1)) rfl q3168 npX9_formula (e1 s1) (Nat.le_of_ble_eq_true rfl) (Nat.le_refl _) (Nat.le_of_ble_eq_true rfl) (RVI_ret (fun z σ2 gz s2 e2 => ?_)) RVI_thr
  refine v_icmp_eq (tg := 1951) dL_1118 rfl gy gz (fun _ => ?_) (fun q => absurd (e2 s2).1.symm q)
  exact h σ2 (e2 s2).2
theorem lc_31 {E : XE} {d : Nat} {σ : Sto} {i : Int} {K : Sto → Prop} {Q : Res → Sto → Prop} (h0 : 0 ≤ i) (h1 : i + 8 ≤ (E.sa 1001 : Int)) (hL : Lay σ) (hop : OPI E d mX0_sort mX9_sort [aI (scr E (i + 1)), aI (scr E (i + 2))] σ K) (h : ∀ σ2, K σ2 → VV E mLaw (d + 1) 1951 [(3, aI i), (2, aO 555), (1, aO 0), (0, aS 1000)] [] σ2 Q) : VV E mLaw (d + 1) 1123 [(3, aI i), (2, aO 555), (1, aO 0), (0, aS 1000)] [] σ Q := by
  refine v_aload_n 2 dL_1123 rfl rfl ?_
  refine v_sload_n 3 dL_1124 rfl rfl ?_
  refine v_iload_n 0 dL_1125 rfl rfl ?_
  refine v_iconst dL_1126 ?_
  refine v_iadd dL_1127 ?_
  refine v_ialdP (k := i + 1) dL_1128 (by omega) (by omega) (fun iq1128 => ?_)
  refine v_sload_n 3 dL_1129 rfl rfl ?_
  refine v_iload_n 0 dL_1130 rfl rfl ?_
  refine v_iconst dL_1131 ?_
  refine v_iadd dL_1132 ?_
  refine v_ialdP (k := i + 2) dL_1133 (by omega) (by omega) (fun iq1133 => ?_)
  refine v_invV (ci := 0) (as := [aI (scr E (i + 1)), aI (scr E (i + 2))]) (b := 0) (st := []) dL_1134 rfl okX0_sort (Or.inl q1717) q1718 (s_0 hL) rfl q1719 npX0_sort hop (Nat.le_of_ble_eq_true rfl) (Nat.le_refl _) (Nat.le_of_ble_eq_true rfl) (RVI_ret (fun y σ1 gy s1 e1 => ?_)) RVI_thr
  refine v_aload_n 1 dL_1137 rfl rfl ?_
  refine v_sload_n 3 dL_1138 rfl rfl ?_
  refine v_iload_n 0 dL_1139 rfl rfl ?_
  refine v_iconst dL_1140 ?_
  refine v_iadd dL_1141 ?_
  refine v_ialdP (k := i + 1) dL_1142 (by omega) (by omega) (fun iq1142 => ?_)
  refine v_sload_n 3 dL_1143 rfl rfl ?_
  refine v_iload_n 0 dL_1144 rfl rfl ?_
  refine v_iconst dL_1145 ?_
  refine v_iadd dL_1146 ?_
  refine v_ialdP (k := i + 2) dL_1147 (by omega) (by omega) (fun iq1147 => ?_)
  refine v_invV (ci := 9) (as := [aI (scr E (i + 1)), aI (scr E (i + 2))]) (b := 555) (st := [aI y]) dL_1148 rfl okX9_sort (Or.inl q3170) q3171 (s_555 (hL.sf s1)) rfl q3172 npX9_sort (e1 s1) (Nat.le_of_ble_eq_true rfl) (Nat.le_refl _) (Nat.le_of_ble_eq_true rfl) (RVI_ret (fun z σ2 gz s2 e2 => ?_)) RVI_thr
  refine v_icmp_eq (tg := 1951) dL_1151 rfl gy gz (fun _ => ?_) (fun q => absurd (e2 s2).1.symm q)
  exact h σ2 (e2 s2).2
theorem lc_32 {E : XE} {d : Nat} {σ : Sto} {i : Int} {K : Sto → Prop} {Q : Res → Sto → Prop} (h0 : 0 ≤ i) (h1 : i + 8 ≤ (E.sa 1001 : Int)) (hL : Lay σ) (hop : OPI E d mX0_search mX9_search [aI (scr E (i + 1))] σ K) (h : ∀ σ2, K σ2 → VV E mLaw (d + 1) 1951 [(3, aI i), (2, aO 555), (1, aO 0), (0, aS 1000)] [] σ2 Q) : VV E mLaw (d + 1) 1156 [(3, aI i), (2, aO 555), (1, aO 0), (0, aS 1000)] [] σ Q := by
  refine v_aload_n 2 dL_1156 rfl rfl ?_
  refine v_sload_n 3 dL_1157 rfl rfl ?_
  refine v_iload_n 0 dL_1158 rfl rfl ?_
  refine v_iconst dL_1159 ?_
  refine v_iadd dL_1160 ?_
  refine v_ialdP (k := i + 1) dL_1161 (by omega) (by omega) (fun iq1161 => ?_)
  refine v_invV (ci := 0) (as := [aI (scr E (i + 1))]) (b := 0) (st := []) dL_1162 rfl okX0_search (Or.inl q1721) q1722 (s_0 hL) rfl q1723 npX0_search hop (Nat.le_of_ble_eq_true rfl) (Nat.le_refl _) (Nat.le_of_ble_eq_true rfl) (RVI_ret (fun y σ1 gy s1 e1 => ?_)) RVI_thr
  refine v_aload_n 1 dL_1165 rfl rfl ?_
  refine v_sload_n 3 dL_1166 rfl rfl ?_
  refine v_iload_n 0 dL_1167 rfl rfl ?_
  refine v_iconst dL_1168 ?_
  refine v_iadd dL_1169 ?_
  refine v_ialdP (k := i + 1) dL_1170 (by omega) (by omega) (fun iq1170 => ?_)
  refine v_invV (ci := 9) (as := [aI (scr E (i + 1))]) (b := 555) (st := [aI y]) dL_1171 rfl okX9_search (Or.inl q3174) q3175 (s_555 (hL.sf s1)) rfl q3176 npX9_search (e1 s1) (Nat.le_of_ble_eq_true rfl) (Nat.le_refl _) (Nat.le_of_ble_eq_true rfl) (RVI_ret (fun z σ2 gz s2 e2 => ?_)) RVI_thr
  refine v_icmp_eq (tg := 1951) dL_1174 rfl gy gz (fun _ => ?_) (fun q => absurd (e2 s2).1.symm q)
  exact h σ2 (e2 s2).2
theorem lc_33 {E : XE} {d : Nat} {σ : Sto} {i : Int} {K : Sto → Prop} {Q : Res → Sto → Prop} (h0 : 0 ≤ i) (h1 : i + 8 ≤ (E.sa 1001 : Int)) (hL : Lay σ) (hop : OPI E d mX0_hit mX9_hit [aI (scr E (i + 1))] σ K) (h : ∀ σ2, K σ2 → VV E mLaw (d + 1) 1951 [(3, aI i), (2, aO 555), (1, aO 0), (0, aS 1000)] [] σ2 Q) : VV E mLaw (d + 1) 1179 [(3, aI i), (2, aO 555), (1, aO 0), (0, aS 1000)] [] σ Q := by
  refine v_aload_n 2 dL_1179 rfl rfl ?_
  refine v_sload_n 3 dL_1180 rfl rfl ?_
  refine v_iload_n 0 dL_1181 rfl rfl ?_
  refine v_iconst dL_1182 ?_
  refine v_iadd dL_1183 ?_
  refine v_ialdP (k := i + 1) dL_1184 (by omega) (by omega) (fun iq1184 => ?_)
  refine v_invV (ci := 0) (as := [aI (scr E (i + 1))]) (b := 0) (st := []) dL_1185 rfl okX0_hit (Or.inl q1916) q1917 (s_0 hL) rfl q1918 npX0_hit hop (Nat.le_of_ble_eq_true rfl) (Nat.le_refl _) (Nat.le_of_ble_eq_true rfl) (RVI_ret (fun y σ1 gy s1 e1 => ?_)) RVI_thr
  refine v_aload_n 1 dL_1188 rfl rfl ?_
  refine v_sload_n 3 dL_1189 rfl rfl ?_
  refine v_iload_n 0 dL_1190 rfl rfl ?_
  refine v_iconst dL_1191 ?_
  refine v_iadd dL_1192 ?_
  refine v_ialdP (k := i + 1) dL_1193 (by omega) (by omega) (fun iq1193 => ?_)
  refine v_invV (ci := 9) (as := [aI (scr E (i + 1))]) (b := 555) (st := [aI y]) dL_1194 rfl okX9_hit (Or.inl q3404) q3405 (s_555 (hL.sf s1)) rfl q3406 npX9_hit (e1 s1) (Nat.le_of_ble_eq_true rfl) (Nat.le_refl _) (Nat.le_of_ble_eq_true rfl) (RVI_ret (fun z σ2 gz s2 e2 => ?_)) RVI_thr
  refine v_icmp_eq (tg := 1951) dL_1197 rfl gy gz (fun _ => ?_) (fun q => absurd (e2 s2).1.symm q)
  exact h σ2 (e2 s2).2
theorem lc_34 {E : XE} {d : Nat} {σ : Sto} {i : Int} {K : Sto → Prop} {Q : Res → Sto → Prop} (h0 : 0 ≤ i) (h1 : i + 8 ≤ (E.sa 1001 : Int)) (hL : Lay σ) (hop : OPL E d mX0_score mX9_score [aI (scr E (i + 1))] σ K) (h : ∀ σ2, K σ2 → VV E mLaw (d + 1) 1951 [(3, aI i), (2, aO 555), (1, aO 0), (0, aS 1000)] [] σ2 Q) : VV E mLaw (d + 1) 1202 [(3, aI i), (2, aO 555), (1, aO 0), (0, aS 1000)] [] σ Q := by
  refine v_aload_n 2 dL_1202 rfl rfl ?_
  refine v_sload_n 3 dL_1203 rfl rfl ?_
  refine v_iload_n 0 dL_1204 rfl rfl ?_
  refine v_iconst dL_1205 ?_
  refine v_iadd dL_1206 ?_
  refine v_ialdP (k := i + 1) dL_1207 (by omega) (by omega) (fun iq1207 => ?_)
  refine v_invV (ci := 0) (as := [aI (scr E (i + 1))]) (b := 0) (st := []) dL_1208 rfl okX0_score (Or.inl q1924) q1925 (s_0 hL) rfl q1926 npX0_score hop (Nat.le_of_ble_eq_true rfl) (Nat.le_refl _) (Nat.le_of_ble_eq_true rfl) (RVL_ret (fun y σ1 gy s1 e1 => ?_)) RVL_thr
  refine v_aload_n 1 dL_1211 rfl rfl ?_
  refine v_sload_n 3 dL_1212 rfl rfl ?_
  refine v_iload_n 0 dL_1213 rfl rfl ?_
  refine v_iconst dL_1214 ?_
  refine v_iadd dL_1215 ?_
  refine v_ialdP (k := i + 1) dL_1216 (by omega) (by omega) (fun iq1216 => ?_)
  refine v_invV (ci := 9) (as := [aI (scr E (i + 1))]) (b := 555) (st := [aL y]) dL_1217 rfl okX9_score (Or.inl q3412) q3413 (s_555 (hL.sf s1)) rfl q3414 npX9_score (e1 s1) (Nat.le_of_ble_eq_true rfl) (Nat.le_refl _) (Nat.le_of_ble_eq_true rfl) (RVL_ret (fun z σ2 gz s2 e2 => ?_)) RVL_thr
  refine v_lcmp dL_1220 gy gz ?_
  refine v_if_eq (tg := 1951) dL_1221 rfl (cmp3_in y z) (fun _ => ?_) (fun q => absurd (cmp3_0 (e2 s2).1.symm) q)
  exact h σ2 (e2 s2).2
theorem lc_35 {E : XE} {d : Nat} {σ : Sto} {i : Int} {K : Sto → Prop} {Q : Res → Sto → Prop} (h0 : 0 ≤ i) (h1 : i + 8 ≤ (E.sa 1001 : Int)) (hL : Lay σ) (hop : OPI E d mX0_explain mX9_explain [aI (scr E (i + 1))] σ K) (h : ∀ σ2, K σ2 → VV E mLaw (d + 1) 1951 [(3, aI i), (2, aO 555), (1, aO 0), (0, aS 1000)] [] σ2 Q) : VV E mLaw (d + 1) 1226 [(3, aI i), (2, aO 555), (1, aO 0), (0, aS 1000)] [] σ Q := by
  refine v_aload_n 2 dL_1226 rfl rfl ?_
  refine v_sload_n 3 dL_1227 rfl rfl ?_
  refine v_iload_n 0 dL_1228 rfl rfl ?_
  refine v_iconst dL_1229 ?_
  refine v_iadd dL_1230 ?_
  refine v_ialdP (k := i + 1) dL_1231 (by omega) (by omega) (fun iq1231 => ?_)
  refine v_invV (ci := 0) (as := [aI (scr E (i + 1))]) (b := 0) (st := []) dL_1232 rfl okX0_explain (Or.inl q1928) q1929 (s_0 hL) rfl q1930 npX0_explain hop (Nat.le_of_ble_eq_true rfl) (Nat.le_refl _) (Nat.le_of_ble_eq_true rfl) (RVI_ret (fun y σ1 gy s1 e1 => ?_)) RVI_thr
  refine v_aload_n 1 dL_1235 rfl rfl ?_
  refine v_sload_n 3 dL_1236 rfl rfl ?_
  refine v_iload_n 0 dL_1237 rfl rfl ?_
  refine v_iconst dL_1238 ?_
  refine v_iadd dL_1239 ?_
  refine v_ialdP (k := i + 1) dL_1240 (by omega) (by omega) (fun iq1240 => ?_)
  refine v_invV (ci := 9) (as := [aI (scr E (i + 1))]) (b := 555) (st := [aI y]) dL_1241 rfl okX9_explain (Or.inl q3417) q3418 (s_555 (hL.sf s1)) rfl q3419 npX9_explain (e1 s1) (Nat.le_of_ble_eq_true rfl) (Nat.le_refl _) (Nat.le_of_ble_eq_true rfl) (RVI_ret (fun z σ2 gz s2 e2 => ?_)) RVI_thr
  refine v_icmp_eq (tg := 1951) dL_1244 rfl gy gz (fun _ => ?_) (fun q => absurd (e2 s2).1.symm q)
  exact h σ2 (e2 s2).2
theorem lc_36 {E : XE} {d : Nat} {σ : Sto} {i : Int} {K : Sto → Prop} {Q : Res → Sto → Prop} (h0 : 0 ≤ i) (h1 : i + 8 ≤ (E.sa 1001 : Int)) (hL : Lay σ) (hop : OPL E d mX0_line mX9_line [aI (scr E (i + 1)), aI (scr E (i + 2))] σ K) (h : ∀ σ2, K σ2 → VV E mLaw (d + 1) 1951 [(3, aI i), (2, aO 555), (1, aO 0), (0, aS 1000)] [] σ2 Q) : VV E mLaw (d + 1) 1249 [(3, aI i), (2, aO 555), (1, aO 0), (0, aS 1000)] [] σ Q := by
  refine v_aload_n 2 dL_1249 rfl rfl ?_
  refine v_sload_n 3 dL_1250 rfl rfl ?_
  refine v_iload_n 0 dL_1251 rfl rfl ?_
  refine v_iconst dL_1252 ?_
  refine v_iadd dL_1253 ?_
  refine v_ialdP (k := i + 1) dL_1254 (by omega) (by omega) (fun iq1254 => ?_)
  refine v_sload_n 3 dL_1255 rfl rfl ?_
  refine v_iload_n 0 dL_1256 rfl rfl ?_
  refine v_iconst dL_1257 ?_
  refine v_iadd dL_1258 ?_
  refine v_ialdP (k := i + 2) dL_1259 (by omega) (by omega) (fun iq1259 => ?_)
  refine v_invV (ci := 0) (as := [aI (scr E (i + 1)), aI (scr E (i + 2))]) (b := 0) (st := []) dL_1260 rfl okX0_line (Or.inl q1937) q1938 (s_0 hL) rfl q1939 npX0_line hop (Nat.le_of_ble_eq_true rfl) (Nat.le_refl _) (Nat.le_of_ble_eq_true rfl) (RVL_ret (fun y σ1 gy s1 e1 => ?_)) RVL_thr
  refine v_aload_n 1 dL_1263 rfl rfl ?_
  refine v_sload_n 3 dL_1264 rfl rfl ?_
  refine v_iload_n 0 dL_1265 rfl rfl ?_
  refine v_iconst dL_1266 ?_
  refine v_iadd dL_1267 ?_
  refine v_ialdP (k := i + 1) dL_1268 (by omega) (by omega) (fun iq1268 => ?_)
  refine v_sload_n 3 dL_1269 rfl rfl ?_
  refine v_iload_n 0 dL_1270 rfl rfl ?_
  refine v_iconst dL_1271 ?_
  refine v_iadd dL_1272 ?_
  refine v_ialdP (k := i + 2) dL_1273 (by omega) (by omega) (fun iq1273 => ?_)
  refine v_invV (ci := 9) (as := [aI (scr E (i + 1)), aI (scr E (i + 2))]) (b := 555) (st := [aL y]) dL_1274 rfl okX9_line (Or.inl q3429) q3430 (s_555 (hL.sf s1)) rfl q3431 npX9_line (e1 s1) (Nat.le_of_ble_eq_true rfl) (Nat.le_refl _) (Nat.le_of_ble_eq_true rfl) (RVL_ret (fun z σ2 gz s2 e2 => ?_)) RVL_thr
  refine v_lcmp dL_1277 gy gz ?_
  refine v_if_eq (tg := 1951) dL_1278 rfl (cmp3_in y z) (fun _ => ?_) (fun q => absurd (cmp3_0 (e2 s2).1.symm) q)
  exact h σ2 (e2 s2).2
theorem lc_37 {E : XE} {d : Nat} {σ : Sto} {i : Int} {K : Sto → Prop} {Q : Res → Sto → Prop} (h0 : 0 ≤ i) (h1 : i + 8 ≤ (E.sa 1001 : Int)) (hL : Lay σ) (hop : OPI E d mX0_marks mX9_marks [aI (scr E (i + 1)), aI (scr E (i + 2))] σ K) (h : ∀ σ2, K σ2 → VV E mLaw (d + 1) 1951 [(3, aI i), (2, aO 555), (1, aO 0), (0, aS 1000)] [] σ2 Q) : VV E mLaw (d + 1) 1283 [(3, aI i), (2, aO 555), (1, aO 0), (0, aS 1000)] [] σ Q := by
  refine v_aload_n 2 dL_1283 rfl rfl ?_
  refine v_sload_n 3 dL_1284 rfl rfl ?_
  refine v_iload_n 0 dL_1285 rfl rfl ?_
  refine v_iconst dL_1286 ?_
  refine v_iadd dL_1287 ?_
  refine v_ialdP (k := i + 1) dL_1288 (by omega) (by omega) (fun iq1288 => ?_)
  refine v_sload_n 3 dL_1289 rfl rfl ?_
  refine v_iload_n 0 dL_1290 rfl rfl ?_
  refine v_iconst dL_1291 ?_
  refine v_iadd dL_1292 ?_
  refine v_ialdP (k := i + 2) dL_1293 (by omega) (by omega) (fun iq1293 => ?_)
  refine v_invV (ci := 0) (as := [aI (scr E (i + 1)), aI (scr E (i + 2))]) (b := 0) (st := []) dL_1294 rfl okX0_marks (Or.inl q1941) q1942 (s_0 hL) rfl q1943 npX0_marks hop (Nat.le_of_ble_eq_true rfl) (Nat.le_refl _) (Nat.le_of_ble_eq_true rfl) (RVI_ret (fun y σ1 gy s1 e1 => ?_)) RVI_thr
  refine v_aload_n 1 dL_1297 rfl rfl ?_
  refine v_sload_n 3 dL_1298 rfl rfl ?_
  refine v_iload_n 0 dL_1299 rfl rfl ?_
  refine v_iconst dL_1300 ?_
  refine v_iadd dL_1301 ?_
  refine v_ialdP (k := i + 1) dL_1302 (by omega) (by omega) (fun iq1302 => ?_)
  refine v_sload_n 3 dL_1303 rfl rfl ?_
  refine v_iload_n 0 dL_1304 rfl rfl ?_
  refine v_iconst dL_1305 ?_
  refine v_iadd dL_1306 ?_
  refine v_ialdP (k := i + 2) dL_1307 (by omega) (by omega) (fun iq1307 => ?_)
  refine v_invV (ci := 9) (as := [aI (scr E (i + 1)), aI (scr E (i + 2))]) (b := 555) (st := [aI y]) dL_1308 rfl okX9_marks (Or.inl q3433) q3434 (s_555 (hL.sf s1)) rfl q3435 npX9_marks (e1 s1) (Nat.le_of_ble_eq_true rfl) (Nat.le_refl _) (Nat.le_of_ble_eq_true rfl) (RVI_ret (fun z σ2 gz s2 e2 => ?_)) RVI_thr
  refine v_icmp_eq (tg := 1951) dL_1311 rfl gy gz (fun _ => ?_) (fun q => absurd (e2 s2).1.symm q)
  exact h σ2 (e2 s2).2
theorem lc_38 {E : XE} {d : Nat} {σ : Sto} {i : Int} {K : Sto → Prop} {Q : Res → Sto → Prop} (h0 : 0 ≤ i) (h1 : i + 8 ≤ (E.sa 1001 : Int)) (hL : Lay σ) (hop : OPI E d mX0_mark mX9_mark [aI (scr E (i + 1)), aI (scr E (i + 2))] σ K) (h : ∀ σ2, K σ2 → VV E mLaw (d + 1) 1951 [(3, aI i), (2, aO 555), (1, aO 0), (0, aS 1000)] [] σ2 Q) : VV E mLaw (d + 1) 1316 [(3, aI i), (2, aO 555), (1, aO 0), (0, aS 1000)] [] σ Q := by
  refine v_aload_n 2 dL_1316 rfl rfl ?_
  refine v_sload_n 3 dL_1317 rfl rfl ?_
  refine v_iload_n 0 dL_1318 rfl rfl ?_
  refine v_iconst dL_1319 ?_
  refine v_iadd dL_1320 ?_
  refine v_ialdP (k := i + 1) dL_1321 (by omega) (by omega) (fun iq1321 => ?_)
  refine v_sload_n 3 dL_1322 rfl rfl ?_
  refine v_iload_n 0 dL_1323 rfl rfl ?_
  refine v_iconst dL_1324 ?_
  refine v_iadd dL_1325 ?_
  refine v_ialdP (k := i + 2) dL_1326 (by omega) (by omega) (fun iq1326 => ?_)
  refine v_invV (ci := 0) (as := [aI (scr E (i + 1)), aI (scr E (i + 2))]) (b := 0) (st := []) dL_1327 rfl okX0_mark (Or.inl q1958) q1959 (s_0 hL) rfl q1960 npX0_mark hop (Nat.le_of_ble_eq_true rfl) (Nat.le_refl _) (Nat.le_of_ble_eq_true rfl) (RVI_ret (fun y σ1 gy s1 e1 => ?_)) RVI_thr
  refine v_aload_n 1 dL_1330 rfl rfl ?_
  refine v_sload_n 3 dL_1331 rfl rfl ?_
  refine v_iload_n 0 dL_1332 rfl rfl ?_
  refine v_iconst dL_1333 ?_
  refine v_iadd dL_1334 ?_
  refine v_ialdP (k := i + 1) dL_1335 (by omega) (by omega) (fun iq1335 => ?_)
  refine v_sload_n 3 dL_1336 rfl rfl ?_
  refine v_iload_n 0 dL_1337 rfl rfl ?_
  refine v_iconst dL_1338 ?_
  refine v_iadd dL_1339 ?_
  refine v_ialdP (k := i + 2) dL_1340 (by omega) (by omega) (fun iq1340 => ?_)
  refine v_invV (ci := 9) (as := [aI (scr E (i + 1)), aI (scr E (i + 2))]) (b := 555) (st := [aI y]) dL_1341 rfl okX9_mark (Or.inl q3453) q3454 (s_555 (hL.sf s1)) rfl q3455 npX9_mark (e1 s1) (Nat.le_of_ble_eq_true rfl) (Nat.le_refl _) (Nat.le_of_ble_eq_true rfl) (RVI_ret (fun z σ2 gz s2 e2 => ?_)) RVI_thr
  refine v_icmp_eq (tg := 1951) dL_1344 rfl gy gz (fun _ => ?_) (fun q => absurd (e2 s2).1.symm q)
  exact h σ2 (e2 s2).2
theorem lc_39 {E : XE} {d : Nat} {σ : Sto} {i : Int} {K : Sto → Prop} {Q : Res → Sto → Prop} (h0 : 0 ≤ i) (h1 : i + 8 ≤ (E.sa 1001 : Int)) (hL : Lay σ) (hop : OPI E d mX0_facet mX9_facet [aI (scr E (i + 1))] σ K) (h : ∀ σ2, K σ2 → VV E mLaw (d + 1) 1951 [(3, aI i), (2, aO 555), (1, aO 0), (0, aS 1000)] [] σ2 Q) : VV E mLaw (d + 1) 1349 [(3, aI i), (2, aO 555), (1, aO 0), (0, aS 1000)] [] σ Q := by
  refine v_aload_n 2 dL_1349 rfl rfl ?_
  refine v_sload_n 3 dL_1350 rfl rfl ?_
  refine v_iload_n 0 dL_1351 rfl rfl ?_
  refine v_iconst dL_1352 ?_
  refine v_iadd dL_1353 ?_
  refine v_ialdP (k := i + 1) dL_1354 (by omega) (by omega) (fun iq1354 => ?_)
  refine v_invV (ci := 0) (as := [aI (scr E (i + 1))]) (b := 0) (st := []) dL_1355 rfl okX0_facet (Or.inl q1962) q1963 (s_0 hL) rfl q1964 npX0_facet hop (Nat.le_of_ble_eq_true rfl) (Nat.le_refl _) (Nat.le_of_ble_eq_true rfl) (RVI_ret (fun y σ1 gy s1 e1 => ?_)) RVI_thr
  refine v_aload_n 1 dL_1358 rfl rfl ?_
  refine v_sload_n 3 dL_1359 rfl rfl ?_
  refine v_iload_n 0 dL_1360 rfl rfl ?_
  refine v_iconst dL_1361 ?_
  refine v_iadd dL_1362 ?_
  refine v_ialdP (k := i + 1) dL_1363 (by omega) (by omega) (fun iq1363 => ?_)
  refine v_invV (ci := 9) (as := [aI (scr E (i + 1))]) (b := 555) (st := [aI y]) dL_1364 rfl okX9_facet (Or.inl q3457) q3458 (s_555 (hL.sf s1)) rfl q3459 npX9_facet (e1 s1) (Nat.le_of_ble_eq_true rfl) (Nat.le_refl _) (Nat.le_of_ble_eq_true rfl) (RVI_ret (fun z σ2 gz s2 e2 => ?_)) RVI_thr
  refine v_icmp_eq (tg := 1951) dL_1367 rfl gy gz (fun _ => ?_) (fun q => absurd (e2 s2).1.symm q)
  exact h σ2 (e2 s2).2
theorem lc_40 {E : XE} {d : Nat} {σ : Sto} {i : Int} {K : Sto → Prop} {Q : Res → Sto → Prop} (h0 : 0 ≤ i) (h1 : i + 8 ≤ (E.sa 1001 : Int)) (hL : Lay σ) (hop : OPI E d mX0_histogram mX9_histogram [aI (scr E (i + 1)), aL (b64or (b64shl (scr E (i + 2)) 32) (b64and (scr E (i + 3)) 4294967295))] σ K) (h : ∀ σ2, K σ2 → VV E mLaw (d + 1) 1951 [(3, aI i), (2, aO 555), (1, aO 0), (0, aS 1000)] [] σ2 Q) : VV E mLaw (d + 1) 1372 [(3, aI i), (2, aO 555), (1, aO 0), (0, aS 1000)] [] σ Q := by
  refine v_aload_n 2 dL_1372 rfl rfl ?_
  refine v_sload_n 3 dL_1373 rfl rfl ?_
  refine v_iload_n 0 dL_1374 rfl rfl ?_
  refine v_iconst dL_1375 ?_
  refine v_iadd dL_1376 ?_
  refine v_ialdP (k := i + 1) dL_1377 (by omega) (by omega) (fun iq1377 => ?_)
  refine v_sload_n 3 dL_1378 rfl rfl ?_
  refine v_iload_n 0 dL_1379 rfl rfl ?_
  refine v_iconst dL_1380 ?_
  refine v_iadd dL_1381 ?_
  refine v_ialdP (k := i + 2) dL_1382 (by omega) (by omega) (fun iq1382 => ?_)
  refine v_i2l dL_1383 iq1382 ?_
  refine v_bipush dL_1384 (by decide) ?_
  refine v_lshl dL_1386 ?_
  refine v_sload_n 3 dL_1387 rfl rfl ?_
  refine v_iload_n 0 dL_1388 rfl rfl ?_
  refine v_iconst dL_1389 ?_
  refine v_iadd dL_1390 ?_
  refine v_ialdP (k := i + 3) dL_1391 (by omega) (by omega) (fun iq1391 => ?_)
  refine v_i2l dL_1392 iq1391 ?_
  refine v_ldc2 (x := 4294967295) dL_1393 q3654 rfl ?_
  refine v_land dL_1396 ?_
  refine v_lor dL_1397 ?_
  refine v_invV (ci := 0) (as := [aI (scr E (i + 1)), aL (b64or (b64shl (scr E (i + 2)) 32) (b64and (scr E (i + 3)) 4294967295))]) (b := 0) (st := []) dL_1398 rfl okX0_histogram (Or.inl q1986) q1987 (s_0 hL) rfl q1988 npX0_histogram hop (Nat.le_of_ble_eq_true rfl) (Nat.le_refl _) (Nat.le_of_ble_eq_true rfl) (RVI_ret (fun y σ1 gy s1 e1 => ?_)) RVI_thr
  refine v_aload_n 1 dL_1401 rfl rfl ?_
  refine v_sload_n 3 dL_1402 rfl rfl ?_
  refine v_iload_n 0 dL_1403 rfl rfl ?_
  refine v_iconst dL_1404 ?_
  refine v_iadd dL_1405 ?_
  refine v_ialdP (k := i + 1) dL_1406 (by omega) (by omega) (fun iq1406 => ?_)
  refine v_sload_n 3 dL_1407 rfl rfl ?_
  refine v_iload_n 0 dL_1408 rfl rfl ?_
  refine v_iconst dL_1409 ?_
  refine v_iadd dL_1410 ?_
  refine v_ialdP (k := i + 2) dL_1411 (by omega) (by omega) (fun iq1411 => ?_)
  refine v_i2l dL_1412 iq1411 ?_
  refine v_bipush dL_1413 (by decide) ?_
  refine v_lshl dL_1415 ?_
  refine v_sload_n 3 dL_1416 rfl rfl ?_
  refine v_iload_n 0 dL_1417 rfl rfl ?_
  refine v_iconst dL_1418 ?_
  refine v_iadd dL_1419 ?_
  refine v_ialdP (k := i + 3) dL_1420 (by omega) (by omega) (fun iq1420 => ?_)
  refine v_i2l dL_1421 iq1420 ?_
  refine v_ldc2 (x := 4294967295) dL_1422 q3654 rfl ?_
  refine v_land dL_1425 ?_
  refine v_lor dL_1426 ?_
  refine v_invV (ci := 9) (as := [aI (scr E (i + 1)), aL (b64or (b64shl (scr E (i + 2)) 32) (b64and (scr E (i + 3)) 4294967295))]) (b := 555) (st := [aI y]) dL_1427 rfl okX9_histogram (Or.inl q3488) q3489 (s_555 (hL.sf s1)) rfl q3490 npX9_histogram (e1 s1) (Nat.le_of_ble_eq_true rfl) (Nat.le_refl _) (Nat.le_of_ble_eq_true rfl) (RVI_ret (fun z σ2 gz s2 e2 => ?_)) RVI_thr
  refine v_icmp_eq (tg := 1951) dL_1430 rfl gy gz (fun _ => ?_) (fun q => absurd (e2 s2).1.symm q)
  exact h σ2 (e2 s2).2
theorem lc_41 {E : XE} {d : Nat} {σ : Sto} {i : Int} {K : Sto → Prop} {Q : Res → Sto → Prop} (h0 : 0 ≤ i) (h1 : i + 8 ≤ (E.sa 1001 : Int)) (hL : Lay σ) (hop : OPI E d mX0_group mX9_group [aI (scr E (i + 1)), aI (scr E (i + 2))] σ K) (h : ∀ σ2, K σ2 → VV E mLaw (d + 1) 1951 [(3, aI i), (2, aO 555), (1, aO 0), (0, aS 1000)] [] σ2 Q) : VV E mLaw (d + 1) 1435 [(3, aI i), (2, aO 555), (1, aO 0), (0, aS 1000)] [] σ Q := by
  refine v_aload_n 2 dL_1435 rfl rfl ?_
  refine v_sload_n 3 dL_1436 rfl rfl ?_
  refine v_iload_n 0 dL_1437 rfl rfl ?_
  refine v_iconst dL_1438 ?_
  refine v_iadd dL_1439 ?_
  refine v_ialdP (k := i + 1) dL_1440 (by omega) (by omega) (fun iq1440 => ?_)
  refine v_sload_n 3 dL_1441 rfl rfl ?_
  refine v_iload_n 0 dL_1442 rfl rfl ?_
  refine v_iconst dL_1443 ?_
  refine v_iadd dL_1444 ?_
  refine v_ialdP (k := i + 2) dL_1445 (by omega) (by omega) (fun iq1445 => ?_)
  refine v_invV (ci := 0) (as := [aI (scr E (i + 1)), aI (scr E (i + 2))]) (b := 0) (st := []) dL_1446 rfl okX0_group (Or.inl q1993) q1994 (s_0 hL) rfl q1995 npX0_group hop (Nat.le_of_ble_eq_true rfl) (Nat.le_refl _) (Nat.le_of_ble_eq_true rfl) (RVI_ret (fun y σ1 gy s1 e1 => ?_)) RVI_thr
  refine v_aload_n 1 dL_1449 rfl rfl ?_
  refine v_sload_n 3 dL_1450 rfl rfl ?_
  refine v_iload_n 0 dL_1451 rfl rfl ?_
  refine v_iconst dL_1452 ?_
  refine v_iadd dL_1453 ?_
  refine v_ialdP (k := i + 1) dL_1454 (by omega) (by omega) (fun iq1454 => ?_)
  refine v_sload_n 3 dL_1455 rfl rfl ?_
  refine v_iload_n 0 dL_1456 rfl rfl ?_
  refine v_iconst dL_1457 ?_
  refine v_iadd dL_1458 ?_
  refine v_ialdP (k := i + 2) dL_1459 (by omega) (by omega) (fun iq1459 => ?_)
  refine v_invV (ci := 9) (as := [aI (scr E (i + 1)), aI (scr E (i + 2))]) (b := 555) (st := [aI y]) dL_1460 rfl okX9_group (Or.inl q3492) q3493 (s_555 (hL.sf s1)) rfl q3494 npX9_group (e1 s1) (Nat.le_of_ble_eq_true rfl) (Nat.le_refl _) (Nat.le_of_ble_eq_true rfl) (RVI_ret (fun z σ2 gz s2 e2 => ?_)) RVI_thr
  refine v_icmp_eq (tg := 1951) dL_1463 rfl gy gz (fun _ => ?_) (fun q => absurd (e2 s2).1.symm q)
  exact h σ2 (e2 s2).2
theorem lc_42 {E : XE} {d : Nat} {σ : Sto} {i : Int} {K : Sto → Prop} {Q : Res → Sto → Prop} (h0 : 0 ≤ i) (h1 : i + 8 ≤ (E.sa 1001 : Int)) (hL : Lay σ) (hop : OPL E d mX0_groupOf mX9_groupOf [aI (scr E (i + 1)), aI (scr E (i + 2))] σ K) (h : ∀ σ2, K σ2 → VV E mLaw (d + 1) 1951 [(3, aI i), (2, aO 555), (1, aO 0), (0, aS 1000)] [] σ2 Q) : VV E mLaw (d + 1) 1468 [(3, aI i), (2, aO 555), (1, aO 0), (0, aS 1000)] [] σ Q := by
  refine v_aload_n 2 dL_1468 rfl rfl ?_
  refine v_sload_n 3 dL_1469 rfl rfl ?_
  refine v_iload_n 0 dL_1470 rfl rfl ?_
  refine v_iconst dL_1471 ?_
  refine v_iadd dL_1472 ?_
  refine v_ialdP (k := i + 1) dL_1473 (by omega) (by omega) (fun iq1473 => ?_)
  refine v_sload_n 3 dL_1474 rfl rfl ?_
  refine v_iload_n 0 dL_1475 rfl rfl ?_
  refine v_iconst dL_1476 ?_
  refine v_iadd dL_1477 ?_
  refine v_ialdP (k := i + 2) dL_1478 (by omega) (by omega) (fun iq1478 => ?_)
  refine v_invV (ci := 0) (as := [aI (scr E (i + 1)), aI (scr E (i + 2))]) (b := 0) (st := []) dL_1479 rfl okX0_groupOf (Or.inl q1997) q1998 (s_0 hL) rfl q1999 npX0_groupOf hop (Nat.le_of_ble_eq_true rfl) (Nat.le_refl _) (Nat.le_of_ble_eq_true rfl) (RVL_ret (fun y σ1 gy s1 e1 => ?_)) RVL_thr
  refine v_aload_n 1 dL_1482 rfl rfl ?_
  refine v_sload_n 3 dL_1483 rfl rfl ?_
  refine v_iload_n 0 dL_1484 rfl rfl ?_
  refine v_iconst dL_1485 ?_
  refine v_iadd dL_1486 ?_
  refine v_ialdP (k := i + 1) dL_1487 (by omega) (by omega) (fun iq1487 => ?_)
  refine v_sload_n 3 dL_1488 rfl rfl ?_
  refine v_iload_n 0 dL_1489 rfl rfl ?_
  refine v_iconst dL_1490 ?_
  refine v_iadd dL_1491 ?_
  refine v_ialdP (k := i + 2) dL_1492 (by omega) (by omega) (fun iq1492 => ?_)
  refine v_invV (ci := 9) (as := [aI (scr E (i + 1)), aI (scr E (i + 2))]) (b := 555) (st := [aL y]) dL_1493 rfl okX9_groupOf (Or.inl q3500) q3501 (s_555 (hL.sf s1)) rfl q3502 npX9_groupOf (e1 s1) (Nat.le_of_ble_eq_true rfl) (Nat.le_refl _) (Nat.le_of_ble_eq_true rfl) (RVL_ret (fun z σ2 gz s2 e2 => ?_)) RVL_thr
  refine v_lcmp dL_1496 gy gz ?_
  refine v_if_eq (tg := 1951) dL_1497 rfl (cmp3_in y z) (fun _ => ?_) (fun q => absurd (cmp3_0 (e2 s2).1.symm) q)
  exact h σ2 (e2 s2).2
theorem lc_43 {E : XE} {d : Nat} {σ : Sto} {i : Int} {K : Sto → Prop} {Q : Res → Sto → Prop} (h0 : 0 ≤ i) (h1 : i + 8 ≤ (E.sa 1001 : Int)) (hL : Lay σ) (hop : OPI E d mX0_suggest mX9_suggest [aI (scr E (i + 1)), aI (scr E (i + 2))] σ K) (h : ∀ σ2, K σ2 → VV E mLaw (d + 1) 1951 [(3, aI i), (2, aO 555), (1, aO 0), (0, aS 1000)] [] σ2 Q) : VV E mLaw (d + 1) 1502 [(3, aI i), (2, aO 555), (1, aO 0), (0, aS 1000)] [] σ Q := by
  refine v_aload_n 2 dL_1502 rfl rfl ?_
  refine v_sload_n 3 dL_1503 rfl rfl ?_
  refine v_iload_n 0 dL_1504 rfl rfl ?_
  refine v_iconst dL_1505 ?_
  refine v_iadd dL_1506 ?_
  refine v_ialdP (k := i + 1) dL_1507 (by omega) (by omega) (fun iq1507 => ?_)
  refine v_sload_n 3 dL_1508 rfl rfl ?_
  refine v_iload_n 0 dL_1509 rfl rfl ?_
  refine v_iconst dL_1510 ?_
  refine v_iadd dL_1511 ?_
  refine v_ialdP (k := i + 2) dL_1512 (by omega) (by omega) (fun iq1512 => ?_)
  refine v_invV (ci := 0) (as := [aI (scr E (i + 1)), aI (scr E (i + 2))]) (b := 0) (st := []) dL_1513 rfl okX0_suggest (Or.inl q2001) q2002 (s_0 hL) rfl q2003 npX0_suggest hop (Nat.le_of_ble_eq_true rfl) (Nat.le_refl _) (Nat.le_of_ble_eq_true rfl) (RVI_ret (fun y σ1 gy s1 e1 => ?_)) RVI_thr
  refine v_aload_n 1 dL_1516 rfl rfl ?_
  refine v_sload_n 3 dL_1517 rfl rfl ?_
  refine v_iload_n 0 dL_1518 rfl rfl ?_
  refine v_iconst dL_1519 ?_
  refine v_iadd dL_1520 ?_
  refine v_ialdP (k := i + 1) dL_1521 (by omega) (by omega) (fun iq1521 => ?_)
  refine v_sload_n 3 dL_1522 rfl rfl ?_
  refine v_iload_n 0 dL_1523 rfl rfl ?_
  refine v_iconst dL_1524 ?_
  refine v_iadd dL_1525 ?_
  refine v_ialdP (k := i + 2) dL_1526 (by omega) (by omega) (fun iq1526 => ?_)
  refine v_invV (ci := 9) (as := [aI (scr E (i + 1)), aI (scr E (i + 2))]) (b := 555) (st := [aI y]) dL_1527 rfl okX9_suggest (Or.inl q3504) q3505 (s_555 (hL.sf s1)) rfl q3506 npX9_suggest (e1 s1) (Nat.le_of_ble_eq_true rfl) (Nat.le_refl _) (Nat.le_of_ble_eq_true rfl) (RVI_ret (fun z σ2 gz s2 e2 => ?_)) RVI_thr
  refine v_icmp_eq (tg := 1951) dL_1530 rfl gy gz (fun _ => ?_) (fun q => absurd (e2 s2).1.symm q)
  exact h σ2 (e2 s2).2
theorem lc_44 {E : XE} {d : Nat} {σ : Sto} {i : Int} {K : Sto → Prop} {Q : Res → Sto → Prop} (h0 : 0 ≤ i) (h1 : i + 8 ≤ (E.sa 1001 : Int)) (hL : Lay σ) (hop : OPI E d mX0_spell mX9_spell [aI (scr E (i + 1)), aI (scr E (i + 2))] σ K) (h : ∀ σ2, K σ2 → VV E mLaw (d + 1) 1951 [(3, aI i), (2, aO 555), (1, aO 0), (0, aS 1000)] [] σ2 Q) : VV E mLaw (d + 1) 1535 [(3, aI i), (2, aO 555), (1, aO 0), (0, aS 1000)] [] σ Q := by
  refine v_aload_n 2 dL_1535 rfl rfl ?_
  refine v_sload_n 3 dL_1536 rfl rfl ?_
  refine v_iload_n 0 dL_1537 rfl rfl ?_
  refine v_iconst dL_1538 ?_
  refine v_iadd dL_1539 ?_
  refine v_ialdP (k := i + 1) dL_1540 (by omega) (by omega) (fun iq1540 => ?_)
  refine v_sload_n 3 dL_1541 rfl rfl ?_
  refine v_iload_n 0 dL_1542 rfl rfl ?_
  refine v_iconst dL_1543 ?_
  refine v_iadd dL_1544 ?_
  refine v_ialdP (k := i + 2) dL_1545 (by omega) (by omega) (fun iq1545 => ?_)
  refine v_invV (ci := 0) (as := [aI (scr E (i + 1)), aI (scr E (i + 2))]) (b := 0) (st := []) dL_1546 rfl okX0_spell (Or.inl q2023) q2024 (s_0 hL) rfl q2025 npX0_spell hop (Nat.le_of_ble_eq_true rfl) (Nat.le_refl _) (Nat.le_of_ble_eq_true rfl) (RVI_ret (fun y σ1 gy s1 e1 => ?_)) RVI_thr
  refine v_aload_n 1 dL_1549 rfl rfl ?_
  refine v_sload_n 3 dL_1550 rfl rfl ?_
  refine v_iload_n 0 dL_1551 rfl rfl ?_
  refine v_iconst dL_1552 ?_
  refine v_iadd dL_1553 ?_
  refine v_ialdP (k := i + 1) dL_1554 (by omega) (by omega) (fun iq1554 => ?_)
  refine v_sload_n 3 dL_1555 rfl rfl ?_
  refine v_iload_n 0 dL_1556 rfl rfl ?_
  refine v_iconst dL_1557 ?_
  refine v_iadd dL_1558 ?_
  refine v_ialdP (k := i + 2) dL_1559 (by omega) (by omega) (fun iq1559 => ?_)
  refine v_invV (ci := 9) (as := [aI (scr E (i + 1)), aI (scr E (i + 2))]) (b := 555) (st := [aI y]) dL_1560 rfl okX9_spell (Or.inl q3534) q3535 (s_555 (hL.sf s1)) rfl q3536 npX9_spell (e1 s1) (Nat.le_of_ble_eq_true rfl) (Nat.le_refl _) (Nat.le_of_ble_eq_true rfl) (RVI_ret (fun z σ2 gz s2 e2 => ?_)) RVI_thr
  refine v_icmp_eq (tg := 1951) dL_1563 rfl gy gz (fun _ => ?_) (fun q => absurd (e2 s2).1.symm q)
  exact h σ2 (e2 s2).2
theorem lc_45 {E : XE} {d : Nat} {σ : Sto} {i : Int} {K : Sto → Prop} {Q : Res → Sto → Prop} (h0 : 0 ≤ i) (h1 : i + 8 ≤ (E.sa 1001 : Int)) (hL : Lay σ) (hop : OPI E d mX0_term mX9_term [aI (scr E (i + 1)), aI (scr E (i + 2))] σ K) (h : ∀ σ2, K σ2 → VV E mLaw (d + 1) 1951 [(3, aI i), (2, aO 555), (1, aO 0), (0, aS 1000)] [] σ2 Q) : VV E mLaw (d + 1) 1568 [(3, aI i), (2, aO 555), (1, aO 0), (0, aS 1000)] [] σ Q := by
  refine v_aload_n 2 dL_1568 rfl rfl ?_
  refine v_sload_n 3 dL_1569 rfl rfl ?_
  refine v_iload_n 0 dL_1570 rfl rfl ?_
  refine v_iconst dL_1571 ?_
  refine v_iadd dL_1572 ?_
  refine v_ialdP (k := i + 1) dL_1573 (by omega) (by omega) (fun iq1573 => ?_)
  refine v_sload_n 3 dL_1574 rfl rfl ?_
  refine v_iload_n 0 dL_1575 rfl rfl ?_
  refine v_iconst dL_1576 ?_
  refine v_iadd dL_1577 ?_
  refine v_ialdP (k := i + 2) dL_1578 (by omega) (by omega) (fun iq1578 => ?_)
  refine v_invV (ci := 0) (as := [aI (scr E (i + 1)), aI (scr E (i + 2))]) (b := 0) (st := []) dL_1579 rfl okX0_term (Or.inl q2027) q2028 (s_0 hL) rfl q2029 npX0_term hop (Nat.le_of_ble_eq_true rfl) (Nat.le_refl _) (Nat.le_of_ble_eq_true rfl) (RVI_ret (fun y σ1 gy s1 e1 => ?_)) RVI_thr
  refine v_aload_n 1 dL_1582 rfl rfl ?_
  refine v_sload_n 3 dL_1583 rfl rfl ?_
  refine v_iload_n 0 dL_1584 rfl rfl ?_
  refine v_iconst dL_1585 ?_
  refine v_iadd dL_1586 ?_
  refine v_ialdP (k := i + 1) dL_1587 (by omega) (by omega) (fun iq1587 => ?_)
  refine v_sload_n 3 dL_1588 rfl rfl ?_
  refine v_iload_n 0 dL_1589 rfl rfl ?_
  refine v_iconst dL_1590 ?_
  refine v_iadd dL_1591 ?_
  refine v_ialdP (k := i + 2) dL_1592 (by omega) (by omega) (fun iq1592 => ?_)
  refine v_invV (ci := 9) (as := [aI (scr E (i + 1)), aI (scr E (i + 2))]) (b := 555) (st := [aI y]) dL_1593 rfl okX9_term (Or.inl q3538) q3539 (s_555 (hL.sf s1)) rfl q3540 npX9_term (e1 s1) (Nat.le_of_ble_eq_true rfl) (Nat.le_refl _) (Nat.le_of_ble_eq_true rfl) (RVI_ret (fun z σ2 gz s2 e2 => ?_)) RVI_thr
  refine v_icmp_eq (tg := 1951) dL_1596 rfl gy gz (fun _ => ?_) (fun q => absurd (e2 s2).1.symm q)
  exact h σ2 (e2 s2).2
theorem lc_46 {E : XE} {d : Nat} {σ : Sto} {i : Int} {K : Sto → Prop} {Q : Res → Sto → Prop} (h0 : 0 ≤ i) (h1 : i + 8 ≤ (E.sa 1001 : Int)) (hL : Lay σ) (hop : OPI E d mX0_termByte mX9_termByte [aI (scr E (i + 1)), aI (scr E (i + 2))] σ K) (h : ∀ σ2, K σ2 → VV E mLaw (d + 1) 1951 [(3, aI i), (2, aO 555), (1, aO 0), (0, aS 1000)] [] σ2 Q) : VV E mLaw (d + 1) 1601 [(3, aI i), (2, aO 555), (1, aO 0), (0, aS 1000)] [] σ Q := by
  refine v_aload_n 2 dL_1601 rfl rfl ?_
  refine v_sload_n 3 dL_1602 rfl rfl ?_
  refine v_iload_n 0 dL_1603 rfl rfl ?_
  refine v_iconst dL_1604 ?_
  refine v_iadd dL_1605 ?_
  refine v_ialdP (k := i + 1) dL_1606 (by omega) (by omega) (fun iq1606 => ?_)
  refine v_sload_n 3 dL_1607 rfl rfl ?_
  refine v_iload_n 0 dL_1608 rfl rfl ?_
  refine v_iconst dL_1609 ?_
  refine v_iadd dL_1610 ?_
  refine v_ialdP (k := i + 2) dL_1611 (by omega) (by omega) (fun iq1611 => ?_)
  refine v_invV (ci := 0) (as := [aI (scr E (i + 1)), aI (scr E (i + 2))]) (b := 0) (st := []) dL_1612 rfl okX0_termByte (Or.inl q2031) q2032 (s_0 hL) rfl q2033 npX0_termByte hop (Nat.le_of_ble_eq_true rfl) (Nat.le_refl _) (Nat.le_of_ble_eq_true rfl) (RVI_ret (fun y σ1 gy s1 e1 => ?_)) RVI_thr
  refine v_aload_n 1 dL_1615 rfl rfl ?_
  refine v_sload_n 3 dL_1616 rfl rfl ?_
  refine v_iload_n 0 dL_1617 rfl rfl ?_
  refine v_iconst dL_1618 ?_
  refine v_iadd dL_1619 ?_
  refine v_ialdP (k := i + 1) dL_1620 (by omega) (by omega) (fun iq1620 => ?_)
  refine v_sload_n 3 dL_1621 rfl rfl ?_
  refine v_iload_n 0 dL_1622 rfl rfl ?_
  refine v_iconst dL_1623 ?_
  refine v_iadd dL_1624 ?_
  refine v_ialdP (k := i + 2) dL_1625 (by omega) (by omega) (fun iq1625 => ?_)
  refine v_invV (ci := 9) (as := [aI (scr E (i + 1)), aI (scr E (i + 2))]) (b := 555) (st := [aI y]) dL_1626 rfl okX9_termByte (Or.inl q3542) q3543 (s_555 (hL.sf s1)) rfl q3544 npX9_termByte (e1 s1) (Nat.le_of_ble_eq_true rfl) (Nat.le_refl _) (Nat.le_of_ble_eq_true rfl) (RVI_ret (fun z σ2 gz s2 e2 => ?_)) RVI_thr
  refine v_icmp_eq (tg := 1951) dL_1629 rfl gy gz (fun _ => ?_) (fun q => absurd (e2 s2).1.symm q)
  exact h σ2 (e2 s2).2
theorem lc_47 {E : XE} {d : Nat} {σ : Sto} {i : Int} {K : Sto → Prop} {Q : Res → Sto → Prop} (h0 : 0 ≤ i) (h1 : i + 8 ≤ (E.sa 1001 : Int)) (hL : Lay σ) (hop : OPI E d mX0_like mX9_like [aI (scr E (i + 1)), aI (scr E (i + 2))] σ K) (h : ∀ σ2, K σ2 → VV E mLaw (d + 1) 1951 [(3, aI i), (2, aO 555), (1, aO 0), (0, aS 1000)] [] σ2 Q) : VV E mLaw (d + 1) 1634 [(3, aI i), (2, aO 555), (1, aO 0), (0, aS 1000)] [] σ Q := by
  refine v_aload_n 2 dL_1634 rfl rfl ?_
  refine v_sload_n 3 dL_1635 rfl rfl ?_
  refine v_iload_n 0 dL_1636 rfl rfl ?_
  refine v_iconst dL_1637 ?_
  refine v_iadd dL_1638 ?_
  refine v_ialdP (k := i + 1) dL_1639 (by omega) (by omega) (fun iq1639 => ?_)
  refine v_sload_n 3 dL_1640 rfl rfl ?_
  refine v_iload_n 0 dL_1641 rfl rfl ?_
  refine v_iconst dL_1642 ?_
  refine v_iadd dL_1643 ?_
  refine v_ialdP (k := i + 2) dL_1644 (by omega) (by omega) (fun iq1644 => ?_)
  refine v_invV (ci := 0) (as := [aI (scr E (i + 1)), aI (scr E (i + 2))]) (b := 0) (st := []) dL_1645 rfl okX0_like (Or.inl q2035) q2036 (s_0 hL) rfl q2037 npX0_like hop (Nat.le_of_ble_eq_true rfl) (Nat.le_refl _) (Nat.le_of_ble_eq_true rfl) (RVI_ret (fun y σ1 gy s1 e1 => ?_)) RVI_thr
  refine v_aload_n 1 dL_1648 rfl rfl ?_
  refine v_sload_n 3 dL_1649 rfl rfl ?_
  refine v_iload_n 0 dL_1650 rfl rfl ?_
  refine v_iconst dL_1651 ?_
  refine v_iadd dL_1652 ?_
  refine v_ialdP (k := i + 1) dL_1653 (by omega) (by omega) (fun iq1653 => ?_)
  refine v_sload_n 3 dL_1654 rfl rfl ?_
  refine v_iload_n 0 dL_1655 rfl rfl ?_
  refine v_iconst dL_1656 ?_
  refine v_iadd dL_1657 ?_
  refine v_ialdP (k := i + 2) dL_1658 (by omega) (by omega) (fun iq1658 => ?_)
  refine v_invV (ci := 9) (as := [aI (scr E (i + 1)), aI (scr E (i + 2))]) (b := 555) (st := [aI y]) dL_1659 rfl okX9_like (Or.inl q3546) q3547 (s_555 (hL.sf s1)) rfl q3548 npX9_like (e1 s1) (Nat.le_of_ble_eq_true rfl) (Nat.le_refl _) (Nat.le_of_ble_eq_true rfl) (RVI_ret (fun z σ2 gz s2 e2 => ?_)) RVI_thr
  refine v_icmp_eq (tg := 1951) dL_1662 rfl gy gz (fun _ => ?_) (fun q => absurd (e2 s2).1.symm q)
  exact h σ2 (e2 s2).2
theorem lc_48 {E : XE} {d : Nat} {σ : Sto} {i : Int} {K : Sto → Prop} {Q : Res → Sto → Prop} (h0 : 0 ≤ i) (h1 : i + 8 ≤ (E.sa 1001 : Int)) (hL : Lay σ) (hop : OPI E d mX0_near mX9_near [aI (scr E (i + 1)), aI (scr E (i + 2)), aI (scr E (i + 3)), aI (scr E (i + 4)), aI (scr E (i + 5)), aI (scr E (i + 6)), aI (scr E (i + 7))] σ K) (h : ∀ σ2, K σ2 → VV E mLaw (d + 1) 1951 [(3, aI i), (2, aO 555), (1, aO 0), (0, aS 1000)] [] σ2 Q) : VV E mLaw (d + 1) 1667 [(3, aI i), (2, aO 555), (1, aO 0), (0, aS 1000)] [] σ Q := by
  refine v_aload_n 2 dL_1667 rfl rfl ?_
  refine v_sload_n 3 dL_1668 rfl rfl ?_
  refine v_iload_n 0 dL_1669 rfl rfl ?_
  refine v_iconst dL_1670 ?_
  refine v_iadd dL_1671 ?_
  refine v_ialdP (k := i + 1) dL_1672 (by omega) (by omega) (fun iq1672 => ?_)
  refine v_sload_n 3 dL_1673 rfl rfl ?_
  refine v_iload_n 0 dL_1674 rfl rfl ?_
  refine v_iconst dL_1675 ?_
  refine v_iadd dL_1676 ?_
  refine v_ialdP (k := i + 2) dL_1677 (by omega) (by omega) (fun iq1677 => ?_)
  refine v_sload_n 3 dL_1678 rfl rfl ?_
  refine v_iload_n 0 dL_1679 rfl rfl ?_
  refine v_iconst dL_1680 ?_
  refine v_iadd dL_1681 ?_
  refine v_ialdP (k := i + 3) dL_1682 (by omega) (by omega) (fun iq1682 => ?_)
  refine v_sload_n 3 dL_1683 rfl rfl ?_
  refine v_iload_n 0 dL_1684 rfl rfl ?_
  refine v_iconst dL_1685 ?_
  refine v_iadd dL_1686 ?_
  refine v_ialdP (k := i + 4) dL_1687 (by omega) (by omega) (fun iq1687 => ?_)
  refine v_sload_n 3 dL_1688 rfl rfl ?_
  refine v_iload_n 0 dL_1689 rfl rfl ?_
  refine v_iconst dL_1690 ?_
  refine v_iadd dL_1691 ?_
  refine v_ialdP (k := i + 5) dL_1692 (by omega) (by omega) (fun iq1692 => ?_)
  refine v_sload_n 3 dL_1693 rfl rfl ?_
  refine v_iload_n 0 dL_1694 rfl rfl ?_
  refine v_bipush dL_1695 (by decide) ?_
  refine v_iadd dL_1697 ?_
  refine v_ialdP (k := i + 6) dL_1698 (by omega) (by omega) (fun iq1698 => ?_)
  refine v_sload_n 3 dL_1699 rfl rfl ?_
  refine v_iload_n 0 dL_1700 rfl rfl ?_
  refine v_bipush dL_1701 (by decide) ?_
  refine v_iadd dL_1703 ?_
  refine v_ialdP (k := i + 7) dL_1704 (by omega) (by omega) (fun iq1704 => ?_)
  refine v_invV (ci := 0) (as := [aI (scr E (i + 1)), aI (scr E (i + 2)), aI (scr E (i + 3)), aI (scr E (i + 4)), aI (scr E (i + 5)), aI (scr E (i + 6)), aI (scr E (i + 7))]) (b := 0) (st := []) dL_1705 rfl okX0_near (Or.inl q2059) q2060 (s_0 hL) rfl q2061 npX0_near hop (Nat.le_of_ble_eq_true rfl) (Nat.le_refl _) (Nat.le_of_ble_eq_true rfl) (RVI_ret (fun y σ1 gy s1 e1 => ?_)) RVI_thr
  refine v_aload_n 1 dL_1708 rfl rfl ?_
  refine v_sload_n 3 dL_1709 rfl rfl ?_
  refine v_iload_n 0 dL_1710 rfl rfl ?_
  refine v_iconst dL_1711 ?_
  refine v_iadd dL_1712 ?_
  refine v_ialdP (k := i + 1) dL_1713 (by omega) (by omega) (fun iq1713 => ?_)
  refine v_sload_n 3 dL_1714 rfl rfl ?_
  refine v_iload_n 0 dL_1715 rfl rfl ?_
  refine v_iconst dL_1716 ?_
  refine v_iadd dL_1717 ?_
  refine v_ialdP (k := i + 2) dL_1718 (by omega) (by omega) (fun iq1718 => ?_)
  refine v_sload_n 3 dL_1719 rfl rfl ?_
  refine v_iload_n 0 dL_1720 rfl rfl ?_
  refine v_iconst dL_1721 ?_
  refine v_iadd dL_1722 ?_
  refine v_ialdP (k := i + 3) dL_1723 (by omega) (by omega) (fun iq1723 => ?_)
  refine v_sload_n 3 dL_1724 rfl rfl ?_
  refine v_iload_n 0 dL_1725 rfl rfl ?_
  refine v_iconst dL_1726 ?_
  refine v_iadd dL_1727 ?_
  refine v_ialdP (k := i + 4) dL_1728 (by omega) (by omega) (fun iq1728 => ?_)
  refine v_sload_n 3 dL_1729 rfl rfl ?_
  refine v_iload_n 0 dL_1730 rfl rfl ?_
  refine v_iconst dL_1731 ?_
  refine v_iadd dL_1732 ?_
  refine v_ialdP (k := i + 5) dL_1733 (by omega) (by omega) (fun iq1733 => ?_)
  refine v_sload_n 3 dL_1734 rfl rfl ?_
  refine v_iload_n 0 dL_1735 rfl rfl ?_
  refine v_bipush dL_1736 (by decide) ?_
  refine v_iadd dL_1738 ?_
  refine v_ialdP (k := i + 6) dL_1739 (by omega) (by omega) (fun iq1739 => ?_)
  refine v_sload_n 3 dL_1740 rfl rfl ?_
  refine v_iload_n 0 dL_1741 rfl rfl ?_
  refine v_bipush dL_1742 (by decide) ?_
  refine v_iadd dL_1744 ?_
  refine v_ialdP (k := i + 7) dL_1745 (by omega) (by omega) (fun iq1745 => ?_)
  refine v_invV (ci := 9) (as := [aI (scr E (i + 1)), aI (scr E (i + 2)), aI (scr E (i + 3)), aI (scr E (i + 4)), aI (scr E (i + 5)), aI (scr E (i + 6)), aI (scr E (i + 7))]) (b := 555) (st := [aI y]) dL_1746 rfl okX9_near (Or.inl q3562) q3563 (s_555 (hL.sf s1)) rfl q3564 npX9_near (e1 s1) (Nat.le_of_ble_eq_true rfl) (Nat.le_refl _) (Nat.le_of_ble_eq_true rfl) (RVI_ret (fun z σ2 gz s2 e2 => ?_)) RVI_thr
  refine v_icmp_eq (tg := 1951) dL_1749 rfl gy gz (fun _ => ?_) (fun q => absurd (e2 s2).1.symm q)
  exact h σ2 (e2 s2).2
theorem lc_49 {E : XE} {d : Nat} {σ : Sto} {i : Int} {K : Sto → Prop} {Q : Res → Sto → Prop} (h0 : 0 ≤ i) (h1 : i + 8 ≤ (E.sa 1001 : Int)) (hL : Lay σ) (hop : OPI E d mX0_percolate mX9_percolate [] σ K) (h : ∀ σ2, K σ2 → VV E mLaw (d + 1) 1951 [(3, aI i), (2, aO 555), (1, aO 0), (0, aS 1000)] [] σ2 Q) : VV E mLaw (d + 1) 1754 [(3, aI i), (2, aO 555), (1, aO 0), (0, aS 1000)] [] σ Q := by
  refine v_aload_n 2 dL_1754 rfl rfl ?_
  refine v_invV (ci := 0) (as := []) (b := 0) (st := []) dL_1755 rfl okX0_percolate (Or.inl q2068) q2069 (s_0 hL) rfl q2070 npX0_percolate hop (Nat.le_of_ble_eq_true rfl) (Nat.le_refl _) (Nat.le_of_ble_eq_true rfl) (RVI_ret (fun y σ1 gy s1 e1 => ?_)) RVI_thr
  refine v_aload_n 1 dL_1758 rfl rfl ?_
  refine v_invV (ci := 9) (as := []) (b := 555) (st := [aI y]) dL_1759 rfl okX9_percolate (Or.inl q3574) q3575 (s_555 (hL.sf s1)) rfl q3576 npX9_percolate (e1 s1) (Nat.le_of_ble_eq_true rfl) (Nat.le_refl _) (Nat.le_of_ble_eq_true rfl) (RVI_ret (fun z σ2 gz s2 e2 => ?_)) RVI_thr
  refine v_icmp_eq (tg := 1951) dL_1762 rfl gy gz (fun _ => ?_) (fun q => absurd (e2 s2).1.symm q)
  exact h σ2 (e2 s2).2
theorem lc_50 {E : XE} {d : Nat} {σ : Sto} {i : Int} {K : Sto → Prop} {Q : Res → Sto → Prop} (h0 : 0 ≤ i) (h1 : i + 8 ≤ (E.sa 1001 : Int)) (hL : Lay σ) (hop : OPI E d mX0_matched mX9_matched [aI (scr E (i + 1))] σ K) (h : ∀ σ2, K σ2 → VV E mLaw (d + 1) 1951 [(3, aI i), (2, aO 555), (1, aO 0), (0, aS 1000)] [] σ2 Q) : VV E mLaw (d + 1) 1767 [(3, aI i), (2, aO 555), (1, aO 0), (0, aS 1000)] [] σ Q := by
  refine v_aload_n 2 dL_1767 rfl rfl ?_
  refine v_sload_n 3 dL_1768 rfl rfl ?_
  refine v_iload_n 0 dL_1769 rfl rfl ?_
  refine v_iconst dL_1770 ?_
  refine v_iadd dL_1771 ?_
  refine v_ialdP (k := i + 1) dL_1772 (by omega) (by omega) (fun iq1772 => ?_)
  refine v_invV (ci := 0) (as := [aI (scr E (i + 1))]) (b := 0) (st := []) dL_1773 rfl okX0_matched (Or.inl q2076) q2077 (s_0 hL) rfl q2078 npX0_matched hop (Nat.le_of_ble_eq_true rfl) (Nat.le_refl _) (Nat.le_of_ble_eq_true rfl) (RVI_ret (fun y σ1 gy s1 e1 => ?_)) RVI_thr
  refine v_aload_n 1 dL_1776 rfl rfl ?_
  refine v_sload_n 3 dL_1777 rfl rfl ?_
  refine v_iload_n 0 dL_1778 rfl rfl ?_
  refine v_iconst dL_1779 ?_
  refine v_iadd dL_1780 ?_
  refine v_ialdP (k := i + 1) dL_1781 (by omega) (by omega) (fun iq1781 => ?_)
  refine v_invV (ci := 9) (as := [aI (scr E (i + 1))]) (b := 555) (st := [aI y]) dL_1782 rfl okX9_matched (Or.inl q3578) q3579 (s_555 (hL.sf s1)) rfl q3580 npX9_matched (e1 s1) (Nat.le_of_ble_eq_true rfl) (Nat.le_refl _) (Nat.le_of_ble_eq_true rfl) (RVI_ret (fun z σ2 gz s2 e2 => ?_)) RVI_thr
  refine v_icmp_eq (tg := 1951) dL_1785 rfl gy gz (fun _ => ?_) (fun q => absurd (e2 s2).1.symm q)
  exact h σ2 (e2 s2).2
theorem lc_51 {E : XE} {d : Nat} {σ : Sto} {i : Int} {K : Sto → Prop} {Q : Res → Sto → Prop} (h0 : 0 ≤ i) (h1 : i + 8 ≤ (E.sa 1001 : Int)) (hL : Lay σ) (hop : OPI E d mX0_spread mX9_spread [aI (scr E (i + 1)), aI (scr E (i + 2))] σ K) (h : ∀ σ2, K σ2 → VV E mLaw (d + 1) 1951 [(3, aI i), (2, aO 555), (1, aO 0), (0, aS 1000)] [] σ2 Q) : VV E mLaw (d + 1) 1790 [(3, aI i), (2, aO 555), (1, aO 0), (0, aS 1000)] [] σ Q := by
  refine v_aload_n 2 dL_1790 rfl rfl ?_
  refine v_sload_n 3 dL_1791 rfl rfl ?_
  refine v_iload_n 0 dL_1792 rfl rfl ?_
  refine v_iconst dL_1793 ?_
  refine v_iadd dL_1794 ?_
  refine v_ialdP (k := i + 1) dL_1795 (by omega) (by omega) (fun iq1795 => ?_)
  refine v_sload_n 3 dL_1796 rfl rfl ?_
  refine v_iload_n 0 dL_1797 rfl rfl ?_
  refine v_iconst dL_1798 ?_
  refine v_iadd dL_1799 ?_
  refine v_ialdP (k := i + 2) dL_1800 (by omega) (by omega) (fun iq1800 => ?_)
  refine v_invV (ci := 0) (as := [aI (scr E (i + 1)), aI (scr E (i + 2))]) (b := 0) (st := []) dL_1801 rfl okX0_spread (Or.inl q2080) q2081 (s_0 hL) rfl q2082 npX0_spread hop (Nat.le_of_ble_eq_true rfl) (Nat.le_refl _) (Nat.le_of_ble_eq_true rfl) (RVI_ret (fun y σ1 gy s1 e1 => ?_)) RVI_thr
  refine v_aload_n 1 dL_1804 rfl rfl ?_
  refine v_sload_n 3 dL_1805 rfl rfl ?_
  refine v_iload_n 0 dL_1806 rfl rfl ?_
  refine v_iconst dL_1807 ?_
  refine v_iadd dL_1808 ?_
  refine v_ialdP (k := i + 1) dL_1809 (by omega) (by omega) (fun iq1809 => ?_)
  refine v_sload_n 3 dL_1810 rfl rfl ?_
  refine v_iload_n 0 dL_1811 rfl rfl ?_
  refine v_iconst dL_1812 ?_
  refine v_iadd dL_1813 ?_
  refine v_ialdP (k := i + 2) dL_1814 (by omega) (by omega) (fun iq1814 => ?_)
  refine v_invV (ci := 9) (as := [aI (scr E (i + 1)), aI (scr E (i + 2))]) (b := 555) (st := [aI y]) dL_1815 rfl okX9_spread (Or.inl q3027) q2221 (s_555 (hL.sf s1)) rfl q2222 npX9_spread (e1 s1) (Nat.le_of_ble_eq_true rfl) (Nat.le_refl _) (Nat.le_of_ble_eq_true rfl) (RVI_ret (fun z σ2 gz s2 e2 => ?_)) RVI_thr
  refine v_icmp_eq (tg := 1951) dL_1818 rfl gy gz (fun _ => ?_) (fun q => absurd (e2 s2).1.symm q)
  exact h σ2 (e2 s2).2
theorem lc_52 {E : XE} {d : Nat} {σ : Sto} {i : Int} {K : Sto → Prop} {Q : Res → Sto → Prop} (h0 : 0 ≤ i) (h1 : i + 8 ≤ (E.sa 1001 : Int)) (hL : Lay σ) (hop : OPI E d mX0_lose mX9_lose [aI (scr E (i + 1)), aI (scr E (i + 2))] σ K) (h : ∀ σ2, K σ2 → VV E mLaw (d + 1) 1951 [(3, aI i), (2, aO 555), (1, aO 0), (0, aS 1000)] [] σ2 Q) : VV E mLaw (d + 1) 1823 [(3, aI i), (2, aO 555), (1, aO 0), (0, aS 1000)] [] σ Q := by
  refine v_aload_n 2 dL_1823 rfl rfl ?_
  refine v_sload_n 3 dL_1824 rfl rfl ?_
  refine v_iload_n 0 dL_1825 rfl rfl ?_
  refine v_iconst dL_1826 ?_
  refine v_iadd dL_1827 ?_
  refine v_ialdP (k := i + 1) dL_1828 (by omega) (by omega) (fun iq1828 => ?_)
  refine v_sload_n 3 dL_1829 rfl rfl ?_
  refine v_iload_n 0 dL_1830 rfl rfl ?_
  refine v_iconst dL_1831 ?_
  refine v_iadd dL_1832 ?_
  refine v_ialdP (k := i + 2) dL_1833 (by omega) (by omega) (fun iq1833 => ?_)
  refine v_invV (ci := 0) (as := [aI (scr E (i + 1)), aI (scr E (i + 2))]) (b := 0) (st := []) dL_1834 rfl okX0_lose (Or.inl q2084) q2085 (s_0 hL) rfl q2086 npX0_lose hop (Nat.le_of_ble_eq_true rfl) (Nat.le_refl _) (Nat.le_of_ble_eq_true rfl) (RVI_ret (fun y σ1 gy s1 e1 => ?_)) RVI_thr
  refine v_aload_n 1 dL_1837 rfl rfl ?_
  refine v_sload_n 3 dL_1838 rfl rfl ?_
  refine v_iload_n 0 dL_1839 rfl rfl ?_
  refine v_iconst dL_1840 ?_
  refine v_iadd dL_1841 ?_
  refine v_ialdP (k := i + 1) dL_1842 (by omega) (by omega) (fun iq1842 => ?_)
  refine v_sload_n 3 dL_1843 rfl rfl ?_
  refine v_iload_n 0 dL_1844 rfl rfl ?_
  refine v_iconst dL_1845 ?_
  refine v_iadd dL_1846 ?_
  refine v_ialdP (k := i + 2) dL_1847 (by omega) (by omega) (fun iq1847 => ?_)
  refine v_invV (ci := 9) (as := [aI (scr E (i + 1)), aI (scr E (i + 2))]) (b := 555) (st := [aI y]) dL_1848 rfl okX9_lose (Or.inl q3028) q3029 (s_555 (hL.sf s1)) rfl q3030 npX9_lose (e1 s1) (Nat.le_of_ble_eq_true rfl) (Nat.le_refl _) (Nat.le_of_ble_eq_true rfl) (RVI_ret (fun z σ2 gz s2 e2 => ?_)) RVI_thr
  refine v_icmp_eq (tg := 1951) dL_1851 rfl gy gz (fun _ => ?_) (fun q => absurd (e2 s2).1.symm q)
  exact h σ2 (e2 s2).2
theorem lc_53 {E : XE} {d : Nat} {σ : Sto} {i : Int} {K : Sto → Prop} {Q : Res → Sto → Prop} (h0 : 0 ≤ i) (h1 : i + 8 ≤ (E.sa 1001 : Int)) (hL : Lay σ) (hop : OPI E d mX0_route mX9_route [aI (scr E (i + 1))] σ K) (h : ∀ σ2, K σ2 → VV E mLaw (d + 1) 1951 [(3, aI i), (2, aO 555), (1, aO 0), (0, aS 1000)] [] σ2 Q) : VV E mLaw (d + 1) 1856 [(3, aI i), (2, aO 555), (1, aO 0), (0, aS 1000)] [] σ Q := by
  refine v_aload_n 2 dL_1856 rfl rfl ?_
  refine v_sload_n 3 dL_1857 rfl rfl ?_
  refine v_iload_n 0 dL_1858 rfl rfl ?_
  refine v_iconst dL_1859 ?_
  refine v_iadd dL_1860 ?_
  refine v_ialdP (k := i + 1) dL_1861 (by omega) (by omega) (fun iq1861 => ?_)
  refine v_invV (ci := 0) (as := [aI (scr E (i + 1))]) (b := 0) (st := []) dL_1862 rfl okX0_route (Or.inl q2088) q2089 (s_0 hL) rfl q2090 npX0_route hop (Nat.le_of_ble_eq_true rfl) (Nat.le_refl _) (Nat.le_of_ble_eq_true rfl) (RVI_ret (fun y σ1 gy s1 e1 => ?_)) RVI_thr
  refine v_aload_n 1 dL_1865 rfl rfl ?_
  refine v_sload_n 3 dL_1866 rfl rfl ?_
  refine v_iload_n 0 dL_1867 rfl rfl ?_
  refine v_iconst dL_1868 ?_
  refine v_iadd dL_1869 ?_
  refine v_ialdP (k := i + 1) dL_1870 (by omega) (by omega) (fun iq1870 => ?_)
  refine v_invV (ci := 9) (as := [aI (scr E (i + 1))]) (b := 555) (st := [aI y]) dL_1871 rfl okX9_route (Or.inl q3036) q3037 (s_555 (hL.sf s1)) rfl q3038 npX9_route (e1 s1) (Nat.le_of_ble_eq_true rfl) (Nat.le_refl _) (Nat.le_of_ble_eq_true rfl) (RVI_ret (fun z σ2 gz s2 e2 => ?_)) RVI_thr
  refine v_icmp_eq (tg := 1951) dL_1874 rfl gy gz (fun _ => ?_) (fun q => absurd (e2 s2).1.symm q)
  exact h σ2 (e2 s2).2
theorem lc_54 {E : XE} {d : Nat} {σ : Sto} {i : Int} {K : Sto → Prop} {Q : Res → Sto → Prop} (h0 : 0 ≤ i) (h1 : i + 8 ≤ (E.sa 1001 : Int)) (hL : Lay σ) (hop : OPI E d mX0_asked mX9_asked [aI (scr E (i + 1))] σ K) (h : ∀ σ2, K σ2 → VV E mLaw (d + 1) 1951 [(3, aI i), (2, aO 555), (1, aO 0), (0, aS 1000)] [] σ2 Q) : VV E mLaw (d + 1) 1879 [(3, aI i), (2, aO 555), (1, aO 0), (0, aS 1000)] [] σ Q := by
  refine v_aload_n 2 dL_1879 rfl rfl ?_
  refine v_sload_n 3 dL_1880 rfl rfl ?_
  refine v_iload_n 0 dL_1881 rfl rfl ?_
  refine v_iconst dL_1882 ?_
  refine v_iadd dL_1883 ?_
  refine v_ialdP (k := i + 1) dL_1884 (by omega) (by omega) (fun iq1884 => ?_)
  refine v_invV (ci := 0) (as := [aI (scr E (i + 1))]) (b := 0) (st := []) dL_1885 rfl okX0_asked (Or.inl q2092) q2093 (s_0 hL) rfl q2094 npX0_asked hop (Nat.le_of_ble_eq_true rfl) (Nat.le_refl _) (Nat.le_of_ble_eq_true rfl) (RVI_ret (fun y σ1 gy s1 e1 => ?_)) RVI_thr
  refine v_aload_n 1 dL_1888 rfl rfl ?_
  refine v_sload_n 3 dL_1889 rfl rfl ?_
  refine v_iload_n 0 dL_1890 rfl rfl ?_
  refine v_iconst dL_1891 ?_
  refine v_iadd dL_1892 ?_
  refine v_ialdP (k := i + 1) dL_1893 (by omega) (by omega) (fun iq1893 => ?_)
  refine v_invV (ci := 9) (as := [aI (scr E (i + 1))]) (b := 555) (st := [aI y]) dL_1894 rfl okX9_asked (Or.inl q3044) q3045 (s_555 (hL.sf s1)) rfl q3046 npX9_asked (e1 s1) (Nat.le_of_ble_eq_true rfl) (Nat.le_refl _) (Nat.le_of_ble_eq_true rfl) (RVI_ret (fun z σ2 gz s2 e2 => ?_)) RVI_thr
  refine v_icmp_eq (tg := 1951) dL_1897 rfl gy gz (fun _ => ?_) (fun q => absurd (e2 s2).1.symm q)
  exact h σ2 (e2 s2).2
theorem lc_55 {E : XE} {d : Nat} {σ : Sto} {i : Int} {K : Sto → Prop} {Q : Res → Sto → Prop} (h0 : 0 ≤ i) (h1 : i + 8 ≤ (E.sa 1001 : Int)) (hL : Lay σ) (hop : OPI E d mX0_export mX9_export [] σ K) (h : ∀ σ2, K σ2 → VV E mLaw (d + 1) 1951 [(3, aI i), (2, aO 555), (1, aO 0), (0, aS 1000)] [] σ2 Q) : VV E mLaw (d + 1) 1902 [(3, aI i), (2, aO 555), (1, aO 0), (0, aS 1000)] [] σ Q := by
  refine v_aload_n 2 dL_1902 rfl rfl ?_
  refine v_invV (ci := 0) (as := []) (b := 0) (st := []) dL_1903 rfl okX0_export (Or.inl q2096) q2097 (s_0 hL) rfl q2098 npX0_export hop (Nat.le_of_ble_eq_true rfl) (Nat.le_refl _) (Nat.le_of_ble_eq_true rfl) (RVI_ret (fun y σ1 gy s1 e1 => ?_)) RVI_thr
  refine v_aload_n 1 dL_1906 rfl rfl ?_
  refine v_invV (ci := 9) (as := []) (b := 555) (st := [aI y]) dL_1907 rfl okX9_export (Or.inl q3582) q3583 (s_555 (hL.sf s1)) rfl q3584 npX9_export (e1 s1) (Nat.le_of_ble_eq_true rfl) (Nat.le_refl _) (Nat.le_of_ble_eq_true rfl) (RVI_ret (fun z σ2 gz s2 e2 => ?_)) RVI_thr
  refine v_icmp_eq (tg := 1951) dL_1910 rfl gy gz (fun _ => ?_) (fun q => absurd (e2 s2).1.symm q)
  exact h σ2 (e2 s2).2
theorem lc_56 {E : XE} {d : Nat} {σ : Sto} {i : Int} {K : Sto → Prop} {Q : Res → Sto → Prop} (h0 : 0 ≤ i) (h1 : i + 8 ≤ (E.sa 1001 : Int)) (hL : Lay σ) (hop : OPI E d mX0_written mX9_written [aI (scr E (i + 1))] σ K) (h : ∀ σ2, K σ2 → VV E mLaw (d + 1) 1951 [(3, aI i), (2, aO 555), (1, aO 0), (0, aS 1000)] [] σ2 Q) : VV E mLaw (d + 1) 1915 [(3, aI i), (2, aO 555), (1, aO 0), (0, aS 1000)] [] σ Q := by
  refine v_aload_n 2 dL_1915 rfl rfl ?_
  refine v_sload_n 3 dL_1916 rfl rfl ?_
  refine v_iload_n 0 dL_1917 rfl rfl ?_
  refine v_iconst dL_1918 ?_
  refine v_iadd dL_1919 ?_
  refine v_ialdP (k := i + 1) dL_1920 (by omega) (by omega) (fun iq1920 => ?_)
  refine v_invV (ci := 0) (as := [aI (scr E (i + 1))]) (b := 0) (st := []) dL_1921 rfl okX0_written (Or.inl q2121) q2122 (s_0 hL) rfl q2123 npX0_written hop (Nat.le_of_ble_eq_true rfl) (Nat.le_refl _) (Nat.le_of_ble_eq_true rfl) (RVI_ret (fun y σ1 gy s1 e1 => ?_)) RVI_thr
  refine v_aload_n 1 dL_1924 rfl rfl ?_
  refine v_sload_n 3 dL_1925 rfl rfl ?_
  refine v_iload_n 0 dL_1926 rfl rfl ?_
  refine v_iconst dL_1927 ?_
  refine v_iadd dL_1928 ?_
  refine v_ialdP (k := i + 1) dL_1929 (by omega) (by omega) (fun iq1929 => ?_)
  refine v_invV (ci := 9) (as := [aI (scr E (i + 1))]) (b := 555) (st := [aI y]) dL_1930 rfl okX9_written (Or.inl q3607) q3608 (s_555 (hL.sf s1)) rfl q3609 npX9_written (e1 s1) (Nat.le_of_ble_eq_true rfl) (Nat.le_refl _) (Nat.le_of_ble_eq_true rfl) (RVI_ret (fun z σ2 gz s2 e2 => ?_)) RVI_thr
  refine v_icmp_eq (tg := 1951) dL_1933 rfl gy gz (fun _ => ?_) (fun q => absurd (e2 s2).1.symm q)
  exact h σ2 (e2 s2).2
theorem lc_57 {E : XE} {d : Nat} {σ : Sto} {i : Int} {K : Sto → Prop} {Q : Res → Sto → Prop} (h0 : 0 ≤ i) (h1 : i + 8 ≤ (E.sa 1001 : Int)) (hL : Lay σ) (hop : OPI E d mX0_imported mX9_imported [] σ K) (h : ∀ σ2, K σ2 → VV E mLaw (d + 1) 1951 [(3, aI i), (2, aO 555), (1, aO 0), (0, aS 1000)] [] σ2 Q) : VV E mLaw (d + 1) 1938 [(3, aI i), (2, aO 555), (1, aO 0), (0, aS 1000)] [] σ Q := by
  refine v_aload_n 2 dL_1938 rfl rfl ?_
  refine v_invV (ci := 0) (as := []) (b := 0) (st := []) dL_1939 rfl okX0_imported (Or.inl q2125) q2126 (s_0 hL) rfl q2127 npX0_imported hop (Nat.le_of_ble_eq_true rfl) (Nat.le_refl _) (Nat.le_of_ble_eq_true rfl) (RVI_ret (fun y σ1 gy s1 e1 => ?_)) RVI_thr
  refine v_aload_n 1 dL_1942 rfl rfl ?_
  refine v_invV (ci := 9) (as := []) (b := 555) (st := [aI y]) dL_1943 rfl okX9_imported (Or.inl q3611) q3612 (s_555 (hL.sf s1)) rfl q3613 npX9_imported (e1 s1) (Nat.le_of_ble_eq_true rfl) (Nat.le_refl _) (Nat.le_of_ble_eq_true rfl) (RVI_ret (fun z σ2 gz s2 e2 => ?_)) RVI_thr
  refine v_icmp_eq (tg := 1951) dL_1946 rfl gy gz (fun _ => ?_) (fun q => absurd (e2 s2).1.symm q)
  exact h σ2 (e2 s2).2
def OP_feed (E : XE) (d : Nat) (R : Nat → Sto → Prop) : Prop := ∀ (k : Nat) (σ : Sto), k < 64 → R k σ → ∀ x1 x2 x3 x4 x5 : Int, inR x1 → inR x2 → inR x3 → inR x4 → inR x5 → OPI E d mX0_feed mX9_feed [aI x1, aI x2, aI x3, aI x4, aI x5] σ (R (k + 1))
def OP_cut (E : XE) (d : Nat) (R : Nat → Sto → Prop) : Prop := ∀ (k : Nat) (σ : Sto), k < 64 → R k σ → ∀ x1 : Int, inR x1 → OPI E d mX0_cut mX9_cut [aI x1] σ (R (k + 1))
def OP_analyser (E : XE) (d : Nat) (R : Nat → Sto → Prop) : Prop := ∀ (k : Nat) (σ : Sto), k < 64 → R k σ → ∀ x1 x2 x3 : Int, inR x1 → inR x2 → inR x3 → OPI E d mX0_analyser mX9_analyser [aI x1, aI x2, aI x3] σ (R (k + 1))
def OP_stop (E : XE) (d : Nat) (R : Nat → Sto → Prop) : Prop := ∀ (k : Nat) (σ : Sto), k < 64 → R k σ → ∀ x1 : Int, inR x1 → OPI E d mX0_stop mX9_stop [aI x1] σ (R (k + 1))
def OP_synonym (E : XE) (d : Nat) (R : Nat → Sto → Prop) : Prop := ∀ (k : Nat) (σ : Sto), k < 64 → R k σ → ∀ x1 : Int, inR x1 → OPI E d mX0_synonym mX9_synonym [aI x1] σ (R (k + 1))
def OP_analyse (E : XE) (d : Nat) (R : Nat → Sto → Prop) : Prop := ∀ (k : Nat) (σ : Sto), k < 64 → R k σ → ∀ x1 : Int, inR x1 → OPI E d mX0_analyse mX9_analyse [aI x1] σ (R (k + 1))
def OP_token (E : XE) (d : Nat) (R : Nat → Sto → Prop) : Prop := ∀ (k : Nat) (σ : Sto), k < 64 → R k σ → ∀ x1 x2 : Int, inR x1 → inR x2 → OPI E d mX0_token mX9_token [aI x1, aI x2] σ (R (k + 1))
def OP_letter (E : XE) (d : Nat) (R : Nat → Sto → Prop) : Prop := ∀ (k : Nat) (σ : Sto), k < 64 → R k σ → ∀ x1 x2 : Int, inR x1 → inR x2 → OPI E d mX0_letter mX9_letter [aI x1, aI x2] σ (R (k + 1))
def OP_field (E : XE) (d : Nat) (R : Nat → Sto → Prop) : Prop := ∀ (k : Nat) (σ : Sto), k < 64 → R k σ → ∀ x1 x2 : Int, inR x1 → inR x2 → OPI E d mX0_field mX9_field [aI x1, aI x2] σ (R (k + 1))
def OP_text (E : XE) (d : Nat) (R : Nat → Sto → Prop) : Prop := ∀ (k : Nat) (σ : Sto), k < 64 → R k σ → ∀ x1 : Int, inR x1 → OPI E d mX0_text mX9_text [aI x1] σ (R (k + 1))
def OP_number (E : XE) (d : Nat) (R : Nat → Sto → Prop) : Prop := ∀ (k : Nat) (σ : Sto), k < 64 → R k σ → ∀ x1 y2 : Int, inR x1 → inL y2 → OPI E d mX0_number mX9_number [aI x1, aL y2] σ (R (k + 1))
def OP_place (E : XE) (d : Nat) (R : Nat → Sto → Prop) : Prop := ∀ (k : Nat) (σ : Sto), k < 64 → R k σ → ∀ x1 x2 x3 : Int, inR x1 → inR x2 → inR x3 → OPI E d mX0_place mX9_place [aI x1, aI x2, aI x3] σ (R (k + 1))
def OP_row (E : XE) (d : Nat) (R : Nat → Sto → Prop) : Prop := ∀ (k : Nat) (σ : Sto), k < 64 → R k σ → ∀ x1 x2 x3 x4 x5 : Int, inR x1 → inR x2 → inR x3 → inR x4 → inR x5 → OPI E d mX0_row mX9_row [aI x1, aI x2, aI x3, aI x4, aI x5] σ (R (k + 1))
def OP_discard (E : XE) (d : Nat) (R : Nat → Sto → Prop) : Prop := ∀ (k : Nat) (σ : Sto), k < 64 → R k σ → OPI E d mX0_discard mX9_discard [] σ (R (k + 1))
def OP_add (E : XE) (d : Nat) (R : Nat → Sto → Prop) : Prop := ∀ (k : Nat) (σ : Sto), k < 64 → R k σ → ∀ x1 : Int, inR x1 → OPI E d mX0_add mX9_add [aI x1] σ (R (k + 1))
def OP_remove (E : XE) (d : Nat) (R : Nat → Sto → Prop) : Prop := ∀ (k : Nat) (σ : Sto), k < 64 → R k σ → ∀ x1 : Int, inR x1 → OPI E d mX0_remove mX9_remove [aI x1] σ (R (k + 1))
def OP_refresh (E : XE) (d : Nat) (R : Nat → Sto → Prop) : Prop := ∀ (k : Nat) (σ : Sto), k < 64 → R k σ → OPI E d mX0_refresh mX9_refresh [] σ (R (k + 1))
def OP_pin (E : XE) (d : Nat) (R : Nat → Sto → Prop) : Prop := ∀ (k : Nat) (σ : Sto), k < 64 → R k σ → OPI E d mX0_pin mX9_pin [] σ (R (k + 1))
def OP_unpin (E : XE) (d : Nat) (R : Nat → Sto → Prop) : Prop := ∀ (k : Nat) (σ : Sto), k < 64 → R k σ → ∀ x1 : Int, inR x1 → OPI E d mX0_unpin mX9_unpin [aI x1] σ (R (k + 1))
def OP_sweep (E : XE) (d : Nat) (R : Nat → Sto → Prop) : Prop := ∀ (k : Nat) (σ : Sto), k < 64 → R k σ → OPI E d mX0_sweep mX9_sweep [] σ (R (k + 1))
def OP_commit (E : XE) (d : Nat) (R : Nat → Sto → Prop) : Prop := ∀ (k : Nat) (σ : Sto), k < 64 → R k σ → OPI E d mX0_commit mX9_commit [] σ (R (k + 1))
def OP_crash (E : XE) (d : Nat) (R : Nat → Sto → Prop) : Prop := ∀ (k : Nat) (σ : Sto), k < 64 → R k σ → OPI E d mX0_crash mX9_crash [] σ (R (k + 1))
def OP_told (E : XE) (d : Nat) (R : Nat → Sto → Prop) : Prop := ∀ (k : Nat) (σ : Sto), k < 64 → R k σ → ∀ x1 : Int, inR x1 → OPI E d mX0_told mX9_told [aI x1] σ (R (k + 1))
def OP_question (E : XE) (d : Nat) (R : Nat → Sto → Prop) : Prop := ∀ (k : Nat) (σ : Sto), k < 64 → R k σ → OPI E d mX0_question mX9_question [] σ (R (k + 1))
def OP_keep (E : XE) (d : Nat) (R : Nat → Sto → Prop) : Prop := ∀ (k : Nat) (σ : Sto), k < 64 → R k σ → OPI E d mX0_keep mX9_keep [] σ (R (k + 1))
def OP_use (E : XE) (d : Nat) (R : Nat → Sto → Prop) : Prop := ∀ (k : Nat) (σ : Sto), k < 64 → R k σ → ∀ x1 : Int, inR x1 → OPI E d mX0_use mX9_use [aI x1] σ (R (k + 1))
def OP_user (E : XE) (d : Nat) (R : Nat → Sto → Prop) : Prop := ∀ (k : Nat) (σ : Sto), k < 64 → R k σ → ∀ x1 : Int, inR x1 → OPI E d mX0_user mX9_user [aI x1] σ (R (k + 1))
def OP_hide (E : XE) (d : Nat) (R : Nat → Sto → Prop) : Prop := ∀ (k : Nat) (σ : Sto), k < 64 → R k σ → ∀ x1 : Int, inR x1 → OPI E d mX0_hide mX9_hide [aI x1] σ (R (k + 1))
def OP_unhide (E : XE) (d : Nat) (R : Nat → Sto → Prop) : Prop := ∀ (k : Nat) (σ : Sto), k < 64 → R k σ → ∀ x1 : Int, inR x1 → OPI E d mX0_unhide mX9_unhide [aI x1] σ (R (k + 1))
def OP_blind (E : XE) (d : Nat) (R : Nat → Sto → Prop) : Prop := ∀ (k : Nat) (σ : Sto), k < 64 → R k σ → ∀ x1 x2 x3 : Int, inR x1 → inR x2 → inR x3 → OPI E d mX0_blind mX9_blind [aI x1, aI x2, aI x3] σ (R (k + 1))
def OP_formula (E : XE) (d : Nat) (R : Nat → Sto → Prop) : Prop := ∀ (k : Nat) (σ : Sto), k < 64 → R k σ → ∀ x1 : Int, inR x1 → OPI E d mX0_formula mX9_formula [aI x1] σ (R (k + 1))
def OP_sort (E : XE) (d : Nat) (R : Nat → Sto → Prop) : Prop := ∀ (k : Nat) (σ : Sto), k < 64 → R k σ → ∀ x1 x2 : Int, inR x1 → inR x2 → OPI E d mX0_sort mX9_sort [aI x1, aI x2] σ (R (k + 1))
def OP_search (E : XE) (d : Nat) (R : Nat → Sto → Prop) : Prop := ∀ (k : Nat) (σ : Sto), k < 64 → R k σ → ∀ x1 : Int, inR x1 → OPI E d mX0_search mX9_search [aI x1] σ (R (k + 1))
def OP_hit (E : XE) (d : Nat) (R : Nat → Sto → Prop) : Prop := ∀ (k : Nat) (σ : Sto), k < 64 → R k σ → ∀ x1 : Int, inR x1 → OPI E d mX0_hit mX9_hit [aI x1] σ (R (k + 1))
def OP_score (E : XE) (d : Nat) (R : Nat → Sto → Prop) : Prop := ∀ (k : Nat) (σ : Sto), k < 64 → R k σ → ∀ x1 : Int, inR x1 → OPL E d mX0_score mX9_score [aI x1] σ (R (k + 1))
def OP_explain (E : XE) (d : Nat) (R : Nat → Sto → Prop) : Prop := ∀ (k : Nat) (σ : Sto), k < 64 → R k σ → ∀ x1 : Int, inR x1 → OPI E d mX0_explain mX9_explain [aI x1] σ (R (k + 1))
def OP_line (E : XE) (d : Nat) (R : Nat → Sto → Prop) : Prop := ∀ (k : Nat) (σ : Sto), k < 64 → R k σ → ∀ x1 x2 : Int, inR x1 → inR x2 → OPL E d mX0_line mX9_line [aI x1, aI x2] σ (R (k + 1))
def OP_marks (E : XE) (d : Nat) (R : Nat → Sto → Prop) : Prop := ∀ (k : Nat) (σ : Sto), k < 64 → R k σ → ∀ x1 x2 : Int, inR x1 → inR x2 → OPI E d mX0_marks mX9_marks [aI x1, aI x2] σ (R (k + 1))
def OP_mark (E : XE) (d : Nat) (R : Nat → Sto → Prop) : Prop := ∀ (k : Nat) (σ : Sto), k < 64 → R k σ → ∀ x1 x2 : Int, inR x1 → inR x2 → OPI E d mX0_mark mX9_mark [aI x1, aI x2] σ (R (k + 1))
def OP_facet (E : XE) (d : Nat) (R : Nat → Sto → Prop) : Prop := ∀ (k : Nat) (σ : Sto), k < 64 → R k σ → ∀ x1 : Int, inR x1 → OPI E d mX0_facet mX9_facet [aI x1] σ (R (k + 1))
def OP_histogram (E : XE) (d : Nat) (R : Nat → Sto → Prop) : Prop := ∀ (k : Nat) (σ : Sto), k < 64 → R k σ → ∀ x1 y2 : Int, inR x1 → inL y2 → OPI E d mX0_histogram mX9_histogram [aI x1, aL y2] σ (R (k + 1))
def OP_group (E : XE) (d : Nat) (R : Nat → Sto → Prop) : Prop := ∀ (k : Nat) (σ : Sto), k < 64 → R k σ → ∀ x1 x2 : Int, inR x1 → inR x2 → OPI E d mX0_group mX9_group [aI x1, aI x2] σ (R (k + 1))
def OP_groupOf (E : XE) (d : Nat) (R : Nat → Sto → Prop) : Prop := ∀ (k : Nat) (σ : Sto), k < 64 → R k σ → ∀ x1 x2 : Int, inR x1 → inR x2 → OPL E d mX0_groupOf mX9_groupOf [aI x1, aI x2] σ (R (k + 1))
def OP_suggest (E : XE) (d : Nat) (R : Nat → Sto → Prop) : Prop := ∀ (k : Nat) (σ : Sto), k < 64 → R k σ → ∀ x1 x2 : Int, inR x1 → inR x2 → OPI E d mX0_suggest mX9_suggest [aI x1, aI x2] σ (R (k + 1))
def OP_spell (E : XE) (d : Nat) (R : Nat → Sto → Prop) : Prop := ∀ (k : Nat) (σ : Sto), k < 64 → R k σ → ∀ x1 x2 : Int, inR x1 → inR x2 → OPI E d mX0_spell mX9_spell [aI x1, aI x2] σ (R (k + 1))
def OP_term (E : XE) (d : Nat) (R : Nat → Sto → Prop) : Prop := ∀ (k : Nat) (σ : Sto), k < 64 → R k σ → ∀ x1 x2 : Int, inR x1 → inR x2 → OPI E d mX0_term mX9_term [aI x1, aI x2] σ (R (k + 1))
def OP_termByte (E : XE) (d : Nat) (R : Nat → Sto → Prop) : Prop := ∀ (k : Nat) (σ : Sto), k < 64 → R k σ → ∀ x1 x2 : Int, inR x1 → inR x2 → OPI E d mX0_termByte mX9_termByte [aI x1, aI x2] σ (R (k + 1))
def OP_like (E : XE) (d : Nat) (R : Nat → Sto → Prop) : Prop := ∀ (k : Nat) (σ : Sto), k < 64 → R k σ → ∀ x1 x2 : Int, inR x1 → inR x2 → OPI E d mX0_like mX9_like [aI x1, aI x2] σ (R (k + 1))
def OP_near (E : XE) (d : Nat) (R : Nat → Sto → Prop) : Prop := ∀ (k : Nat) (σ : Sto), k < 64 → R k σ → ∀ x1 x2 x3 x4 x5 x6 x7 : Int, inR x1 → inR x2 → inR x3 → inR x4 → inR x5 → inR x6 → inR x7 → OPI E d mX0_near mX9_near [aI x1, aI x2, aI x3, aI x4, aI x5, aI x6, aI x7] σ (R (k + 1))
def OP_percolate (E : XE) (d : Nat) (R : Nat → Sto → Prop) : Prop := ∀ (k : Nat) (σ : Sto), k < 64 → R k σ → OPI E d mX0_percolate mX9_percolate [] σ (R (k + 1))
def OP_matched (E : XE) (d : Nat) (R : Nat → Sto → Prop) : Prop := ∀ (k : Nat) (σ : Sto), k < 64 → R k σ → ∀ x1 : Int, inR x1 → OPI E d mX0_matched mX9_matched [aI x1] σ (R (k + 1))
def OP_spread (E : XE) (d : Nat) (R : Nat → Sto → Prop) : Prop := ∀ (k : Nat) (σ : Sto), k < 64 → R k σ → ∀ x1 x2 : Int, inR x1 → inR x2 → OPI E d mX0_spread mX9_spread [aI x1, aI x2] σ (R (k + 1))
def OP_lose (E : XE) (d : Nat) (R : Nat → Sto → Prop) : Prop := ∀ (k : Nat) (σ : Sto), k < 64 → R k σ → ∀ x1 x2 : Int, inR x1 → inR x2 → OPI E d mX0_lose mX9_lose [aI x1, aI x2] σ (R (k + 1))
def OP_route (E : XE) (d : Nat) (R : Nat → Sto → Prop) : Prop := ∀ (k : Nat) (σ : Sto), k < 64 → R k σ → ∀ x1 : Int, inR x1 → OPI E d mX0_route mX9_route [aI x1] σ (R (k + 1))
def OP_asked (E : XE) (d : Nat) (R : Nat → Sto → Prop) : Prop := ∀ (k : Nat) (σ : Sto), k < 64 → R k σ → ∀ x1 : Int, inR x1 → OPI E d mX0_asked mX9_asked [aI x1] σ (R (k + 1))
def OP_export (E : XE) (d : Nat) (R : Nat → Sto → Prop) : Prop := ∀ (k : Nat) (σ : Sto), k < 64 → R k σ → OPI E d mX0_export mX9_export [] σ (R (k + 1))
def OP_written (E : XE) (d : Nat) (R : Nat → Sto → Prop) : Prop := ∀ (k : Nat) (σ : Sto), k < 64 → R k σ → ∀ x1 : Int, inR x1 → OPI E d mX0_written mX9_written [aI x1] σ (R (k + 1))
def OP_imported (E : XE) (d : Nat) (R : Nat → Sto → Prop) : Prop := ∀ (k : Nat) (σ : Sto), k < 64 → R k σ → OPI E d mX0_imported mX9_imported [] σ (R (k + 1))
def OPS (E : XE) (d : Nat) (R : Nat → Sto → Prop) : Prop := OP_feed E d R ∧ OP_cut E d R ∧ OP_analyser E d R ∧ OP_stop E d R ∧ OP_synonym E d R ∧ OP_analyse E d R ∧ OP_token E d R ∧ OP_letter E d R ∧ OP_field E d R ∧ OP_text E d R ∧ OP_number E d R ∧ OP_place E d R ∧ OP_row E d R ∧ OP_discard E d R ∧ OP_add E d R ∧ OP_remove E d R ∧ OP_refresh E d R ∧ OP_pin E d R ∧ OP_unpin E d R ∧ OP_sweep E d R ∧ OP_commit E d R ∧ OP_crash E d R ∧ OP_told E d R ∧ OP_question E d R ∧ OP_keep E d R ∧ OP_use E d R ∧ OP_user E d R ∧ OP_hide E d R ∧ OP_unhide E d R ∧ OP_blind E d R ∧ OP_formula E d R ∧ OP_sort E d R ∧ OP_search E d R ∧ OP_hit E d R ∧ OP_score E d R ∧ OP_explain E d R ∧ OP_line E d R ∧ OP_marks E d R ∧ OP_mark E d R ∧ OP_facet E d R ∧ OP_histogram E d R ∧ OP_group E d R ∧ OP_groupOf E d R ∧ OP_suggest E d R ∧ OP_spell E d R ∧ OP_term E d R ∧ OP_termByte E d R ∧ OP_like E d R ∧ OP_near E d R ∧ OP_percolate E d R ∧ OP_matched E d R ∧ OP_spread E d R ∧ OP_lose E d R ∧ OP_route E d R ∧ OP_asked E d R ∧ OP_export E d R ∧ OP_written E d R ∧ OP_imported E d R
theorem law_loop {E : XE} {d : Nat} {R : Nat → Sto → Prop} (ops : OPS E d R) (hY : ∀ k σ, R k σ → Lay σ) (hS : ∀ k σ, R k σ → R (k + 1) σ) : ∀ (n k : Nat) (σ : Sto), k + n = 65 → R k σ → VV E mLaw (d + 1) 18 [(3, aI (8 * (k : Int))), (2, aO 555), (1, aO 0), (0, aS 1000)] [] σ (fun r _ => r = .inl (some (aI 1))) := by
  intro n
  induction n with
  | zero =>
    intro k σ hk hR
    refine v_iload_n 0 dL_18 rfl rfl ?_
    refine v_sload_n 3 dL_19 rfl rfl ?_
    refine v_alenP dL_20 (fun hn => ?_)
    refine v_bipush dL_21 (by decide) ?_
    refine v_isub dL_23 ?_
    refine v_icmp_gt (tg := 1957) dL_24 rfl ⟨by omega, by omega⟩ ⟨by omega, by omega⟩ (fun _ => ?_) (fun q => absurd q (by omega))
    refine v_iconst dL_1957 ?_
    exact v_iret dL_1958 rfl rfl rfl
  | succ n ih =>
  intro k σ hk hR
  refine v_iload_n 0 dL_18 rfl rfl ?_
  refine v_sload_n 3 dL_19 rfl rfl ?_
  refine v_alenP dL_20 (fun hn => ?_)
  refine v_bipush dL_21 (by decide) ?_
  refine v_isub dL_23 ?_
  refine v_icmp_gt (tg := 1957) dL_24 rfl ⟨by omega, by omega⟩ ⟨by omega, by omega⟩ (fun _ => ?_) (fun q => ?_)
  · refine v_iconst dL_1957 ?_
    exact v_iret dL_1958 rfl rfl rfl
  have hk : k < 64 := by omega
  have hL := hY k σ hR
  have nxt : ∀ σ2, R (k + 1) σ2 → VV E mLaw (d + 1) 1951 [(3, aI (8 * (k : Int))), (2, aO 555), (1, aO 0), (0, aS 1000)] [] σ2 (fun r _ => r = .inl (some (aI 1))) := by
    intro σ2 h2
    refine v_iinc (L' := [(3, aI (8 * (k : Int) + 8)), (2, aO 555), (1, aO 0), (0, aS 1000)]) 0 dL_1951 rfl (by decide) rfl ?_
    refine v_goto (pc' := 18) dL_1954 rfl ?_
    have h := ih (k + 1) σ2 (by omega) h2
    rw [show 8 * ((k + 1 : Nat) : Int) = 8 * (k : Int) + 8 by omega] at h
    exact h
  refine v_sload_n 3 dL_27 rfl rfl ?_
  refine v_iload_n 0 dL_28 rfl rfl ?_
  refine v_ialdP (k := 8 * (k : Int)) dL_29 (by omega) (by omega) (fun q29 => ?_)
  refine v_bipush dL_30 (by decide) ?_
  refine v_iand dL_32 ?_
  have b63 : 0 ≤ b32and (scr E (8 * (k : Int))) 63 ∧ b32and (scr E (8 * (k : Int))) 63 ≤ 63 := by rw [and63]; omega
  by_cases c0 : b32and (scr E (8 * (k : Int))) 63 = 0
  · refine v_tsw (v := 0) (tg := 280) dL_33 ⟨by decide, by decide⟩ c0 ⟨by decide, by decide⟩ rfl rfl ?_
    exact lc_0 (i := 8 * (k : Int)) (by omega) (by omega) hL (ops.1 k σ hk hR _ _ _ _ _ (scr_in E _) (scr_in E _) (scr_in E _) (scr_in E _) (scr_in E _)) nxt
  by_cases c1 : b32and (scr E (8 * (k : Int))) 63 = 1
  · refine v_tsw (v := 1) (tg := 343) dL_33 ⟨by decide, by decide⟩ c1 ⟨by decide, by decide⟩ rfl rfl ?_
    exact lc_1 (i := 8 * (k : Int)) (by omega) (by omega) hL (ops.2.1 k σ hk hR _ (scr_in E _)) nxt
  by_cases c2 : b32and (scr E (8 * (k : Int))) 63 = 2
  · refine v_tsw (v := 2) (tg := 366) dL_33 ⟨by decide, by decide⟩ c2 ⟨by decide, by decide⟩ rfl rfl ?_
    exact lc_2 (i := 8 * (k : Int)) (by omega) (by omega) hL (ops.2.2.1 k σ hk hR _ _ _ (scr_in E _) (scr_in E _) (scr_in E _)) nxt
  by_cases c3 : b32and (scr E (8 * (k : Int))) 63 = 3
  · refine v_tsw (v := 3) (tg := 409) dL_33 ⟨by decide, by decide⟩ c3 ⟨by decide, by decide⟩ rfl rfl ?_
    exact lc_3 (i := 8 * (k : Int)) (by omega) (by omega) hL (ops.2.2.2.1 k σ hk hR _ (scr_in E _)) nxt
  by_cases c4 : b32and (scr E (8 * (k : Int))) 63 = 4
  · refine v_tsw (v := 4) (tg := 432) dL_33 ⟨by decide, by decide⟩ c4 ⟨by decide, by decide⟩ rfl rfl ?_
    exact lc_4 (i := 8 * (k : Int)) (by omega) (by omega) hL (ops.2.2.2.2.1 k σ hk hR _ (scr_in E _)) nxt
  by_cases c5 : b32and (scr E (8 * (k : Int))) 63 = 5
  · refine v_tsw (v := 5) (tg := 455) dL_33 ⟨by decide, by decide⟩ c5 ⟨by decide, by decide⟩ rfl rfl ?_
    exact lc_5 (i := 8 * (k : Int)) (by omega) (by omega) hL (ops.2.2.2.2.2.1 k σ hk hR _ (scr_in E _)) nxt
  by_cases c6 : b32and (scr E (8 * (k : Int))) 63 = 6
  · refine v_tsw (v := 6) (tg := 478) dL_33 ⟨by decide, by decide⟩ c6 ⟨by decide, by decide⟩ rfl rfl ?_
    exact lc_6 (i := 8 * (k : Int)) (by omega) (by omega) hL (ops.2.2.2.2.2.2.1 k σ hk hR _ _ (scr_in E _) (scr_in E _)) nxt
  by_cases c7 : b32and (scr E (8 * (k : Int))) 63 = 7
  · refine v_tsw (v := 7) (tg := 511) dL_33 ⟨by decide, by decide⟩ c7 ⟨by decide, by decide⟩ rfl rfl ?_
    exact lc_7 (i := 8 * (k : Int)) (by omega) (by omega) hL (ops.2.2.2.2.2.2.2.1 k σ hk hR _ _ (scr_in E _) (scr_in E _)) nxt
  by_cases c8 : b32and (scr E (8 * (k : Int))) 63 = 8
  · refine v_tsw (v := 8) (tg := 544) dL_33 ⟨by decide, by decide⟩ c8 ⟨by decide, by decide⟩ rfl rfl ?_
    exact lc_8 (i := 8 * (k : Int)) (by omega) (by omega) hL (ops.2.2.2.2.2.2.2.2.1 k σ hk hR _ _ (scr_in E _) (scr_in E _)) nxt
  by_cases c9 : b32and (scr E (8 * (k : Int))) 63 = 9
  · refine v_tsw (v := 9) (tg := 577) dL_33 ⟨by decide, by decide⟩ c9 ⟨by decide, by decide⟩ rfl rfl ?_
    exact lc_9 (i := 8 * (k : Int)) (by omega) (by omega) hL (ops.2.2.2.2.2.2.2.2.2.1 k σ hk hR _ (scr_in E _)) nxt
  by_cases c10 : b32and (scr E (8 * (k : Int))) 63 = 10
  · refine v_tsw (v := 10) (tg := 600) dL_33 ⟨by decide, by decide⟩ c10 ⟨by decide, by decide⟩ rfl rfl ?_
    exact lc_10 (i := 8 * (k : Int)) (by omega) (by omega) hL (ops.2.2.2.2.2.2.2.2.2.2.1 k σ hk hR _ _ (scr_in E _) (b64or_in _ _)) nxt
  by_cases c11 : b32and (scr E (8 * (k : Int))) 63 = 11
  · refine v_tsw (v := 11) (tg := 663) dL_33 ⟨by decide, by decide⟩ c11 ⟨by decide, by decide⟩ rfl rfl ?_
    exact lc_11 (i := 8 * (k : Int)) (by omega) (by omega) hL (ops.2.2.2.2.2.2.2.2.2.2.2.1 k σ hk hR _ _ _ (scr_in E _) (scr_in E _) (scr_in E _)) nxt
  by_cases c12 : b32and (scr E (8 * (k : Int))) 63 = 12
  · refine v_tsw (v := 12) (tg := 706) dL_33 ⟨by decide, by decide⟩ c12 ⟨by decide, by decide⟩ rfl rfl ?_
    exact lc_12 (i := 8 * (k : Int)) (by omega) (by omega) hL (ops.2.2.2.2.2.2.2.2.2.2.2.2.1 k σ hk hR _ _ _ _ _ (scr_in E _) (scr_in E _) (scr_in E _) (scr_in E _) (scr_in E _)) nxt
  by_cases c13 : b32and (scr E (8 * (k : Int))) 63 = 13
  · refine v_tsw (v := 13) (tg := 769) dL_33 ⟨by decide, by decide⟩ c13 ⟨by decide, by decide⟩ rfl rfl ?_
    exact lc_13 (i := 8 * (k : Int)) (by omega) (by omega) hL (ops.2.2.2.2.2.2.2.2.2.2.2.2.2.1 k σ hk hR) nxt
  by_cases c14 : b32and (scr E (8 * (k : Int))) 63 = 14
  · refine v_tsw (v := 14) (tg := 782) dL_33 ⟨by decide, by decide⟩ c14 ⟨by decide, by decide⟩ rfl rfl ?_
    exact lc_14 (i := 8 * (k : Int)) (by omega) (by omega) hL (ops.2.2.2.2.2.2.2.2.2.2.2.2.2.2.1 k σ hk hR _ (scr_in E _)) nxt
  by_cases c15 : b32and (scr E (8 * (k : Int))) 63 = 15
  · refine v_tsw (v := 15) (tg := 805) dL_33 ⟨by decide, by decide⟩ c15 ⟨by decide, by decide⟩ rfl rfl ?_
    exact lc_15 (i := 8 * (k : Int)) (by omega) (by omega) hL (ops.2.2.2.2.2.2.2.2.2.2.2.2.2.2.2.1 k σ hk hR _ (scr_in E _)) nxt
  by_cases c16 : b32and (scr E (8 * (k : Int))) 63 = 16
  · refine v_tsw (v := 16) (tg := 828) dL_33 ⟨by decide, by decide⟩ c16 ⟨by decide, by decide⟩ rfl rfl ?_
    exact lc_16 (i := 8 * (k : Int)) (by omega) (by omega) hL (ops.2.2.2.2.2.2.2.2.2.2.2.2.2.2.2.2.1 k σ hk hR) nxt
  by_cases c17 : b32and (scr E (8 * (k : Int))) 63 = 17
  · refine v_tsw (v := 17) (tg := 841) dL_33 ⟨by decide, by decide⟩ c17 ⟨by decide, by decide⟩ rfl rfl ?_
    exact lc_17 (i := 8 * (k : Int)) (by omega) (by omega) hL (ops.2.2.2.2.2.2.2.2.2.2.2.2.2.2.2.2.2.1 k σ hk hR) nxt
  by_cases c18 : b32and (scr E (8 * (k : Int))) 63 = 18
  · refine v_tsw (v := 18) (tg := 854) dL_33 ⟨by decide, by decide⟩ c18 ⟨by decide, by decide⟩ rfl rfl ?_
    exact lc_18 (i := 8 * (k : Int)) (by omega) (by omega) hL (ops.2.2.2.2.2.2.2.2.2.2.2.2.2.2.2.2.2.2.1 k σ hk hR _ (scr_in E _)) nxt
  by_cases c19 : b32and (scr E (8 * (k : Int))) 63 = 19
  · refine v_tsw (v := 19) (tg := 877) dL_33 ⟨by decide, by decide⟩ c19 ⟨by decide, by decide⟩ rfl rfl ?_
    exact lc_19 (i := 8 * (k : Int)) (by omega) (by omega) hL (ops.2.2.2.2.2.2.2.2.2.2.2.2.2.2.2.2.2.2.2.1 k σ hk hR) nxt
  by_cases c20 : b32and (scr E (8 * (k : Int))) 63 = 20
  · refine v_tsw (v := 20) (tg := 890) dL_33 ⟨by decide, by decide⟩ c20 ⟨by decide, by decide⟩ rfl rfl ?_
    exact lc_20 (i := 8 * (k : Int)) (by omega) (by omega) hL (ops.2.2.2.2.2.2.2.2.2.2.2.2.2.2.2.2.2.2.2.2.1 k σ hk hR) nxt
  by_cases c21 : b32and (scr E (8 * (k : Int))) 63 = 21
  · refine v_tsw (v := 21) (tg := 903) dL_33 ⟨by decide, by decide⟩ c21 ⟨by decide, by decide⟩ rfl rfl ?_
    exact lc_21 (i := 8 * (k : Int)) (by omega) (by omega) hL (ops.2.2.2.2.2.2.2.2.2.2.2.2.2.2.2.2.2.2.2.2.2.1 k σ hk hR) nxt
  by_cases c22 : b32and (scr E (8 * (k : Int))) 63 = 22
  · refine v_tsw (v := 22) (tg := 916) dL_33 ⟨by decide, by decide⟩ c22 ⟨by decide, by decide⟩ rfl rfl ?_
    exact lc_22 (i := 8 * (k : Int)) (by omega) (by omega) hL (ops.2.2.2.2.2.2.2.2.2.2.2.2.2.2.2.2.2.2.2.2.2.2.1 k σ hk hR _ (scr_in E _)) nxt
  by_cases c23 : b32and (scr E (8 * (k : Int))) 63 = 23
  · refine v_tsw (v := 23) (tg := 939) dL_33 ⟨by decide, by decide⟩ c23 ⟨by decide, by decide⟩ rfl rfl ?_
    exact lc_23 (i := 8 * (k : Int)) (by omega) (by omega) hL (ops.2.2.2.2.2.2.2.2.2.2.2.2.2.2.2.2.2.2.2.2.2.2.2.1 k σ hk hR) nxt
  by_cases c24 : b32and (scr E (8 * (k : Int))) 63 = 24
  · refine v_tsw (v := 24) (tg := 952) dL_33 ⟨by decide, by decide⟩ c24 ⟨by decide, by decide⟩ rfl rfl ?_
    exact lc_24 (i := 8 * (k : Int)) (by omega) (by omega) hL (ops.2.2.2.2.2.2.2.2.2.2.2.2.2.2.2.2.2.2.2.2.2.2.2.2.1 k σ hk hR) nxt
  by_cases c25 : b32and (scr E (8 * (k : Int))) 63 = 25
  · refine v_tsw (v := 25) (tg := 965) dL_33 ⟨by decide, by decide⟩ c25 ⟨by decide, by decide⟩ rfl rfl ?_
    exact lc_25 (i := 8 * (k : Int)) (by omega) (by omega) hL (ops.2.2.2.2.2.2.2.2.2.2.2.2.2.2.2.2.2.2.2.2.2.2.2.2.2.1 k σ hk hR _ (scr_in E _)) nxt
  by_cases c26 : b32and (scr E (8 * (k : Int))) 63 = 26
  · refine v_tsw (v := 26) (tg := 988) dL_33 ⟨by decide, by decide⟩ c26 ⟨by decide, by decide⟩ rfl rfl ?_
    exact lc_26 (i := 8 * (k : Int)) (by omega) (by omega) hL (ops.2.2.2.2.2.2.2.2.2.2.2.2.2.2.2.2.2.2.2.2.2.2.2.2.2.2.1 k σ hk hR _ (scr_in E _)) nxt
  by_cases c27 : b32and (scr E (8 * (k : Int))) 63 = 27
  · refine v_tsw (v := 27) (tg := 1011) dL_33 ⟨by decide, by decide⟩ c27 ⟨by decide, by decide⟩ rfl rfl ?_
    exact lc_27 (i := 8 * (k : Int)) (by omega) (by omega) hL (ops.2.2.2.2.2.2.2.2.2.2.2.2.2.2.2.2.2.2.2.2.2.2.2.2.2.2.2.1 k σ hk hR _ (scr_in E _)) nxt
  by_cases c28 : b32and (scr E (8 * (k : Int))) 63 = 28
  · refine v_tsw (v := 28) (tg := 1034) dL_33 ⟨by decide, by decide⟩ c28 ⟨by decide, by decide⟩ rfl rfl ?_
    exact lc_28 (i := 8 * (k : Int)) (by omega) (by omega) hL (ops.2.2.2.2.2.2.2.2.2.2.2.2.2.2.2.2.2.2.2.2.2.2.2.2.2.2.2.2.1 k σ hk hR _ (scr_in E _)) nxt
  by_cases c29 : b32and (scr E (8 * (k : Int))) 63 = 29
  · refine v_tsw (v := 29) (tg := 1057) dL_33 ⟨by decide, by decide⟩ c29 ⟨by decide, by decide⟩ rfl rfl ?_
    exact lc_29 (i := 8 * (k : Int)) (by omega) (by omega) hL (ops.2.2.2.2.2.2.2.2.2.2.2.2.2.2.2.2.2.2.2.2.2.2.2.2.2.2.2.2.2.1 k σ hk hR _ _ _ (scr_in E _) (scr_in E _) (scr_in E _)) nxt
  by_cases c30 : b32and (scr E (8 * (k : Int))) 63 = 30
  · refine v_tsw (v := 30) (tg := 1100) dL_33 ⟨by decide, by decide⟩ c30 ⟨by decide, by decide⟩ rfl rfl ?_
    exact lc_30 (i := 8 * (k : Int)) (by omega) (by omega) hL (ops.2.2.2.2.2.2.2.2.2.2.2.2.2.2.2.2.2.2.2.2.2.2.2.2.2.2.2.2.2.2.1 k σ hk hR _ (scr_in E _)) nxt
  by_cases c31 : b32and (scr E (8 * (k : Int))) 63 = 31
  · refine v_tsw (v := 31) (tg := 1123) dL_33 ⟨by decide, by decide⟩ c31 ⟨by decide, by decide⟩ rfl rfl ?_
    exact lc_31 (i := 8 * (k : Int)) (by omega) (by omega) hL (ops.2.2.2.2.2.2.2.2.2.2.2.2.2.2.2.2.2.2.2.2.2.2.2.2.2.2.2.2.2.2.2.1 k σ hk hR _ _ (scr_in E _) (scr_in E _)) nxt
  by_cases c32 : b32and (scr E (8 * (k : Int))) 63 = 32
  · refine v_tsw (v := 32) (tg := 1156) dL_33 ⟨by decide, by decide⟩ c32 ⟨by decide, by decide⟩ rfl rfl ?_
    exact lc_32 (i := 8 * (k : Int)) (by omega) (by omega) hL (ops.2.2.2.2.2.2.2.2.2.2.2.2.2.2.2.2.2.2.2.2.2.2.2.2.2.2.2.2.2.2.2.2.1 k σ hk hR _ (scr_in E _)) nxt
  by_cases c33 : b32and (scr E (8 * (k : Int))) 63 = 33
  · refine v_tsw (v := 33) (tg := 1179) dL_33 ⟨by decide, by decide⟩ c33 ⟨by decide, by decide⟩ rfl rfl ?_
    exact lc_33 (i := 8 * (k : Int)) (by omega) (by omega) hL (ops.2.2.2.2.2.2.2.2.2.2.2.2.2.2.2.2.2.2.2.2.2.2.2.2.2.2.2.2.2.2.2.2.2.1 k σ hk hR _ (scr_in E _)) nxt
  by_cases c34 : b32and (scr E (8 * (k : Int))) 63 = 34
  · refine v_tsw (v := 34) (tg := 1202) dL_33 ⟨by decide, by decide⟩ c34 ⟨by decide, by decide⟩ rfl rfl ?_
    exact lc_34 (i := 8 * (k : Int)) (by omega) (by omega) hL (ops.2.2.2.2.2.2.2.2.2.2.2.2.2.2.2.2.2.2.2.2.2.2.2.2.2.2.2.2.2.2.2.2.2.2.1 k σ hk hR _ (scr_in E _)) nxt
  by_cases c35 : b32and (scr E (8 * (k : Int))) 63 = 35
  · refine v_tsw (v := 35) (tg := 1226) dL_33 ⟨by decide, by decide⟩ c35 ⟨by decide, by decide⟩ rfl rfl ?_
    exact lc_35 (i := 8 * (k : Int)) (by omega) (by omega) hL (ops.2.2.2.2.2.2.2.2.2.2.2.2.2.2.2.2.2.2.2.2.2.2.2.2.2.2.2.2.2.2.2.2.2.2.2.1 k σ hk hR _ (scr_in E _)) nxt
  by_cases c36 : b32and (scr E (8 * (k : Int))) 63 = 36
  · refine v_tsw (v := 36) (tg := 1249) dL_33 ⟨by decide, by decide⟩ c36 ⟨by decide, by decide⟩ rfl rfl ?_
    exact lc_36 (i := 8 * (k : Int)) (by omega) (by omega) hL (ops.2.2.2.2.2.2.2.2.2.2.2.2.2.2.2.2.2.2.2.2.2.2.2.2.2.2.2.2.2.2.2.2.2.2.2.2.1 k σ hk hR _ _ (scr_in E _) (scr_in E _)) nxt
  by_cases c37 : b32and (scr E (8 * (k : Int))) 63 = 37
  · refine v_tsw (v := 37) (tg := 1283) dL_33 ⟨by decide, by decide⟩ c37 ⟨by decide, by decide⟩ rfl rfl ?_
    exact lc_37 (i := 8 * (k : Int)) (by omega) (by omega) hL (ops.2.2.2.2.2.2.2.2.2.2.2.2.2.2.2.2.2.2.2.2.2.2.2.2.2.2.2.2.2.2.2.2.2.2.2.2.2.1 k σ hk hR _ _ (scr_in E _) (scr_in E _)) nxt
  by_cases c38 : b32and (scr E (8 * (k : Int))) 63 = 38
  · refine v_tsw (v := 38) (tg := 1316) dL_33 ⟨by decide, by decide⟩ c38 ⟨by decide, by decide⟩ rfl rfl ?_
    exact lc_38 (i := 8 * (k : Int)) (by omega) (by omega) hL (ops.2.2.2.2.2.2.2.2.2.2.2.2.2.2.2.2.2.2.2.2.2.2.2.2.2.2.2.2.2.2.2.2.2.2.2.2.2.2.1 k σ hk hR _ _ (scr_in E _) (scr_in E _)) nxt
  by_cases c39 : b32and (scr E (8 * (k : Int))) 63 = 39
  · refine v_tsw (v := 39) (tg := 1349) dL_33 ⟨by decide, by decide⟩ c39 ⟨by decide, by decide⟩ rfl rfl ?_
    exact lc_39 (i := 8 * (k : Int)) (by omega) (by omega) hL (ops.2.2.2.2.2.2.2.2.2.2.2.2.2.2.2.2.2.2.2.2.2.2.2.2.2.2.2.2.2.2.2.2.2.2.2.2.2.2.2.1 k σ hk hR _ (scr_in E _)) nxt
  by_cases c40 : b32and (scr E (8 * (k : Int))) 63 = 40
  · refine v_tsw (v := 40) (tg := 1372) dL_33 ⟨by decide, by decide⟩ c40 ⟨by decide, by decide⟩ rfl rfl ?_
    exact lc_40 (i := 8 * (k : Int)) (by omega) (by omega) hL (ops.2.2.2.2.2.2.2.2.2.2.2.2.2.2.2.2.2.2.2.2.2.2.2.2.2.2.2.2.2.2.2.2.2.2.2.2.2.2.2.2.1 k σ hk hR _ _ (scr_in E _) (b64or_in _ _)) nxt
  by_cases c41 : b32and (scr E (8 * (k : Int))) 63 = 41
  · refine v_tsw (v := 41) (tg := 1435) dL_33 ⟨by decide, by decide⟩ c41 ⟨by decide, by decide⟩ rfl rfl ?_
    exact lc_41 (i := 8 * (k : Int)) (by omega) (by omega) hL (ops.2.2.2.2.2.2.2.2.2.2.2.2.2.2.2.2.2.2.2.2.2.2.2.2.2.2.2.2.2.2.2.2.2.2.2.2.2.2.2.2.2.1 k σ hk hR _ _ (scr_in E _) (scr_in E _)) nxt
  by_cases c42 : b32and (scr E (8 * (k : Int))) 63 = 42
  · refine v_tsw (v := 42) (tg := 1468) dL_33 ⟨by decide, by decide⟩ c42 ⟨by decide, by decide⟩ rfl rfl ?_
    exact lc_42 (i := 8 * (k : Int)) (by omega) (by omega) hL (ops.2.2.2.2.2.2.2.2.2.2.2.2.2.2.2.2.2.2.2.2.2.2.2.2.2.2.2.2.2.2.2.2.2.2.2.2.2.2.2.2.2.2.1 k σ hk hR _ _ (scr_in E _) (scr_in E _)) nxt
  by_cases c43 : b32and (scr E (8 * (k : Int))) 63 = 43
  · refine v_tsw (v := 43) (tg := 1502) dL_33 ⟨by decide, by decide⟩ c43 ⟨by decide, by decide⟩ rfl rfl ?_
    exact lc_43 (i := 8 * (k : Int)) (by omega) (by omega) hL (ops.2.2.2.2.2.2.2.2.2.2.2.2.2.2.2.2.2.2.2.2.2.2.2.2.2.2.2.2.2.2.2.2.2.2.2.2.2.2.2.2.2.2.2.1 k σ hk hR _ _ (scr_in E _) (scr_in E _)) nxt
  by_cases c44 : b32and (scr E (8 * (k : Int))) 63 = 44
  · refine v_tsw (v := 44) (tg := 1535) dL_33 ⟨by decide, by decide⟩ c44 ⟨by decide, by decide⟩ rfl rfl ?_
    exact lc_44 (i := 8 * (k : Int)) (by omega) (by omega) hL (ops.2.2.2.2.2.2.2.2.2.2.2.2.2.2.2.2.2.2.2.2.2.2.2.2.2.2.2.2.2.2.2.2.2.2.2.2.2.2.2.2.2.2.2.2.1 k σ hk hR _ _ (scr_in E _) (scr_in E _)) nxt
  by_cases c45 : b32and (scr E (8 * (k : Int))) 63 = 45
  · refine v_tsw (v := 45) (tg := 1568) dL_33 ⟨by decide, by decide⟩ c45 ⟨by decide, by decide⟩ rfl rfl ?_
    exact lc_45 (i := 8 * (k : Int)) (by omega) (by omega) hL (ops.2.2.2.2.2.2.2.2.2.2.2.2.2.2.2.2.2.2.2.2.2.2.2.2.2.2.2.2.2.2.2.2.2.2.2.2.2.2.2.2.2.2.2.2.2.1 k σ hk hR _ _ (scr_in E _) (scr_in E _)) nxt
  by_cases c46 : b32and (scr E (8 * (k : Int))) 63 = 46
  · refine v_tsw (v := 46) (tg := 1601) dL_33 ⟨by decide, by decide⟩ c46 ⟨by decide, by decide⟩ rfl rfl ?_
    exact lc_46 (i := 8 * (k : Int)) (by omega) (by omega) hL (ops.2.2.2.2.2.2.2.2.2.2.2.2.2.2.2.2.2.2.2.2.2.2.2.2.2.2.2.2.2.2.2.2.2.2.2.2.2.2.2.2.2.2.2.2.2.2.1 k σ hk hR _ _ (scr_in E _) (scr_in E _)) nxt
  by_cases c47 : b32and (scr E (8 * (k : Int))) 63 = 47
  · refine v_tsw (v := 47) (tg := 1634) dL_33 ⟨by decide, by decide⟩ c47 ⟨by decide, by decide⟩ rfl rfl ?_
    exact lc_47 (i := 8 * (k : Int)) (by omega) (by omega) hL (ops.2.2.2.2.2.2.2.2.2.2.2.2.2.2.2.2.2.2.2.2.2.2.2.2.2.2.2.2.2.2.2.2.2.2.2.2.2.2.2.2.2.2.2.2.2.2.2.1 k σ hk hR _ _ (scr_in E _) (scr_in E _)) nxt
  by_cases c48 : b32and (scr E (8 * (k : Int))) 63 = 48
  · refine v_tsw (v := 48) (tg := 1667) dL_33 ⟨by decide, by decide⟩ c48 ⟨by decide, by decide⟩ rfl rfl ?_
    exact lc_48 (i := 8 * (k : Int)) (by omega) (by omega) hL (ops.2.2.2.2.2.2.2.2.2.2.2.2.2.2.2.2.2.2.2.2.2.2.2.2.2.2.2.2.2.2.2.2.2.2.2.2.2.2.2.2.2.2.2.2.2.2.2.2.1 k σ hk hR _ _ _ _ _ _ _ (scr_in E _) (scr_in E _) (scr_in E _) (scr_in E _) (scr_in E _) (scr_in E _) (scr_in E _)) nxt
  by_cases c49 : b32and (scr E (8 * (k : Int))) 63 = 49
  · refine v_tsw (v := 49) (tg := 1754) dL_33 ⟨by decide, by decide⟩ c49 ⟨by decide, by decide⟩ rfl rfl ?_
    exact lc_49 (i := 8 * (k : Int)) (by omega) (by omega) hL (ops.2.2.2.2.2.2.2.2.2.2.2.2.2.2.2.2.2.2.2.2.2.2.2.2.2.2.2.2.2.2.2.2.2.2.2.2.2.2.2.2.2.2.2.2.2.2.2.2.2.1 k σ hk hR) nxt
  by_cases c50 : b32and (scr E (8 * (k : Int))) 63 = 50
  · refine v_tsw (v := 50) (tg := 1767) dL_33 ⟨by decide, by decide⟩ c50 ⟨by decide, by decide⟩ rfl rfl ?_
    exact lc_50 (i := 8 * (k : Int)) (by omega) (by omega) hL (ops.2.2.2.2.2.2.2.2.2.2.2.2.2.2.2.2.2.2.2.2.2.2.2.2.2.2.2.2.2.2.2.2.2.2.2.2.2.2.2.2.2.2.2.2.2.2.2.2.2.2.1 k σ hk hR _ (scr_in E _)) nxt
  by_cases c51 : b32and (scr E (8 * (k : Int))) 63 = 51
  · refine v_tsw (v := 51) (tg := 1790) dL_33 ⟨by decide, by decide⟩ c51 ⟨by decide, by decide⟩ rfl rfl ?_
    exact lc_51 (i := 8 * (k : Int)) (by omega) (by omega) hL (ops.2.2.2.2.2.2.2.2.2.2.2.2.2.2.2.2.2.2.2.2.2.2.2.2.2.2.2.2.2.2.2.2.2.2.2.2.2.2.2.2.2.2.2.2.2.2.2.2.2.2.2.1 k σ hk hR _ _ (scr_in E _) (scr_in E _)) nxt
  by_cases c52 : b32and (scr E (8 * (k : Int))) 63 = 52
  · refine v_tsw (v := 52) (tg := 1823) dL_33 ⟨by decide, by decide⟩ c52 ⟨by decide, by decide⟩ rfl rfl ?_
    exact lc_52 (i := 8 * (k : Int)) (by omega) (by omega) hL (ops.2.2.2.2.2.2.2.2.2.2.2.2.2.2.2.2.2.2.2.2.2.2.2.2.2.2.2.2.2.2.2.2.2.2.2.2.2.2.2.2.2.2.2.2.2.2.2.2.2.2.2.2.1 k σ hk hR _ _ (scr_in E _) (scr_in E _)) nxt
  by_cases c53 : b32and (scr E (8 * (k : Int))) 63 = 53
  · refine v_tsw (v := 53) (tg := 1856) dL_33 ⟨by decide, by decide⟩ c53 ⟨by decide, by decide⟩ rfl rfl ?_
    exact lc_53 (i := 8 * (k : Int)) (by omega) (by omega) hL (ops.2.2.2.2.2.2.2.2.2.2.2.2.2.2.2.2.2.2.2.2.2.2.2.2.2.2.2.2.2.2.2.2.2.2.2.2.2.2.2.2.2.2.2.2.2.2.2.2.2.2.2.2.2.1 k σ hk hR _ (scr_in E _)) nxt
  by_cases c54 : b32and (scr E (8 * (k : Int))) 63 = 54
  · refine v_tsw (v := 54) (tg := 1879) dL_33 ⟨by decide, by decide⟩ c54 ⟨by decide, by decide⟩ rfl rfl ?_
    exact lc_54 (i := 8 * (k : Int)) (by omega) (by omega) hL (ops.2.2.2.2.2.2.2.2.2.2.2.2.2.2.2.2.2.2.2.2.2.2.2.2.2.2.2.2.2.2.2.2.2.2.2.2.2.2.2.2.2.2.2.2.2.2.2.2.2.2.2.2.2.2.1 k σ hk hR _ (scr_in E _)) nxt
  by_cases c55 : b32and (scr E (8 * (k : Int))) 63 = 55
  · refine v_tsw (v := 55) (tg := 1902) dL_33 ⟨by decide, by decide⟩ c55 ⟨by decide, by decide⟩ rfl rfl ?_
    exact lc_55 (i := 8 * (k : Int)) (by omega) (by omega) hL (ops.2.2.2.2.2.2.2.2.2.2.2.2.2.2.2.2.2.2.2.2.2.2.2.2.2.2.2.2.2.2.2.2.2.2.2.2.2.2.2.2.2.2.2.2.2.2.2.2.2.2.2.2.2.2.2.1 k σ hk hR) nxt
  by_cases c56 : b32and (scr E (8 * (k : Int))) 63 = 56
  · refine v_tsw (v := 56) (tg := 1915) dL_33 ⟨by decide, by decide⟩ c56 ⟨by decide, by decide⟩ rfl rfl ?_
    exact lc_56 (i := 8 * (k : Int)) (by omega) (by omega) hL (ops.2.2.2.2.2.2.2.2.2.2.2.2.2.2.2.2.2.2.2.2.2.2.2.2.2.2.2.2.2.2.2.2.2.2.2.2.2.2.2.2.2.2.2.2.2.2.2.2.2.2.2.2.2.2.2.2.1 k σ hk hR _ (scr_in E _)) nxt
  by_cases c57 : b32and (scr E (8 * (k : Int))) 63 = 57
  · refine v_tsw (v := 57) (tg := 1938) dL_33 ⟨by decide, by decide⟩ c57 ⟨by decide, by decide⟩ rfl rfl ?_
    exact lc_57 (i := 8 * (k : Int)) (by omega) (by omega) hL (ops.2.2.2.2.2.2.2.2.2.2.2.2.2.2.2.2.2.2.2.2.2.2.2.2.2.2.2.2.2.2.2.2.2.2.2.2.2.2.2.2.2.2.2.2.2.2.2.2.2.2.2.2.2.2.2.2.2 k σ hk hR) nxt
  refine v_tswO (tg := 1951) dL_33 ⟨by omega, by omega⟩ (Or.inr (by omega)) rfl ?_
  exact nxt σ (hS k σ hR)

