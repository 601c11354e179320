set_option maxRecDepth 100000
theorem dX5_operandsFit_348 : decode cX5_operandsFit 348 = .ok (.aload_n 0, 1) := by decide +kernel
theorem dX5_operandsFit_349 : decode cX5_operandsFit 349 = .ok (.iconst 1, 1) := by decide +kernel
theorem dX5_operandsFit_350 : decode cX5_operandsFit 350 = .ok (.lconst 0, 1) := by decide +kernel
theorem dX5_operandsFit_351 : decode cX5_operandsFit 351 = .ok (.ldc2_w 145, 3) := by decide +kernel
theorem dX5_operandsFit_354 : decode cX5_operandsFit 354 = .ok (.invokevirtual 130, 3) := by decide +kernel
theorem dX5_operandsFit_357 : decode cX5_operandsFit 357 = .ok (.ifCond .eq 7, 3) := by decide +kernel
theorem dX5_operandsFit_360 : decode cX5_operandsFit 360 = .ok (.iconst 1, 1) := by decide +kernel
theorem dX5_operandsFit_361 : decode cX5_operandsFit 361 = .ok (.goto 4, 3) := by decide +kernel
theorem dX5_operandsFit_364 : decode cX5_operandsFit 364 = .ok (.iconst 0, 1) := by decide +kernel
theorem dX5_operandsFit_365 : decode cX5_operandsFit 365 = .ok (.ireturn, 1) := by decide +kernel
theorem dX5_operandsFit_366 : decode cX5_operandsFit 366 = .ok (.aload_n 0, 1) := by decide +kernel
theorem dX5_operandsFit_367 : decode cX5_operandsFit 367 = .ok (.getfield 37, 3) := by decide +kernel
theorem dX5_operandsFit_370 : decode cX5_operandsFit 370 = .ok (.bipush 29, 2) := by decide +kernel
theorem dX5_operandsFit_372 : decode cX5_operandsFit 372 = .ok (.if_icmp .eq 21, 3) := by decide +kernel
theorem dX5_operandsFit_375 : decode cX5_operandsFit 375 = .ok (.aload_n 0, 1) := by decide +kernel
theorem dX5_operandsFit_376 : decode cX5_operandsFit 376 = .ok (.getfield 37, 3) := by decide +kernel
theorem dX5_operandsFit_379 : decode cX5_operandsFit 379 = .ok (.bipush 31, 2) := by decide +kernel
theorem dX5_operandsFit_381 : decode cX5_operandsFit 381 = .ok (.if_icmp .eq 12, 3) := by decide +kernel
theorem dX5_operandsFit_384 : decode cX5_operandsFit 384 = .ok (.aload_n 0, 1) := by decide +kernel
theorem dX5_operandsFit_385 : decode cX5_operandsFit 385 = .ok (.getfield 37, 3) := by decide +kernel
theorem dX5_operandsFit_388 : decode cX5_operandsFit 388 = .ok (.bipush 32, 2) := by decide +kernel
theorem dX5_operandsFit_390 : decode cX5_operandsFit 390 = .ok (.if_icmp .ne 30, 3) := by decide +kernel
theorem dX5_operandsFit_393 : decode cX5_operandsFit 393 = .ok (.iload 4, 2) := by decide +kernel
theorem dX5_operandsFit_395 : decode cX5_operandsFit 395 = .ok (.ifCond .eq 23, 3) := by decide +kernel
theorem dX5_operandsFit_398 : decode cX5_operandsFit 398 = .ok (.aload_n 0, 1) := by decide +kernel
theorem dX5_operandsFit_399 : decode cX5_operandsFit 399 = .ok (.iconst 0, 1) := by decide +kernel
theorem dX5_operandsFit_400 : decode cX5_operandsFit 400 = .ok (.invokevirtual 138, 3) := by decide +kernel
theorem dX5_operandsFit_403 : decode cX5_operandsFit 403 = .ok (.ifCond .ne 11, 3) := by decide +kernel
theorem dX5_operandsFit_406 : decode cX5_operandsFit 406 = .ok (.aload_n 0, 1) := by decide +kernel
theorem dX5_operandsFit_407 : decode cX5_operandsFit 407 = .ok (.iconst 0, 1) := by decide +kernel
theorem dX5_operandsFit_408 : decode cX5_operandsFit 408 = .ok (.invokevirtual 142, 3) := by decide +kernel
theorem dX5_operandsFit_411 : decode cX5_operandsFit 411 = .ok (.ifCond .eq 7, 3) := by decide +kernel
theorem dX5_operandsFit_414 : decode cX5_operandsFit 414 = .ok (.iconst 1, 1) := by decide +kernel
theorem dX5_operandsFit_415 : decode cX5_operandsFit 415 = .ok (.goto 4, 3) := by decide +kernel
theorem dX5_operandsFit_418 : decode cX5_operandsFit 418 = .ok (.iconst 0, 1) := by decide +kernel
theorem dX5_operandsFit_419 : decode cX5_operandsFit 419 = .ok (.ireturn, 1) := by decide +kernel
theorem dX5_operandsFit_420 : decode cX5_operandsFit 420 = .ok (.aload_n 0, 1) := by decide +kernel
theorem dX5_operandsFit_421 : decode cX5_operandsFit 421 = .ok (.getfield 37, 3) := by decide +kernel
theorem dX5_operandsFit_424 : decode cX5_operandsFit 424 = .ok (.bipush 33, 2) := by decide +kernel
theorem dX5_operandsFit_426 : decode cX5_operandsFit 426 = .ok (.if_icmp .ne 30, 3) := by decide +kernel
theorem dX5_operandsFit_429 : decode cX5_operandsFit 429 = .ok (.iload 4, 2) := by decide +kernel
theorem dX5_operandsFit_431 : decode cX5_operandsFit 431 = .ok (.ifCond .eq 23, 3) := by decide +kernel
theorem dX5_operandsFit_434 : decode cX5_operandsFit 434 = .ok (.iload_n 1, 1) := by decide +kernel
theorem dX5_operandsFit_435 : decode cX5_operandsFit 435 = .ok (.ifCond .eq 15, 3) := by decide +kernel
theorem dX5_operandsFit_438 : decode cX5_operandsFit 438 = .ok (.aload_n 0, 1) := by decide +kernel
theorem dX5_operandsFit_439 : decode cX5_operandsFit 439 = .ok (.iconst 0, 1) := by decide +kernel
theorem dX5_operandsFit_440 : decode cX5_operandsFit 440 = .ok (.lconst 0, 1) := by decide +kernel
theorem dX5_operandsFit_441 : decode cX5_operandsFit 441 = .ok (.ldc2_w 147, 3) := by decide +kernel
theorem dX5_operandsFit_444 : decode cX5_operandsFit 444 = .ok (.invokevirtual 130, 3) := by decide +kernel
theorem dX5_operandsFit_447 : decode cX5_operandsFit 447 = .ok (.ifCond .eq 7, 3) := by decide +kernel
theorem dX5_operandsFit_450 : decode cX5_operandsFit 450 = .ok (.iconst 1, 1) := by decide +kernel
theorem dX5_operandsFit_451 : decode cX5_operandsFit 451 = .ok (.goto 4, 3) := by decide +kernel
theorem dX5_operandsFit_454 : decode cX5_operandsFit 454 = .ok (.iconst 0, 1) := by decide +kernel
theorem dX5_operandsFit_455 : decode cX5_operandsFit 455 = .ok (.ireturn, 1) := by decide +kernel
theorem dX5_operandsFit_456 : decode cX5_operandsFit 456 = .ok (.aload_n 0, 1) := by decide +kernel
theorem dX5_operandsFit_457 : decode cX5_operandsFit 457 = .ok (.getfield 37, 3) := by decide +kernel
theorem dX5_operandsFit_460 : decode cX5_operandsFit 460 = .ok (.bipush 34, 2) := by decide +kernel
theorem dX5_operandsFit_462 : decode cX5_operandsFit 462 = .ok (.if_icmp .ne 22, 3) := by decide +kernel
theorem dX5_operandsFit_465 : decode cX5_operandsFit 465 = .ok (.iload 4, 2) := by decide +kernel
theorem dX5_operandsFit_467 : decode cX5_operandsFit 467 = .ok (.ifCond .eq 15, 3) := by decide +kernel
theorem dX5_operandsFit_470 : decode cX5_operandsFit 470 = .ok (.aload_n 0, 1) := by decide +kernel
theorem dX5_operandsFit_471 : decode cX5_operandsFit 471 = .ok (.iconst 0, 1) := by decide +kernel
theorem dX5_operandsFit_472 : decode cX5_operandsFit 472 = .ok (.invokevirtual 142, 3) := by decide +kernel
theorem dX5_operandsFit_475 : decode cX5_operandsFit 475 = .ok (.ifCond .eq 7, 3) := by decide +kernel
theorem dX5_operandsFit_478 : decode cX5_operandsFit 478 = .ok (.iconst 1, 1) := by decide +kernel
theorem dX5_operandsFit_479 : decode cX5_operandsFit 479 = .ok (.goto 4, 3) := by decide +kernel
theorem dX5_operandsFit_482 : decode cX5_operandsFit 482 = .ok (.iconst 0, 1) := by decide +kernel
theorem dX5_operandsFit_483 : decode cX5_operandsFit 483 = .ok (.ireturn, 1) := by decide +kernel
theorem dX5_operandsFit_484 : decode cX5_operandsFit 484 = .ok (.aload_n 0, 1) := by decide +kernel
theorem dX5_operandsFit_485 : decode cX5_operandsFit 485 = .ok (.getfield 37, 3) := by decide +kernel
theorem dX5_operandsFit_488 : decode cX5_operandsFit 488 = .ok (.bipush 46, 2) := by decide +kernel
theorem dX5_operandsFit_490 : decode cX5_operandsFit 490 = .ok (.if_icmp .ne 19, 3) := by decide +kernel
theorem dX5_operandsFit_493 : decode cX5_operandsFit 493 = .ok (.iload 4, 2) := by decide +kernel
theorem dX5_operandsFit_495 : decode cX5_operandsFit 495 = .ok (.ifCond .eq 12, 3) := by decide +kernel
theorem dX5_operandsFit_498 : decode cX5_operandsFit 498 = .ok (.iload_n 1, 1) := by decide +kernel
theorem dX5_operandsFit_499 : decode cX5_operandsFit 499 = .ok (.iconst 1, 1) := by decide +kernel
theorem dX5_operandsFit_500 : decode cX5_operandsFit 500 = .ok (.if_icmp .ne 7, 3) := by decide +kernel
theorem dX5_operandsFit_503 : decode cX5_operandsFit 503 = .ok (.iconst 1, 1) := by decide +kernel
theorem dX5_operandsFit_504 : decode cX5_operandsFit 504 = .ok (.goto 4, 3) := by decide +kernel
theorem dX5_operandsFit_507 : decode cX5_operandsFit 507 = .ok (.iconst 0, 1) := by decide +kernel
theorem dX5_operandsFit_508 : decode cX5_operandsFit 508 = .ok (.ireturn, 1) := by decide +kernel
theorem dX5_operandsFit_509 : decode cX5_operandsFit 509 = .ok (.aload_n 0, 1) := by decide +kernel
theorem dX5_operandsFit_510 : decode cX5_operandsFit 510 = .ok (.getfield 37, 3) := by decide +kernel
theorem dX5_operandsFit_513 : decode cX5_operandsFit 513 = .ok (.bipush 47, 2) := by decide +kernel
theorem dX5_operandsFit_515 : decode cX5_operandsFit 515 = .ok (.if_icmp .ne 38, 3) := by decide +kernel
theorem dX5_operandsFit_518 : decode cX5_operandsFit 518 = .ok (.iload_n 3, 1) := by decide +kernel
theorem dX5_operandsFit_519 : decode cX5_operandsFit 519 = .ok (.ifCond .eq 32, 3) := by decide +kernel
theorem dX5_operandsFit_522 : decode cX5_operandsFit 522 = .ok (.aload_n 0, 1) := by decide +kernel
theorem dX5_operandsFit_523 : decode cX5_operandsFit 523 = .ok (.iconst 0, 1) := by decide +kernel
theorem dX5_operandsFit_524 : decode cX5_operandsFit 524 = .ok (.invokevirtual 138, 3) := by decide +kernel
theorem dX5_operandsFit_527 : decode cX5_operandsFit 527 = .ok (.ifCond .eq 24, 3) := by decide +kernel
theorem dX5_operandsFit_530 : decode cX5_operandsFit 530 = .ok (.iload_n 2, 1) := by decide +kernel
theorem dX5_operandsFit_531 : decode cX5_operandsFit 531 = .ok (.iconst 1, 1) := by decide +kernel
theorem dX5_operandsFit_532 : decode cX5_operandsFit 532 = .ok (.if_icmp .eq 15, 3) := by decide +kernel
theorem dX5_operandsFit_535 : decode cX5_operandsFit 535 = .ok (.aload_n 0, 1) := by decide +kernel
theorem dX5_operandsFit_536 : decode cX5_operandsFit 536 = .ok (.iconst 1, 1) := by decide +kernel
theorem dX5_operandsFit_537 : decode cX5_operandsFit 537 = .ok (.lconst 0, 1) := by decide +kernel
theorem dX5_operandsFit_538 : decode cX5_operandsFit 538 = .ok (.ldc2_w 145, 3) := by decide +kernel
theorem dX5_operandsFit_541 : decode cX5_operandsFit 541 = .ok (.invokevirtual 130, 3) := by decide +kernel
theorem dX5_operandsFit_544 : decode cX5_operandsFit 544 = .ok (.ifCond .eq 7, 3) := by decide +kernel
theorem dX5_operandsFit_547 : decode cX5_operandsFit 547 = .ok (.iconst 1, 1) := by decide +kernel
theorem dX5_operandsFit_548 : decode cX5_operandsFit 548 = .ok (.goto 4, 3) := by decide +kernel
theorem dX5_operandsFit_551 : decode cX5_operandsFit 551 = .ok (.iconst 0, 1) := by decide +kernel
theorem dX5_operandsFit_552 : decode cX5_operandsFit 552 = .ok (.ireturn, 1) := by decide +kernel
theorem dX5_operandsFit_553 : decode cX5_operandsFit 553 = .ok (.iload_n 1, 1) := by decide +kernel
theorem dX5_operandsFit_554 : decode cX5_operandsFit 554 = .ok (.ifCond .ne 12, 3) := by decide +kernel
theorem dX5_operandsFit_557 : decode cX5_operandsFit 557 = .ok (.iload 4, 2) := by decide +kernel
theorem dX5_operandsFit_559 : decode cX5_operandsFit 559 = .ok (.ifCond .eq 7, 3) := by decide +kernel
theorem dX5_operandsFit_562 : decode cX5_operandsFit 562 = .ok (.iconst 1, 1) := by decide +kernel
theorem dX5_operandsFit_563 : decode cX5_operandsFit 563 = .ok (.goto 4, 3) := by decide +kernel
theorem dX5_operandsFit_566 : decode cX5_operandsFit 566 = .ok (.iconst 0, 1) := by decide +kernel
theorem dX5_operandsFit_567 : decode cX5_operandsFit 567 = .ok (.ireturn, 1) := by decide +kernel
theorem dX5_isEither_0 : decode cX5_isEither 0 = .ok (.aload_n 0, 1) := by decide +kernel
theorem dX5_isEither_1 : decode cX5_isEither 1 = .ok (.getfield 50, 3) := by decide +kernel
theorem dX5_isEither_4 : decode cX5_isEither 4 = .ok (.iload_n 1, 1) := by decide +kernel
theorem dX5_isEither_5 : decode cX5_isEither 5 = .ok (.iaload, 1) := by decide +kernel
theorem dX5_isEither_6 : decode cX5_isEither 6 = .ok (.iconst 1, 1) := by decide +kernel
theorem dX5_isEither_7 : decode cX5_isEither 7 = .ok (.if_icmp .eq 13, 3) := by decide +kernel
theorem dX5_isEither_10 : decode cX5_isEither 10 = .ok (.aload_n 0, 1) := by decide +kernel
theorem dX5_isEither_11 : decode cX5_isEither 11 = .ok (.getfield 50, 3) := by decide +kernel
theorem dX5_isEither_14 : decode cX5_isEither 14 = .ok (.iload_n 1, 1) := by decide +kernel
theorem dX5_isEither_15 : decode cX5_isEither 15 = .ok (.iaload, 1) := by decide +kernel
theorem dX5_isEither_16 : decode cX5_isEither 16 = .ok (.iconst 2, 1) := by decide +kernel
theorem dX5_isEither_17 : decode cX5_isEither 17 = .ok (.if_icmp .ne 7, 3) := by decide +kernel
theorem dX5_isEither_20 : decode cX5_isEither 20 = .ok (.iconst 1, 1) := by decide +kernel
theorem dX5_isEither_21 : decode cX5_isEither 21 = .ok (.goto 4, 3) := by decide +kernel
theorem dX5_isEither_24 : decode cX5_isEither 24 = .ok (.iconst 0, 1) := by decide +kernel
theorem dX5_isEither_25 : decode cX5_isEither 25 = .ok (.ireturn, 1) := by decide +kernel
theorem dX5_isPlain_0 : decode cX5_isPlain 0 = .ok (.aload_n 0, 1) := by decide +kernel
theorem dX5_isPlain_1 : decode cX5_isPlain 1 = .ok (.getfield 37, 3) := by decide +kernel
theorem dX5_isPlain_4 : decode cX5_isPlain 4 = .ok (.bipush 8, 2) := by decide +kernel
theorem dX5_isPlain_6 : decode cX5_isPlain 6 = .ok (.if_icmp .ne 28, 3) := by decide +kernel
theorem dX5_isPlain_9 : decode cX5_isPlain 9 = .ok (.aload_n 0, 1) := by decide +kernel
theorem dX5_isPlain_10 : decode cX5_isPlain 10 = .ok (.getfield 114, 3) := by decide +kernel
theorem dX5_isPlain_13 : decode cX5_isPlain 13 = .ok (.bipush 8, 2) := by decide +kernel
theorem dX5_isPlain_15 : decode cX5_isPlain 15 = .ok (.if_icmp .ne 19, 3) := by decide +kernel
theorem dX5_isPlain_18 : decode cX5_isPlain 18 = .ok (.aload_n 0, 1) := by decide +kernel
theorem dX5_isPlain_19 : decode cX5_isPlain 19 = .ok (.getfield 50, 3) := by decide +kernel
theorem dX5_isPlain_22 : decode cX5_isPlain 22 = .ok (.iload_n 1, 1) := by decide +kernel
theorem dX5_isPlain_23 : decode cX5_isPlain 23 = .ok (.iaload, 1) := by decide +kernel
theorem dX5_isPlain_24 : decode cX5_isPlain 24 = .ok (.iconst 3, 1) := by decide +kernel
theorem dX5_isPlain_25 : decode cX5_isPlain 25 = .ok (.if_icmp .ne 7, 3) := by decide +kernel
theorem dX5_isPlain_28 : decode cX5_isPlain 28 = .ok (.iconst 1, 1) := by decide +kernel
theorem dX5_isPlain_29 : decode cX5_isPlain 29 = .ok (.goto 4, 3) := by decide +kernel
theorem dX5_isPlain_32 : decode cX5_isPlain 32 = .ok (.iconst 0, 1) := by decide +kernel
theorem dX5_isPlain_33 : decode cX5_isPlain 33 = .ok (.ireturn, 1) := by decide +kernel
theorem dX5_isPlain_34 : decode cX5_isPlain 34 = .ok (.aload_n 0, 1) := by decide +kernel
theorem dX5_isPlain_35 : decode cX5_isPlain 35 = .ok (.getfield 114, 3) := by decide +kernel
theorem dX5_isPlain_38 : decode cX5_isPlain 38 = .ok (.iconst 1, 1) := by decide +kernel
theorem dX5_isPlain_39 : decode cX5_isPlain 39 = .ok (.if_icmp .ne 17, 3) := by decide +kernel
theorem dX5_isPlain_42 : decode cX5_isPlain 42 = .ok (.aload_n 0, 1) := by decide +kernel
theorem dX5_isPlain_43 : decode cX5_isPlain 43 = .ok (.iload_n 1, 1) := by decide +kernel
theorem dX5_isPlain_44 : decode cX5_isPlain 44 = .ok (.ldc2_w 126, 3) := by decide +kernel
theorem dX5_isPlain_47 : decode cX5_isPlain 47 = .ok (.ldc2_w 128, 3) := by decide +kernel
theorem dX5_isPlain_50 : decode cX5_isPlain 50 = .ok (.invokevirtual 130, 3) := by decide +kernel
theorem dX5_isPlain_53 : decode cX5_isPlain 53 = .ok (.goto 14, 3) := by decide +kernel
theorem dX5_isPlain_56 : decode cX5_isPlain 56 = .ok (.aload_n 0, 1) := by decide +kernel
theorem dX5_isPlain_57 : decode cX5_isPlain 57 = .ok (.iload_n 1, 1) := by decide +kernel
theorem dX5_isPlain_58 : decode cX5_isPlain 58 = .ok (.ldc2_w 134, 3) := by decide +kernel
theorem dX5_isPlain_61 : decode cX5_isPlain 61 = .ok (.ldc2_w 136, 3) := by decide +kernel
theorem dX5_isPlain_64 : decode cX5_isPlain 64 = .ok (.invokevirtual 130, 3) := by decide +kernel
theorem dX5_isPlain_67 : decode cX5_isPlain 67 = .ok (.ireturn, 1) := by decide +kernel
theorem dX5_isNumber_0 : decode cX5_isNumber 0 = .ok (.aload_n 0, 1) := by decide +kernel
theorem dX5_isNumber_1 : decode cX5_isNumber 1 = .ok (.getfield 50, 3) := by decide +kernel
theorem dX5_isNumber_4 : decode cX5_isNumber 4 = .ok (.iload_n 1, 1) := by decide +kernel
theorem dX5_isNumber_5 : decode cX5_isNumber 5 = .ok (.iaload, 1) := by decide +kernel
theorem dX5_isNumber_6 : decode cX5_isNumber 6 = .ok (.iconst 3, 1) := by decide +kernel
theorem dX5_isNumber_7 : decode cX5_isNumber 7 = .ok (.if_icmp .ne 26, 3) := by decide +kernel
theorem dX5_isNumber_10 : decode cX5_isNumber 10 = .ok (.aload_n 0, 1) := by decide +kernel
theorem dX5_isNumber_11 : decode cX5_isNumber 11 = .ok (.getfield 123, 3) := by decide +kernel
theorem dX5_isNumber_14 : decode cX5_isNumber 14 = .ok (.lload_n 2, 1) := by decide +kernel
theorem dX5_isNumber_15 : decode cX5_isNumber 15 = .ok (.lcmp, 1) := by decide +kernel
theorem dX5_isNumber_16 : decode cX5_isNumber 16 = .ok (.ifCond .lt 17, 3) := by decide +kernel
theorem dX5_isNumber_19 : decode cX5_isNumber 19 = .ok (.aload_n 0, 1) := by decide +kernel
theorem dX5_isNumber_20 : decode cX5_isNumber 20 = .ok (.getfield 123, 3) := by decide +kernel
theorem dX5_isNumber_23 : decode cX5_isNumber 23 = .ok (.lload 4, 2) := by decide +kernel
theorem dX5_isNumber_25 : decode cX5_isNumber 25 = .ok (.lcmp, 1) := by decide +kernel
theorem dX5_isNumber_26 : decode cX5_isNumber 26 = .ok (.ifCond .gt 7, 3) := by decide +kernel
theorem dX5_isNumber_29 : decode cX5_isNumber 29 = .ok (.iconst 1, 1) := by decide +kernel
theorem dX5_isNumber_30 : decode cX5_isNumber 30 = .ok (.goto 4, 3) := by decide +kernel
theorem dX5_isNumber_33 : decode cX5_isNumber 33 = .ok (.iconst 0, 1) := by decide +kernel
theorem dX5_isNumber_34 : decode cX5_isNumber 34 = .ok (.ireturn, 1) := by decide +kernel
theorem dX5_memoryFits_0 : decode cX5_memoryFits 0 = .ok (.aload_n 0, 1) := by decide +kernel
theorem dX5_memoryFits_1 : decode cX5_memoryFits 1 = .ok (.getfield 47, 3) := by decide +kernel
theorem dX5_memoryFits_4 : decode cX5_memoryFits 4 = .ok (.iconst 1, 1) := by decide +kernel
theorem dX5_memoryFits_5 : decode cX5_memoryFits 5 = .ok (.if_icmp .eq 28, 3) := by decide +kernel
theorem dX5_memoryFits_8 : decode cX5_memoryFits 8 = .ok (.aload_n 0, 1) := by decide +kernel
theorem dX5_memoryFits_9 : decode cX5_memoryFits 9 = .ok (.getfield 47, 3) := by decide +kernel
theorem dX5_memoryFits_12 : decode cX5_memoryFits 12 = .ok (.iconst 2, 1) := by decide +kernel
theorem dX5_memoryFits_13 : decode cX5_memoryFits 13 = .ok (.if_icmp .eq 20, 3) := by decide +kernel
theorem dX5_memoryFits_16 : decode cX5_memoryFits 16 = .ok (.aload_n 0, 1) := by decide +kernel
theorem dX5_memoryFits_17 : decode cX5_memoryFits 17 = .ok (.getfield 47, 3) := by decide +kernel
theorem dX5_memoryFits_20 : decode cX5_memoryFits 20 = .ok (.iconst 4, 1) := by decide +kernel
theorem dX5_memoryFits_21 : decode cX5_memoryFits 21 = .ok (.if_icmp .eq 12, 3) := by decide +kernel
theorem dX5_memoryFits_24 : decode cX5_memoryFits 24 = .ok (.aload_n 0, 1) := by decide +kernel
theorem dX5_memoryFits_25 : decode cX5_memoryFits 25 = .ok (.getfield 47, 3) := by decide +kernel
theorem dX5_memoryFits_28 : decode cX5_memoryFits 28 = .ok (.bipush 8, 2) := by decide +kernel
theorem dX5_memoryFits_30 : decode cX5_memoryFits 30 = .ok (.if_icmp .ne 7, 3) := by decide +kernel
theorem dX5_memoryFits_33 : decode cX5_memoryFits 33 = .ok (.iconst 1, 1) := by decide +kernel
theorem dX5_memoryFits_34 : decode cX5_memoryFits 34 = .ok (.goto 4, 3) := by decide +kernel
theorem dX5_memoryFits_37 : decode cX5_memoryFits 37 = .ok (.iconst 0, 1) := by decide +kernel
theorem dX5_memoryFits_38 : decode cX5_memoryFits 38 = .ok (.istore_n 1, 1) := by decide +kernel
theorem dX5_memoryFits_39 : decode cX5_memoryFits 39 = .ok (.aload_n 0, 1) := by decide +kernel
theorem dX5_memoryFits_40 : decode cX5_memoryFits 40 = .ok (.getfield 41, 3) := by decide +kernel
theorem dX5_memoryFits_43 : decode cX5_memoryFits 43 = .ok (.iconst (-1), 1) := by decide +kernel
theorem dX5_memoryFits_44 : decode cX5_memoryFits 44 = .ok (.if_icmp .lt 76, 3) := by decide +kernel
theorem dX5_memoryFits_47 : decode cX5_memoryFits 47 = .ok (.aload_n 0, 1) := by decide +kernel
theorem dX5_memoryFits_48 : decode cX5_memoryFits 48 = .ok (.getfield 41, 3) := by decide +kernel
theorem dX5_memoryFits_51 : decode cX5_memoryFits 51 = .ok (.bipush 16, 2) := by decide +kernel
theorem dX5_memoryFits_53 : decode cX5_memoryFits 53 = .ok (.if_icmp .gt 67, 3) := by decide +kernel
theorem dX5_memoryFits_56 : decode cX5_memoryFits 56 = .ok (.aload_n 0, 1) := by decide +kernel
theorem dX5_memoryFits_57 : decode cX5_memoryFits 57 = .ok (.getfield 44, 3) := by decide +kernel
theorem dX5_memoryFits_60 : decode cX5_memoryFits 60 = .ok (.iconst (-1), 1) := by decide +kernel
theorem dX5_memoryFits_61 : decode cX5_memoryFits 61 = .ok (.if_icmp .lt 59, 3) := by decide +kernel
theorem dX5_memoryFits_64 : decode cX5_memoryFits 64 = .ok (.aload_n 0, 1) := by decide +kernel
theorem dX5_memoryFits_65 : decode cX5_memoryFits 65 = .ok (.getfield 44, 3) := by decide +kernel
theorem dX5_memoryFits_68 : decode cX5_memoryFits 68 = .ok (.bipush 15, 2) := by decide +kernel
theorem dX5_memoryFits_70 : decode cX5_memoryFits 70 = .ok (.if_icmp .gt 50, 3) := by decide +kernel
theorem dX5_memoryFits_73 : decode cX5_memoryFits 73 = .ok (.aload_n 0, 1) := by decide +kernel
theorem dX5_memoryFits_74 : decode cX5_memoryFits 74 = .ok (.getfield 44, 3) := by decide +kernel
theorem dX5_memoryFits_77 : decode cX5_memoryFits 77 = .ok (.iconst 4, 1) := by decide +kernel
theorem dX5_memoryFits_78 : decode cX5_memoryFits 78 = .ok (.if_icmp .eq 42, 3) := by decide +kernel
theorem dX5_memoryFits_81 : decode cX5_memoryFits 81 = .ok (.iload_n 1, 1) := by decide +kernel
theorem dX5_memoryFits_82 : decode cX5_memoryFits 82 = .ok (.ifCond .eq 38, 3) := by decide +kernel
theorem dX5_memoryFits_85 : decode cX5_memoryFits 85 = .ok (.aload_n 0, 1) := by decide +kernel
theorem dX5_memoryFits_86 : decode cX5_memoryFits 86 = .ok (.getfield 44, 3) := by decide +kernel
theorem dX5_memoryFits_89 : decode cX5_memoryFits 89 = .ok (.ifCond .ge 11, 3) := by decide +kernel
theorem dX5_memoryFits_92 : decode cX5_memoryFits 92 = .ok (.aload_n 0, 1) := by decide +kernel
theorem dX5_memoryFits_93 : decode cX5_memoryFits 93 = .ok (.getfield 47, 3) := by decide +kernel
theorem dX5_memoryFits_96 : decode cX5_memoryFits 96 = .ok (.iconst 1, 1) := by decide +kernel
theorem dX5_memoryFits_97 : decode cX5_memoryFits 97 = .ok (.if_icmp .ne 23, 3) := by decide +kernel
theorem dX5_memoryFits_100 : decode cX5_memoryFits 100 = .ok (.aload_n 0, 1) := by decide +kernel
theorem dX5_memoryFits_101 : decode cX5_memoryFits 101 = .ok (.getfield 41, 3) := by decide +kernel
theorem dX5_memoryFits_104 : decode cX5_memoryFits 104 = .ok (.bipush 16, 2) := by decide +kernel
theorem dX5_memoryFits_106 : decode cX5_memoryFits 106 = .ok (.if_icmp .ne 10, 3) := by decide +kernel
theorem dX5_memoryFits_109 : decode cX5_memoryFits 109 = .ok (.aload_n 0, 1) := by decide +kernel
theorem dX5_memoryFits_110 : decode cX5_memoryFits 110 = .ok (.getfield 44, 3) := by decide +kernel
theorem dX5_memoryFits_113 : decode cX5_memoryFits 113 = .ok (.ifCond .ge 7, 3) := by decide +kernel
theorem dX5_memoryFits_116 : decode cX5_memoryFits 116 = .ok (.iconst 1, 1) := by decide +kernel
theorem dX5_memoryFits_117 : decode cX5_memoryFits 117 = .ok (.goto 4, 3) := by decide +kernel
theorem dX5_memoryFits_120 : decode cX5_memoryFits 120 = .ok (.iconst 0, 1) := by decide +kernel
theorem dX5_memoryFits_121 : decode cX5_memoryFits 121 = .ok (.ireturn, 1) := by decide +kernel
theorem dX5_flags_0 : decode cX5_flags 0 = .ok (.ldc2_w 247, 3) := by decide +kernel
theorem dX5_flags_3 : decode cX5_flags 3 = .ok (.aload_n 0, 1) := by decide +kernel
theorem dX5_flags_4 : decode cX5_flags 4 = .ok (.getfield 237, 3) := by decide +kernel
theorem dX5_flags_7 : decode cX5_flags 7 = .ok (.ifCond .eq 7, 3) := by decide +kernel
theorem dX5_flags_10 : decode cX5_flags 10 = .ok (.lconst 1, 1) := by decide +kernel
theorem dX5_flags_11 : decode cX5_flags 11 = .ok (.goto 4, 3) := by decide +kernel
theorem dX5_flags_14 : decode cX5_flags 14 = .ok (.lconst 0, 1) := by decide +kernel
theorem dX5_flags_15 : decode cX5_flags 15 = .ok (.ladd, 1) := by decide +kernel
theorem dX5_flags_16 : decode cX5_flags 16 = .ok (.aload_n 0, 1) := by decide +kernel
theorem dX5_flags_17 : decode cX5_flags 17 = .ok (.getfield 230, 3) := by decide +kernel
theorem dX5_flags_20 : decode cX5_flags 20 = .ok (.ifCond .eq 9, 3) := by decide +kernel
theorem dX5_flags_23 : decode cX5_flags 23 = .ok (.ldc2_w 249, 3) := by decide +kernel
theorem dX5_flags_26 : decode cX5_flags 26 = .ok (.goto 4, 3) := by decide +kernel
theorem dX5_flags_29 : decode cX5_flags 29 = .ok (.lconst 0, 1) := by decide +kernel
theorem dX5_flags_30 : decode cX5_flags 30 = .ok (.ladd, 1) := by decide +kernel
theorem dX5_flags_31 : decode cX5_flags 31 = .ok (.aload_n 0, 1) := by decide +kernel
theorem dX5_flags_32 : decode cX5_flags 32 = .ok (.getfield 220, 3) := by decide +kernel
theorem dX5_flags_35 : decode cX5_flags 35 = .ok (.ifCond .eq 9, 3) := by decide +kernel
theorem dX5_flags_38 : decode cX5_flags 38 = .ok (.ldc2_w 251, 3) := by decide +kernel
theorem dX5_flags_41 : decode cX5_flags 41 = .ok (.goto 4, 3) := by decide +kernel
theorem dX5_flags_44 : decode cX5_flags 44 = .ok (.lconst 0, 1) := by decide +kernel
theorem dX5_flags_45 : decode cX5_flags 45 = .ok (.ladd, 1) := by decide +kernel
theorem dX5_flags_46 : decode cX5_flags 46 = .ok (.aload_n 0, 1) := by decide +kernel
theorem dX5_flags_47 : decode cX5_flags 47 = .ok (.getfield 227, 3) := by decide +kernel
theorem dX5_flags_50 : decode cX5_flags 50 = .ok (.ifCond .eq 9, 3) := by decide +kernel
theorem dX5_flags_53 : decode cX5_flags 53 = .ok (.ldc2_w 253, 3) := by decide +kernel
theorem dX5_flags_56 : decode cX5_flags 56 = .ok (.goto 4, 3) := by decide +kernel
theorem dX5_flags_59 : decode cX5_flags 59 = .ok (.lconst 0, 1) := by decide +kernel
theorem dX5_flags_60 : decode cX5_flags 60 = .ok (.ladd, 1) := by decide +kernel
theorem dX5_flags_61 : decode cX5_flags 61 = .ok (.aload_n 0, 1) := by decide +kernel
theorem dX5_flags_62 : decode cX5_flags 62 = .ok (.getfield 240, 3) := by decide +kernel
theorem dX5_flags_65 : decode cX5_flags 65 = .ok (.ifCond .eq 9, 3) := by decide +kernel
theorem dX5_flags_68 : decode cX5_flags 68 = .ok (.ldc2_w 255, 3) := by decide +kernel
theorem dX5_flags_71 : decode cX5_flags 71 = .ok (.goto 4, 3) := by decide +kernel
theorem dX5_flags_74 : decode cX5_flags 74 = .ok (.lconst 0, 1) := by decide +kernel
theorem dX5_flags_75 : decode cX5_flags 75 = .ok (.ladd, 1) := by decide +kernel
theorem dX5_flags_76 : decode cX5_flags 76 = .ok (.lreturn, 1) := by decide +kernel
theorem dX5_addressNow_0 : decode cX5_addressNow 0 = .ok (.aload_n 0, 1) := by decide +kernel
theorem dX5_addressNow_1 : decode cX5_addressNow 1 = .ok (.getfield 120, 3) := by decide +kernel
theorem dX5_addressNow_4 : decode cX5_addressNow 4 = .ok (.i2l, 1) := by decide +kernel
theorem dX5_addressNow_5 : decode cX5_addressNow 5 = .ok (.lstore_n 1, 1) := by decide +kernel
theorem dX5_addressNow_6 : decode cX5_addressNow 6 = .ok (.aload_n 0, 1) := by decide +kernel
theorem dX5_addressNow_7 : decode cX5_addressNow 7 = .ok (.getfield 41, 3) := by decide +kernel
theorem dX5_addressNow_10 : decode cX5_addressNow 10 = .ok (.bipush 16, 2) := by decide +kernel
theorem dX5_addressNow_12 : decode cX5_addressNow 12 = .ok (.if_icmp .ne 10, 3) := by decide +kernel
theorem dX5_addressNow_15 : decode cX5_addressNow 15 = .ok (.lload_n 1, 1) := by decide +kernel
theorem dX5_addressNow_16 : decode cX5_addressNow 16 = .ok (.aload_n 0, 1) := by decide +kernel
theorem dX5_addressNow_17 : decode cX5_addressNow 17 = .ok (.getfield 90, 3) := by decide +kernel
theorem dX5_addressNow_20 : decode cX5_addressNow 20 = .ok (.ladd, 1) := by decide +kernel
theorem dX5_addressNow_21 : decode cX5_addressNow 21 = .ok (.lstore_n 1, 1) := by decide +kernel
theorem dX5_addressNow_22 : decode cX5_addressNow 22 = .ok (.aload_n 0, 1) := by decide +kernel
theorem dX5_addressNow_23 : decode cX5_addressNow 23 = .ok (.getfield 41, 3) := by decide +kernel
theorem dX5_addressNow_26 : decode cX5_addressNow 26 = .ok (.ifCond .lt 24, 3) := by decide +kernel
theorem dX5_addressNow_29 : decode cX5_addressNow 29 = .ok (.aload_n 0, 1) := by decide +kernel
theorem dX5_addressNow_30 : decode cX5_addressNow 30 = .ok (.getfield 41, 3) := by decide +kernel
theorem dX5_addressNow_33 : decode cX5_addressNow 33 = .ok (.bipush 16, 2) := by decide +kernel
theorem dX5_addressNow_35 : decode cX5_addressNow 35 = .ok (.if_icmp .ge 15, 3) := by decide +kernel
theorem dX5_addressNow_38 : decode cX5_addressNow 38 = .ok (.lload_n 1, 1) := by decide +kernel
theorem dX5_addressNow_39 : decode cX5_addressNow 39 = .ok (.aload_n 0, 1) := by decide +kernel
theorem dX5_addressNow_40 : decode cX5_addressNow 40 = .ok (.getfield 30, 3) := by decide +kernel
theorem dX5_addressNow_43 : decode cX5_addressNow 43 = .ok (.aload_n 0, 1) := by decide +kernel
theorem dX5_addressNow_44 : decode cX5_addressNow 44 = .ok (.getfield 41, 3) := by decide +kernel
theorem dX5_addressNow_47 : decode cX5_addressNow 47 = .ok (.laload, 1) := by decide +kernel
theorem dX5_addressNow_48 : decode cX5_addressNow 48 = .ok (.ladd, 1) := by decide +kernel
theorem dX5_addressNow_49 : decode cX5_addressNow 49 = .ok (.lstore_n 1, 1) := by decide +kernel
theorem dX5_addressNow_50 : decode cX5_addressNow 50 = .ok (.aload_n 0, 1) := by decide +kernel
theorem dX5_addressNow_51 : decode cX5_addressNow 51 = .ok (.getfield 44, 3) := by decide +kernel
theorem dX5_addressNow_54 : decode cX5_addressNow 54 = .ok (.ifCond .lt 21, 3) := by decide +kernel
theorem dX5_addressNow_57 : decode cX5_addressNow 57 = .ok (.lload_n 1, 1) := by decide +kernel
theorem dX5_addressNow_58 : decode cX5_addressNow 58 = .ok (.aload_n 0, 1) := by decide +kernel
theorem dX5_addressNow_59 : decode cX5_addressNow 59 = .ok (.getfield 30, 3) := by decide +kernel
theorem dX5_addressNow_62 : decode cX5_addressNow 62 = .ok (.aload_n 0, 1) := by decide +kernel
theorem dX5_addressNow_63 : decode cX5_addressNow 63 = .ok (.getfield 44, 3) := by decide +kernel
theorem dX5_addressNow_66 : decode cX5_addressNow 66 = .ok (.laload, 1) := by decide +kernel
theorem dX5_addressNow_67 : decode cX5_addressNow 67 = .ok (.aload_n 0, 1) := by decide +kernel
theorem dX5_addressNow_68 : decode cX5_addressNow 68 = .ok (.getfield 47, 3) := by decide +kernel
theorem dX5_addressNow_71 : decode cX5_addressNow 71 = .ok (.i2l, 1) := by decide +kernel
theorem dX5_addressNow_72 : decode cX5_addressNow 72 = .ok (.lmul, 1) := by decide +kernel
theorem dX5_addressNow_73 : decode cX5_addressNow 73 = .ok (.ladd, 1) := by decide +kernel
theorem dX5_addressNow_74 : decode cX5_addressNow 74 = .ok (.lstore_n 1, 1) := by decide +kernel
theorem dX5_addressNow_75 : decode cX5_addressNow 75 = .ok (.lload_n 1, 1) := by decide +kernel
theorem dX5_addressNow_76 : decode cX5_addressNow 76 = .ok (.lreturn, 1) := by decide +kernel
theorem dX5_perform_0 : decode cX5_perform 0 = .ok (.aload_n 0, 1) := by decide +kernel
theorem dX5_perform_1 : decode cX5_perform 1 = .ok (.getfield 37, 3) := by decide +kernel
theorem dX5_perform_4 : decode cX5_perform 4 = .ok (.istore_n 1, 1) := by decide +kernel
theorem dX5_perform_5 : decode cX5_perform 5 = .ok (.aload_n 0, 1) := by decide +kernel
theorem dX5_perform_6 : decode cX5_perform 6 = .ok (.getfield 114, 3) := by decide +kernel
theorem dX5_perform_9 : decode cX5_perform 9 = .ok (.istore_n 2, 1) := by decide +kernel
theorem dX5_perform_10 : decode cX5_perform 10 = .ok (.iload_n 1, 1) := by decide +kernel
theorem dX5_perform_11 : decode cX5_perform 11 = .ok (.bipush 8, 2) := by decide +kernel
theorem dX5_perform_13 : decode cX5_perform 13 = .ok (.if_icmp .lt 9, 3) := by decide +kernel
theorem dX5_perform_16 : decode cX5_perform 16 = .ok (.iload_n 1, 1) := by decide +kernel
theorem dX5_perform_17 : decode cX5_perform 17 = .ok (.bipush 9, 2) := by decide +kernel
theorem dX5_perform_19 : decode cX5_perform 19 = .ok (.if_icmp .ne 12, 3) := by decide +kernel
theorem dX5_perform_22 : decode cX5_perform 22 = .ok (.aload_n 0, 1) := by decide +kernel
theorem dX5_perform_23 : decode cX5_perform 23 = .ok (.iload_n 1, 1) := by decide +kernel
theorem dX5_perform_24 : decode cX5_perform 24 = .ok (.iload_n 2, 1) := by decide +kernel
theorem dX5_perform_25 : decode cX5_perform 25 = .ok (.invokevirtual 327, 3) := by decide +kernel
theorem dX5_perform_28 : decode cX5_perform 28 = .ok (.goto 327, 3) := by decide +kernel
theorem dX5_perform_31 : decode cX5_perform 31 = .ok (.iload_n 1, 1) := by decide +kernel
theorem dX5_perform_32 : decode cX5_perform 32 = .ok (.bipush 15, 2) := by decide +kernel
theorem dX5_perform_34 : decode cX5_perform 34 = .ok (.if_icmp .ge 12, 3) := by decide +kernel
theorem dX5_perform_37 : decode cX5_perform 37 = .ok (.aload_n 0, 1) := by decide +kernel
theorem dX5_perform_38 : decode cX5_perform 38 = .ok (.iload_n 1, 1) := by decide +kernel
theorem dX5_perform_39 : decode cX5_perform 39 = .ok (.iload_n 2, 1) := by decide +kernel
theorem dX5_perform_40 : decode cX5_perform 40 = .ok (.invokevirtual 330, 3) := by decide +kernel
theorem dX5_perform_43 : decode cX5_perform 43 = .ok (.goto 312, 3) := by decide +kernel
theorem dX5_perform_46 : decode cX5_perform 46 = .ok (.iload_n 1, 1) := by decide +kernel
theorem dX5_perform_47 : decode cX5_perform 47 = .ok (.bipush 17, 2) := by decide +kernel
theorem dX5_perform_49 : decode cX5_perform 49 = .ok (.if_icmp .lt 15, 3) := by decide +kernel
theorem dX5_perform_52 : decode cX5_perform 52 = .ok (.iload_n 1, 1) := by decide +kernel
theorem dX5_perform_53 : decode cX5_perform 53 = .ok (.bipush 21, 2) := by decide +kernel
theorem dX5_perform_55 : decode cX5_perform 55 = .ok (.if_icmp .eq 9, 3) := by decide +kernel
theorem dX5_perform_58 : decode cX5_perform 58 = .ok (.iload_n 1, 1) := by decide +kernel
theorem dX5_perform_59 : decode cX5_perform 59 = .ok (.bipush 22, 2) := by decide +kernel
theorem dX5_perform_61 : decode cX5_perform 61 = .ok (.if_icmp .ne 12, 3) := by decide +kernel
theorem dX5_perform_64 : decode cX5_perform 64 = .ok (.aload_n 0, 1) := by decide +kernel
theorem dX5_perform_65 : decode cX5_perform 65 = .ok (.iload_n 1, 1) := by decide +kernel
theorem dX5_perform_66 : decode cX5_perform 66 = .ok (.iload_n 2, 1) := by decide +kernel
theorem dX5_perform_67 : decode cX5_perform 67 = .ok (.invokevirtual 333, 3) := by decide +kernel
theorem dX5_perform_70 : decode cX5_perform 70 = .ok (.goto 285, 3) := by decide +kernel
theorem dX5_perform_73 : decode cX5_perform 73 = .ok (.iload_n 1, 1) := by decide +kernel
theorem dX5_perform_74 : decode cX5_perform 74 = .ok (.bipush 19, 2) := by decide +kernel
theorem dX5_perform_76 : decode cX5_perform 76 = .ok (.if_icmp .ge 22, 3) := by decide +kernel
theorem dX5_perform_79 : decode cX5_perform 79 = .ok (.aload_n 0, 1) := by decide +kernel
theorem dX5_perform_80 : decode cX5_perform 80 = .ok (.iload_n 1, 1) := by decide +kernel
theorem dX5_perform_81 : decode cX5_perform 81 = .ok (.bipush 18, 2) := by decide +kernel
theorem dX5_perform_83 : decode cX5_perform 83 = .ok (.if_icmp .ne 7, 3) := by decide +kernel
theorem dX5_perform_86 : decode cX5_perform 86 = .ok (.iconst 1, 1) := by decide +kernel
theorem dX5_perform_87 : decode cX5_perform 87 = .ok (.goto 4, 3) := by decide +kernel
theorem dX5_perform_90 : decode cX5_perform 90 = .ok (.iconst 0, 1) := by decide +kernel
theorem dX5_perform_91 : decode cX5_perform 91 = .ok (.iload_n 2, 1) := by decide +kernel
theorem dX5_perform_92 : decode cX5_perform 92 = .ok (.invokevirtual 336, 3) := by decide +kernel
theorem dX5_perform_95 : decode cX5_perform 95 = .ok (.goto 260, 3) := by decide +kernel
theorem dX5_perform_98 : decode cX5_perform 98 = .ok (.iload_n 1, 1) := by decide +kernel
theorem dX5_perform_99 : decode cX5_perform 99 = .ok (.bipush 21, 2) := by decide +kernel
theorem dX5_perform_101 : decode cX5_perform 101 = .ok (.if_icmp .ge 22, 3) := by decide +kernel
theorem dX5_perform_104 : decode cX5_perform 104 = .ok (.aload_n 0, 1) := by decide +kernel
theorem dX5_perform_105 : decode cX5_perform 105 = .ok (.iload_n 1, 1) := by decide +kernel
theorem dX5_perform_106 : decode cX5_perform 106 = .ok (.bipush 20, 2) := by decide +kernel
theorem dX5_perform_108 : decode cX5_perform 108 = .ok (.if_icmp .ne 7, 3) := by decide +kernel
theorem dX5_perform_111 : decode cX5_perform 111 = .ok (.iconst 1, 1) := by decide +kernel
theorem dX5_perform_112 : decode cX5_perform 112 = .ok (.goto 4, 3) := by decide +kernel
theorem dX5_perform_115 : decode cX5_perform 115 = .ok (.iconst 0, 1) := by decide +kernel
theorem dX5_perform_116 : decode cX5_perform 116 = .ok (.iload_n 2, 1) := by decide +kernel
theorem dX5_perform_117 : decode cX5_perform 117 = .ok (.invokevirtual 340, 3) := by decide +kernel
theorem dX5_perform_120 : decode cX5_perform 120 = .ok (.goto 235, 3) := by decide +kernel
theorem dX5_perform_123 : decode cX5_perform 123 = .ok (.iload_n 1, 1) := by decide +kernel
theorem dX5_perform_124 : decode cX5_perform 124 = .ok (.bipush 23, 2) := by decide +kernel
theorem dX5_perform_126 : decode cX5_perform 126 = .ok (.if_icmp .ne 11, 3) := by decide +kernel
theorem dX5_perform_129 : decode cX5_perform 129 = .ok (.aload_n 0, 1) := by decide +kernel
theorem dX5_perform_130 : decode cX5_perform 130 = .ok (.iload_n 2, 1) := by decide +kernel
theorem dX5_perform_131 : decode cX5_perform 131 = .ok (.invokevirtual 343, 3) := by decide +kernel
theorem dX5_perform_134 : decode cX5_perform 134 = .ok (.goto 221, 3) := by decide +kernel
theorem dX5_perform_137 : decode cX5_perform 137 = .ok (.iload_n 1, 1) := by decide +kernel
theorem dX5_perform_138 : decode cX5_perform 138 = .ok (.bipush 29, 2) := by decide +kernel
theorem dX5_perform_140 : decode cX5_perform 140 = .ok (.if_icmp .ge 12, 3) := by decide +kernel
theorem dX5_perform_143 : decode cX5_perform 143 = .ok (.aload_n 0, 1) := by decide +kernel
theorem dX5_perform_144 : decode cX5_perform 144 = .ok (.iload_n 1, 1) := by decide +kernel
theorem dX5_perform_145 : decode cX5_perform 145 = .ok (.iload_n 2, 1) := by decide +kernel
theorem dX5_perform_146 : decode cX5_perform 146 = .ok (.invokevirtual 347, 3) := by decide +kernel
theorem dX5_perform_149 : decode cX5_perform 149 = .ok (.goto 206, 3) := by decide +kernel
theorem dX5_perform_152 : decode cX5_perform 152 = .ok (.iload_n 1, 1) := by decide +kernel
theorem dX5_perform_153 : decode cX5_perform 153 = .ok (.bipush 35, 2) := by decide +kernel
theorem dX5_perform_155 : decode cX5_perform 155 = .ok (.if_icmp .ge 11, 3) := by decide +kernel
theorem dX5_perform_158 : decode cX5_perform 158 = .ok (.aload_n 0, 1) := by decide +kernel
theorem dX5_perform_159 : decode cX5_perform 159 = .ok (.iload_n 1, 1) := by decide +kernel
theorem dX5_perform_160 : decode cX5_perform 160 = .ok (.invokevirtual 350, 3) := by decide +kernel
theorem dX5_perform_163 : decode cX5_perform 163 = .ok (.goto 192, 3) := by decide +kernel
theorem dX5_perform_166 : decode cX5_perform 166 = .ok (.iload_n 1, 1) := by decide +kernel
theorem dX5_perform_167 : decode cX5_perform 167 = .ok (.bipush 35, 2) := by decide +kernel
theorem dX5_perform_169 : decode cX5_perform 169 = .ok (.if_icmp .ne 28, 3) := by decide +kernel
theorem dX5_perform_172 : decode cX5_perform 172 = .ok (.aload_n 0, 1) := by decide +kernel
theorem dX5_perform_173 : decode cX5_perform 173 = .ok (.iconst 0, 1) := by decide +kernel
theorem dX5_perform_174 : decode cX5_perform 174 = .ok (.iconst 1, 1) := by decide +kernel
theorem dX5_perform_175 : decode cX5_perform 175 = .ok (.aload_n 0, 1) := by decide +kernel
theorem dX5_perform_176 : decode cX5_perform 176 = .ok (.aload_n 0, 1) := by decide +kernel
theorem dX5_perform_177 : decode cX5_perform 177 = .ok (.getfield 117, 3) := by decide +kernel
theorem dX5_perform_180 : decode cX5_perform 180 = .ok (.invokevirtual 302, 3) := by decide +kernel
theorem dX5_perform_183 : decode cX5_perform 183 = .ok (.ifCond .eq 7, 3) := by decide +kernel
theorem dX5_perform_186 : decode cX5_perform 186 = .ok (.lconst 1, 1) := by decide +kernel
theorem dX5_perform_187 : decode cX5_perform 187 = .ok (.goto 4, 3) := by decide +kernel
theorem dX5_perform_190 : decode cX5_perform 190 = .ok (.lconst 0, 1) := by decide +kernel
theorem dX5_perform_191 : decode cX5_perform 191 = .ok (.invokevirtual 268, 3) := by decide +kernel
theorem dX5_perform_194 : decode cX5_perform 194 = .ok (.goto 161, 3) := by decide +kernel
theorem dX5_perform_197 : decode cX5_perform 197 = .ok (.iload_n 1, 1) := by decide +kernel
theorem dX5_perform_198 : decode cX5_perform 198 = .ok (.bipush 36, 2) := by decide +kernel
theorem dX5_perform_200 : decode cX5_perform 200 = .ok (.if_icmp .ne 11, 3) := by decide +kernel
theorem dX5_perform_203 : decode cX5_perform 203 = .ok (.aload_n 0, 1) := by decide +kernel
theorem dX5_perform_204 : decode cX5_perform 204 = .ok (.iload_n 2, 1) := by decide +kernel
theorem dX5_perform_205 : decode cX5_perform 205 = .ok (.invokevirtual 353, 3) := by decide +kernel
theorem dX5_perform_208 : decode cX5_perform 208 = .ok (.goto 147, 3) := by decide +kernel
theorem dX5_perform_211 : decode cX5_perform 211 = .ok (.iload_n 1, 1) := by decide +kernel
theorem dX5_perform_212 : decode cX5_perform 212 = .ok (.bipush 39, 2) := by decide +kernel
theorem dX5_perform_214 : decode cX5_perform 214 = .ok (.if_icmp .ge 12, 3) := by decide +kernel
theorem dX5_perform_217 : decode cX5_perform 217 = .ok (.aload_n 0, 1) := by decide +kernel
theorem dX5_perform_218 : decode cX5_perform 218 = .ok (.iload_n 1, 1) := by decide +kernel
theorem dX5_perform_219 : decode cX5_perform 219 = .ok (.iload_n 2, 1) := by decide +kernel
theorem dX5_perform_220 : decode cX5_perform 220 = .ok (.invokevirtual 356, 3) := by decide +kernel
theorem dX5_perform_223 : decode cX5_perform 223 = .ok (.goto 132, 3) := by decide +kernel
theorem dX5_perform_226 : decode cX5_perform 226 = .ok (.iload_n 1, 1) := by decide +kernel
theorem dX5_perform_227 : decode cX5_perform 227 = .ok (.bipush 40, 2) := by decide +kernel
theorem dX5_perform_229 : decode cX5_perform 229 = .ok (.if_icmp .ne 13, 3) := by decide +kernel
theorem dX5_perform_232 : decode cX5_perform 232 = .ok (.aload_n 0, 1) := by decide +kernel
theorem dX5_perform_233 : decode cX5_perform 233 = .ok (.bipush 6, 2) := by decide +kernel
theorem dX5_perform_235 : decode cX5_perform 235 = .ok (.lconst 0, 1) := by decide +kernel
theorem dX5_perform_236 : decode cX5_perform 236 = .ok (.invokevirtual 180, 3) := by decide +kernel
theorem dX5_perform_239 : decode cX5_perform 239 = .ok (.goto 116, 3) := by decide +kernel
theorem dX5_perform_242 : decode cX5_perform 242 = .ok (.iload_n 1, 1) := by decide +kernel
theorem dX5_perform_243 : decode cX5_perform 243 = .ok (.bipush 41, 2) := by decide +kernel
theorem dX5_perform_245 : decode cX5_perform 245 = .ok (.if_icmp .ne 12, 3) := by decide +kernel
theorem dX5_perform_248 : decode cX5_perform 248 = .ok (.aload_n 0, 1) := by decide +kernel
theorem dX5_perform_249 : decode cX5_perform 249 = .ok (.iconst 2, 1) := by decide +kernel
theorem dX5_perform_250 : decode cX5_perform 250 = .ok (.lconst 0, 1) := by decide +kernel
theorem dX5_perform_251 : decode cX5_perform 251 = .ok (.invokevirtual 180, 3) := by decide +kernel
theorem dX5_perform_254 : decode cX5_perform 254 = .ok (.goto 101, 3) := by decide +kernel
theorem dX5_perform_257 : decode cX5_perform 257 = .ok (.iload_n 1, 1) := by decide +kernel
theorem dX5_perform_258 : decode cX5_perform 258 = .ok (.bipush 42, 2) := by decide +kernel
theorem dX5_perform_260 : decode cX5_perform 260 = .ok (.if_icmp .ne 10, 3) := by decide +kernel
theorem dX5_perform_263 : decode cX5_perform 263 = .ok (.aload_n 0, 1) := by decide +kernel
theorem dX5_perform_264 : decode cX5_perform 264 = .ok (.invokevirtual 359, 3) := by decide +kernel
theorem dX5_perform_267 : decode cX5_perform 267 = .ok (.goto 88, 3) := by decide +kernel
theorem dX5_perform_270 : decode cX5_perform 270 = .ok (.iload_n 1, 1) := by decide +kernel
theorem dX5_perform_271 : decode cX5_perform 271 = .ok (.bipush 43, 2) := by decide +kernel
theorem dX5_perform_273 : decode cX5_perform 273 = .ok (.if_icmp .ne 28, 3) := by decide +kernel
theorem dX5_perform_276 : decode cX5_perform 276 = .ok (.aload_n 0, 1) := by decide +kernel
theorem dX5_perform_277 : decode cX5_perform 277 = .ok (.getfield 30, 3) := by decide +kernel
theorem dX5_perform_280 : decode cX5_perform 280 = .ok (.iconst 4, 1) := by decide +kernel
theorem dX5_perform_281 : decode cX5_perform 281 = .ok (.aload_n 0, 1) := by decide +kernel
theorem dX5_perform_282 : decode cX5_perform 282 = .ok (.getfield 30, 3) := by decide +kernel
theorem dX5_perform_285 : decode cX5_perform 285 = .ok (.iconst 5, 1) := by decide +kernel
theorem dX5_perform_286 : decode cX5_perform 286 = .ok (.laload, 1) := by decide +kernel
theorem dX5_perform_287 : decode cX5_perform 287 = .ok (.lastore, 1) := by decide +kernel
theorem dX5_perform_288 : decode cX5_perform 288 = .ok (.aload_n 0, 1) := by decide +kernel
theorem dX5_perform_289 : decode cX5_perform 289 = .ok (.getfield 30, 3) := by decide +kernel
theorem dX5_perform_292 : decode cX5_perform 292 = .ok (.iconst 5, 1) := by decide +kernel
theorem dX5_perform_293 : decode cX5_perform 293 = .ok (.aload_n 0, 1) := by decide +kernel
theorem dX5_perform_294 : decode cX5_perform 294 = .ok (.invokevirtual 299, 3) := by decide +kernel
theorem dX5_perform_297 : decode cX5_perform 297 = .ok (.lastore, 1) := by decide +kernel
theorem dX5_perform_298 : decode cX5_perform 298 = .ok (.goto 57, 3) := by decide +kernel
theorem dX5_perform_301 : decode cX5_perform 301 = .ok (.iload_n 1, 1) := by decide +kernel
theorem dX5_perform_302 : decode cX5_perform 302 = .ok (.bipush 43, 2) := by decide +kernel
theorem dX5_perform_304 : decode cX5_perform 304 = .ok (.if_icmp .le 18, 3) := by decide +kernel
theorem dX5_perform_307 : decode cX5_perform 307 = .ok (.iload_n 1, 1) := by decide +kernel
theorem dX5_perform_308 : decode cX5_perform 308 = .ok (.bipush 48, 2) := by decide +kernel
theorem dX5_perform_310 : decode cX5_perform 310 = .ok (.if_icmp .ge 12, 3) := by decide +kernel
theorem dX5_perform_313 : decode cX5_perform 313 = .ok (.aload_n 0, 1) := by decide +kernel
theorem dX5_perform_314 : decode cX5_perform 314 = .ok (.iload_n 1, 1) := by decide +kernel
theorem dX5_perform_315 : decode cX5_perform 315 = .ok (.iload_n 2, 1) := by decide +kernel
theorem dX5_perform_316 : decode cX5_perform 316 = .ok (.invokevirtual 362, 3) := by decide +kernel
theorem dX5_perform_319 : decode cX5_perform 319 = .ok (.goto 36, 3) := by decide +kernel
theorem dX5_perform_322 : decode cX5_perform 322 = .ok (.iload_n 1, 1) := by decide +kernel
theorem dX5_perform_323 : decode cX5_perform 323 = .ok (.bipush 48, 2) := by decide +kernel
theorem dX5_perform_325 : decode cX5_perform 325 = .ok (.if_icmp .eq 9, 3) := by decide +kernel
theorem dX5_perform_328 : decode cX5_perform 328 = .ok (.iload_n 1, 1) := by decide +kernel
theorem dX5_perform_329 : decode cX5_perform 329 = .ok (.bipush 49, 2) := by decide +kernel
theorem dX5_perform_331 : decode cX5_perform 331 = .ok (.if_icmp .ne 12, 3) := by decide +kernel
theorem dX5_perform_334 : decode cX5_perform 334 = .ok (.aload_n 0, 1) := by decide +kernel
theorem dX5_perform_335 : decode cX5_perform 335 = .ok (.iload_n 1, 1) := by decide +kernel
theorem dX5_perform_336 : decode cX5_perform 336 = .ok (.iload_n 2, 1) := by decide +kernel
theorem dX5_perform_337 : decode cX5_perform 337 = .ok (.invokevirtual 365, 3) := by decide +kernel
theorem dX5_perform_340 : decode cX5_perform 340 = .ok (.goto 15, 3) := by decide +kernel
theorem dX5_perform_343 : decode cX5_perform 343 = .ok (.iload_n 1, 1) := by decide +kernel
theorem dX5_perform_344 : decode cX5_perform 344 = .ok (.bipush 49, 2) := by decide +kernel
theorem dX5_perform_346 : decode cX5_perform 346 = .ok (.if_icmp .le 9, 3) := by decide +kernel
theorem dX5_perform_349 : decode cX5_perform 349 = .ok (.aload_n 0, 1) := by decide +kernel
theorem dX5_perform_350 : decode cX5_perform 350 = .ok (.iload_n 1, 1) := by decide +kernel
theorem dX5_perform_351 : decode cX5_perform 351 = .ok (.iload_n 2, 1) := by decide +kernel
theorem dX5_perform_352 : decode cX5_perform 352 = .ok (.invokevirtual 368, 3) := by decide +kernel
theorem dX5_perform_355 : decode cX5_perform 355 = .ok (.return_, 1) := by decide +kernel
theorem dX5_arithmetic_0 : decode cX5_arithmetic 0 = .ok (.aload_n 0, 1) := by decide +kernel
theorem dX5_arithmetic_1 : decode cX5_arithmetic 1 = .ok (.iconst 0, 1) := by decide +kernel
theorem dX5_arithmetic_2 : decode cX5_arithmetic 2 = .ok (.iload_n 2, 1) := by decide +kernel
theorem dX5_arithmetic_3 : decode cX5_arithmetic 3 = .ok (.invokevirtual 257, 3) := by decide +kernel
theorem dX5_arithmetic_6 : decode cX5_arithmetic 6 = .ok (.lstore_n 3, 1) := by decide +kernel
theorem dX5_arithmetic_7 : decode cX5_arithmetic 7 = .ok (.aload_n 0, 1) := by decide +kernel
theorem dX5_arithmetic_8 : decode cX5_arithmetic 8 = .ok (.iconst 1, 1) := by decide +kernel
theorem dX5_arithmetic_9 : decode cX5_arithmetic 9 = .ok (.iload_n 2, 1) := by decide +kernel
theorem dX5_arithmetic_10 : decode cX5_arithmetic 10 = .ok (.invokevirtual 257, 3) := by decide +kernel
theorem dX5_arithmetic_13 : decode cX5_arithmetic 13 = .ok (.lstore 5, 2) := by decide +kernel
theorem dX5_arithmetic_15 : decode cX5_arithmetic 15 = .ok (.lconst 0, 1) := by decide +kernel
theorem dX5_arithmetic_16 : decode cX5_arithmetic 16 = .ok (.lstore 7, 2) := by decide +kernel
theorem dX5_arithmetic_18 : decode cX5_arithmetic 18 = .ok (.iload_n 1, 1) := by decide +kernel
theorem dX5_arithmetic_19 : decode cX5_arithmetic 19 = .ok (.ifCond .eq 8, 3) := by decide +kernel
theorem dX5_arithmetic_22 : decode cX5_arithmetic 22 = .ok (.iload_n 1, 1) := by decide +kernel
theorem dX5_arithmetic_23 : decode cX5_arithmetic 23 = .ok (.iconst 2, 1) := by decide +kernel
theorem dX5_arithmetic_24 : decode cX5_arithmetic 24 = .ok (.if_icmp .ne 33, 3) := by decide +kernel
theorem dX5_arithmetic_27 : decode cX5_arithmetic 27 = .ok (.aload_n 0, 1) := by decide +kernel
theorem dX5_arithmetic_28 : decode cX5_arithmetic 28 = .ok (.lload_n 3, 1) := by decide +kernel
theorem dX5_arithmetic_29 : decode cX5_arithmetic 29 = .ok (.lload 5, 2) := by decide +kernel
theorem dX5_arithmetic_31 : decode cX5_arithmetic 31 = .ok (.iload_n 1, 1) := by decide +kernel
theorem dX5_arithmetic_32 : decode cX5_arithmetic 32 = .ok (.iconst 2, 1) := by decide +kernel
theorem dX5_arithmetic_33 : decode cX5_arithmetic 33 = .ok (.if_icmp .ne 14, 3) := by decide +kernel
theorem dX5_arithmetic_36 : decode cX5_arithmetic 36 = .ok (.aload_n 0, 1) := by decide +kernel
theorem dX5_arithmetic_37 : decode cX5_arithmetic 37 = .ok (.getfield 237, 3) := by decide +kernel
theorem dX5_arithmetic_40 : decode cX5_arithmetic 40 = .ok (.ifCond .eq 7, 3) := by decide +kernel
theorem dX5_arithmetic_43 : decode cX5_arithmetic 43 = .ok (.iconst 1, 1) := by decide +kernel
theorem dX5_arithmetic_44 : decode cX5_arithmetic 44 = .ok (.goto 4, 3) := by decide +kernel
theorem dX5_arithmetic_47 : decode cX5_arithmetic 47 = .ok (.iconst 0, 1) := by decide +kernel
theorem dX5_arithmetic_48 : decode cX5_arithmetic 48 = .ok (.iload_n 2, 1) := by decide +kernel
theorem dX5_arithmetic_49 : decode cX5_arithmetic 49 = .ok (.invokevirtual 261, 3) := by decide +kernel
theorem dX5_arithmetic_52 : decode cX5_arithmetic 52 = .ok (.lstore 7, 2) := by decide +kernel
theorem dX5_arithmetic_54 : decode cX5_arithmetic 54 = .ok (.goto 97, 3) := by decide +kernel
theorem dX5_arithmetic_57 : decode cX5_arithmetic 57 = .ok (.iload_n 1, 1) := by decide +kernel
theorem dX5_arithmetic_58 : decode cX5_arithmetic 58 = .ok (.iconst 3, 1) := by decide +kernel
theorem dX5_arithmetic_59 : decode cX5_arithmetic 59 = .ok (.if_icmp .eq 14, 3) := by decide +kernel
theorem dX5_arithmetic_62 : decode cX5_arithmetic 62 = .ok (.iload_n 1, 1) := by decide +kernel
theorem dX5_arithmetic_63 : decode cX5_arithmetic 63 = .ok (.iconst 5, 1) := by decide +kernel
theorem dX5_arithmetic_64 : decode cX5_arithmetic 64 = .ok (.if_icmp .eq 9, 3) := by decide +kernel
theorem dX5_arithmetic_67 : decode cX5_arithmetic 67 = .ok (.iload_n 1, 1) := by decide +kernel
theorem dX5_arithmetic_68 : decode cX5_arithmetic 68 = .ok (.bipush 7, 2) := by decide +kernel
theorem dX5_arithmetic_70 : decode cX5_arithmetic 70 = .ok (.if_icmp .ne 33, 3) := by decide +kernel
theorem dX5_arithmetic_73 : decode cX5_arithmetic 73 = .ok (.aload_n 0, 1) := by decide +kernel
theorem dX5_arithmetic_74 : decode cX5_arithmetic 74 = .ok (.lload_n 3, 1) := by decide +kernel
theorem dX5_arithmetic_75 : decode cX5_arithmetic 75 = .ok (.lload 5, 2) := by decide +kernel
theorem dX5_arithmetic_77 : decode cX5_arithmetic 77 = .ok (.iload_n 1, 1) := by decide +kernel
theorem dX5_arithmetic_78 : decode cX5_arithmetic 78 = .ok (.iconst 3, 1) := by decide +kernel
theorem dX5_arithmetic_79 : decode cX5_arithmetic 79 = .ok (.if_icmp .ne 14, 3) := by decide +kernel
theorem dX5_arithmetic_82 : decode cX5_arithmetic 82 = .ok (.aload_n 0, 1) := by decide +kernel
theorem dX5_arithmetic_83 : decode cX5_arithmetic 83 = .ok (.getfield 237, 3) := by decide +kernel
theorem dX5_arithmetic_86 : decode cX5_arithmetic 86 = .ok (.ifCond .eq 7, 3) := by decide +kernel
theorem dX5_arithmetic_89 : decode cX5_arithmetic 89 = .ok (.iconst 1, 1) := by decide +kernel
theorem dX5_arithmetic_90 : decode cX5_arithmetic 90 = .ok (.goto 4, 3) := by decide +kernel
theorem dX5_arithmetic_93 : decode cX5_arithmetic 93 = .ok (.iconst 0, 1) := by decide +kernel
theorem dX5_arithmetic_94 : decode cX5_arithmetic 94 = .ok (.iload_n 2, 1) := by decide +kernel
theorem dX5_arithmetic_95 : decode cX5_arithmetic 95 = .ok (.invokevirtual 265, 3) := by decide +kernel
theorem dX5_arithmetic_98 : decode cX5_arithmetic 98 = .ok (.lstore 7, 2) := by decide +kernel
theorem dX5_arithmetic_100 : decode cX5_arithmetic 100 = .ok (.goto 51, 3) := by decide +kernel
theorem dX5_arithmetic_103 : decode cX5_arithmetic 103 = .ok (.iload_n 1, 1) := by decide +kernel
theorem dX5_arithmetic_104 : decode cX5_arithmetic 104 = .ok (.iconst 1, 1) := by decide +kernel
theorem dX5_arithmetic_105 : decode cX5_arithmetic 105 = .ok (.if_icmp .ne 10, 3) := by decide +kernel
theorem dX5_arithmetic_108 : decode cX5_arithmetic 108 = .ok (.lload_n 3, 1) := by decide +kernel
theorem dX5_arithmetic_109 : decode cX5_arithmetic 109 = .ok (.lload 5, 2) := by decide +kernel
theorem dX5_arithmetic_111 : decode cX5_arithmetic 111 = .ok (.lor, 1) := by decide +kernel
theorem dX5_arithmetic_112 : decode cX5_arithmetic 112 = .ok (.goto 20, 3) := by decide +kernel
theorem dX5_arithmetic_115 : decode cX5_arithmetic 115 = .ok (.iload_n 1, 1) := by decide +kernel
theorem dX5_arithmetic_116 : decode cX5_arithmetic 116 = .ok (.bipush 6, 2) := by decide +kernel
theorem dX5_arithmetic_118 : decode cX5_arithmetic 118 = .ok (.if_icmp .ne 10, 3) := by decide +kernel
theorem dX5_arithmetic_121 : decode cX5_arithmetic 121 = .ok (.lload_n 3, 1) := by decide +kernel
theorem dX5_arithmetic_122 : decode cX5_arithmetic 122 = .ok (.lload 5, 2) := by decide +kernel
theorem dX5_arithmetic_124 : decode cX5_arithmetic 124 = .ok (.lxor, 1) := by decide +kernel
theorem dX5_arithmetic_125 : decode cX5_arithmetic 125 = .ok (.goto 7, 3) := by decide +kernel
theorem dX5_arithmetic_128 : decode cX5_arithmetic 128 = .ok (.lload_n 3, 1) := by decide +kernel
theorem dX5_arithmetic_129 : decode cX5_arithmetic 129 = .ok (.lload 5, 2) := by decide +kernel
theorem dX5_arithmetic_131 : decode cX5_arithmetic 131 = .ok (.land, 1) := by decide +kernel
theorem dX5_arithmetic_132 : decode cX5_arithmetic 132 = .ok (.lstore 7, 2) := by decide +kernel
theorem dX5_arithmetic_134 : decode cX5_arithmetic 134 = .ok (.aload_n 0, 1) := by decide +kernel
theorem dX5_arithmetic_135 : decode cX5_arithmetic 135 = .ok (.iconst 0, 1) := by decide +kernel
theorem dX5_arithmetic_136 : decode cX5_arithmetic 136 = .ok (.putfield 237, 3) := by decide +kernel
theorem dX5_arithmetic_139 : decode cX5_arithmetic 139 = .ok (.aload_n 0, 1) := by decide +kernel
theorem dX5_arithmetic_140 : decode cX5_arithmetic 140 = .ok (.iconst 0, 1) := by decide +kernel
theorem dX5_arithmetic_141 : decode cX5_arithmetic 141 = .ok (.putfield 240, 3) := by decide +kernel
theorem dX5_arithmetic_144 : decode cX5_arithmetic 144 = .ok (.aload_n 0, 1) := by decide +kernel
theorem dX5_arithmetic_145 : decode cX5_arithmetic 145 = .ok (.lload 7, 2) := by decide +kernel
theorem dX5_arithmetic_147 : decode cX5_arithmetic 147 = .ok (.iload_n 2, 1) := by decide +kernel
theorem dX5_arithmetic_148 : decode cX5_arithmetic 148 = .ok (.invokevirtual 243, 3) := by decide +kernel
theorem dX5_arithmetic_151 : decode cX5_arithmetic 151 = .ok (.iload_n 1, 1) := by decide +kernel
theorem dX5_arithmetic_152 : decode cX5_arithmetic 152 = .ok (.bipush 7, 2) := by decide +kernel
theorem dX5_arithmetic_154 : decode cX5_arithmetic 154 = .ok (.if_icmp .eq 17, 3) := by decide +kernel
theorem dX5_arithmetic_157 : decode cX5_arithmetic 157 = .ok (.iload_n 1, 1) := by decide +kernel
theorem dX5_arithmetic_158 : decode cX5_arithmetic 158 = .ok (.bipush 9, 2) := by decide +kernel
theorem dX5_arithmetic_160 : decode cX5_arithmetic 160 = .ok (.if_icmp .eq 11, 3) := by decide +kernel
theorem dX5_arithmetic_163 : decode cX5_arithmetic 163 = .ok (.aload_n 0, 1) := by decide +kernel
theorem dX5_arithmetic_164 : decode cX5_arithmetic 164 = .ok (.iconst 0, 1) := by decide +kernel
theorem dX5_arithmetic_165 : decode cX5_arithmetic 165 = .ok (.iload_n 2, 1) := by decide +kernel
theorem dX5_arithmetic_166 : decode cX5_arithmetic 166 = .ok (.lload 7, 2) := by decide +kernel
theorem dX5_arithmetic_168 : decode cX5_arithmetic 168 = .ok (.invokevirtual 268, 3) := by decide +kernel
theorem dX5_arithmetic_171 : decode cX5_arithmetic 171 = .ok (.return_, 1) := by decide +kernel
theorem dX5_take_0 : decode cX5_take 0 = .ok (.aload_n 0, 1) := by decide +kernel
theorem dX5_take_1 : decode cX5_take 1 = .ok (.iload_n 1, 1) := by decide +kernel
theorem dX5_take_2 : decode cX5_take 2 = .ok (.invokevirtual 194, 3) := by decide +kernel
theorem dX5_take_5 : decode cX5_take 5 = .ok (.istore_n 3, 1) := by decide +kernel
theorem dX5_take_6 : decode cX5_take 6 = .ok (.iload_n 3, 1) := by decide +kernel
theorem dX5_take_7 : decode cX5_take 7 = .ok (.iconst 1, 1) := by decide +kernel
theorem dX5_take_8 : decode cX5_take 8 = .ok (.if_icmp .ne 18, 3) := by decide +kernel
theorem dX5_take_11 : decode cX5_take 11 = .ok (.aload_n 0, 1) := by decide +kernel
theorem dX5_take_12 : decode cX5_take 12 = .ok (.getfield 30, 3) := by decide +kernel
theorem dX5_take_15 : decode cX5_take 15 = .ok (.aload_n 0, 1) := by decide +kernel
theorem dX5_take_16 : decode cX5_take 16 = .ok (.iload_n 1, 1) := by decide +kernel
theorem dX5_take_17 : decode cX5_take 17 = .ok (.invokevirtual 197, 3) := by decide +kernel
theorem dX5_take_20 : decode cX5_take 20 = .ok (.laload, 1) := by decide +kernel
theorem dX5_take_21 : decode cX5_take 21 = .ok (.iload_n 2, 1) := by decide +kernel
theorem dX5_take_22 : decode cX5_take 22 = .ok (.invokestatic 200, 3) := by decide +kernel
theorem dX5_take_25 : decode cX5_take 25 = .ok (.lreturn, 1) := by decide +kernel
theorem dX5_take_26 : decode cX5_take 26 = .ok (.iload_n 3, 1) := by decide +kernel
theorem dX5_take_27 : decode cX5_take 27 = .ok (.iconst 2, 1) := by decide +kernel
theorem dX5_take_28 : decode cX5_take 28 = .ok (.if_icmp .ne 15, 3) := by decide +kernel
theorem dX5_take_31 : decode cX5_take 31 = .ok (.aload_n 0, 1) := by decide +kernel
theorem dX5_take_32 : decode cX5_take 32 = .ok (.aload_n 0, 1) := by decide +kernel
theorem dX5_take_33 : decode cX5_take 33 = .ok (.getfield 204, 3) := by decide +kernel
theorem dX5_take_36 : decode cX5_take 36 = .ok (.iload_n 2, 1) := by decide +kernel
theorem dX5_take_37 : decode cX5_take 37 = .ok (.invokevirtual 207, 3) := by decide +kernel
theorem dX5_take_40 : decode cX5_take 40 = .ok (.goto 11, 3) := by decide +kernel
theorem dX5_take_43 : decode cX5_take 43 = .ok (.aload_n 0, 1) := by decide +kernel
theorem dX5_take_44 : decode cX5_take 44 = .ok (.getfield 123, 3) := by decide +kernel
theorem dX5_take_47 : decode cX5_take 47 = .ok (.iload_n 2, 1) := by decide +kernel
theorem dX5_take_48 : decode cX5_take 48 = .ok (.invokestatic 200, 3) := by decide +kernel
theorem dX5_take_51 : decode cX5_take 51 = .ok (.lreturn, 1) := by decide +kernel
theorem dX5_kindAt_0 : decode cX5_kindAt 0 = .ok (.aload_n 0, 1) := by decide +kernel
theorem dX5_kindAt_1 : decode cX5_kindAt 1 = .ok (.getfield 50, 3) := by decide +kernel
theorem dX5_kindAt_4 : decode cX5_kindAt 4 = .ok (.iload_n 1, 1) := by decide +kernel
theorem dX5_kindAt_5 : decode cX5_kindAt 5 = .ok (.iaload, 1) := by decide +kernel
theorem dX5_kindAt_6 : decode cX5_kindAt 6 = .ok (.ireturn, 1) := by decide +kernel
theorem dX5_registerAt_0 : decode cX5_registerAt 0 = .ok (.aload_n 0, 1) := by decide +kernel
theorem dX5_registerAt_1 : decode cX5_registerAt 1 = .ok (.getfield 54, 3) := by decide +kernel
theorem dX5_registerAt_4 : decode cX5_registerAt 4 = .ok (.iload_n 1, 1) := by decide +kernel
theorem dX5_registerAt_5 : decode cX5_registerAt 5 = .ok (.iaload, 1) := by decide +kernel
theorem dX5_registerAt_6 : decode cX5_registerAt 6 = .ok (.ireturn, 1) := by decide +kernel
theorem dX5_cut_0 : decode cX5_cut 0 = .ok (.iload_n 2, 1) := by decide +kernel
theorem dX5_cut_1 : decode cX5_cut 1 = .ok (.bipush 8, 2) := by decide +kernel
theorem dX5_cut_3 : decode cX5_cut 3 = .ok (.if_icmp .ne 7, 3) := by decide +kernel
theorem dX5_cut_6 : decode cX5_cut 6 = .ok (.lload_n 0, 1) := by decide +kernel
theorem dX5_cut_7 : decode cX5_cut 7 = .ok (.goto 21, 3) := by decide +kernel
theorem dX5_cut_10 : decode cX5_cut 10 = .ok (.iload_n 2, 1) := by decide +kernel
theorem dX5_cut_11 : decode cX5_cut 11 = .ok (.iconst 4, 1) := by decide +kernel
theorem dX5_cut_12 : decode cX5_cut 12 = .ok (.if_icmp .ne 11, 3) := by decide +kernel
theorem dX5_cut_15 : decode cX5_cut 15 = .ok (.lload_n 0, 1) := by decide +kernel
theorem dX5_cut_16 : decode cX5_cut 16 = .ok (.ldc2_w 192, 3) := by decide +kernel
theorem dX5_cut_19 : decode cX5_cut 19 = .ok (.land, 1) := by decide +kernel
theorem dX5_cut_20 : decode cX5_cut 20 = .ok (.goto 8, 3) := by decide +kernel
theorem dX5_cut_23 : decode cX5_cut 23 = .ok (.lload_n 0, 1) := by decide +kernel
theorem dX5_cut_24 : decode cX5_cut 24 = .ok (.ldc2_w 145, 3) := by decide +kernel
theorem dX5_cut_27 : decode cX5_cut 27 = .ok (.land, 1) := by decide +kernel
theorem dX5_cut_28 : decode cX5_cut 28 = .ok (.lreturn, 1) := by decide +kernel
theorem dX5_load_0 : decode cX5_load 0 = .ok (.lconst 0, 1) := by decide +kernel
theorem dX5_load_1 : decode cX5_load 1 = .ok (.lstore 4, 2) := by decide +kernel
theorem dX5_load_3 : decode cX5_load 3 = .ok (.iconst 0, 1) := by decide +kernel
theorem dX5_load_4 : decode cX5_load 4 = .ok (.istore 6, 2) := by decide +kernel
theorem dX5_load_6 : decode cX5_load 6 = .ok (.iload 6, 2) := by decide +kernel
theorem dX5_load_8 : decode cX5_load 8 = .ok (.iload_n 3, 1) := by decide +kernel
theorem dX5_load_9 : decode cX5_load 9 = .ok (.if_icmp .ge 52, 3) := by decide +kernel
theorem dX5_load_12 : decode cX5_load 12 = .ok (.aload_n 0, 1) := by decide +kernel
theorem dX5_load_13 : decode cX5_load 13 = .ok (.lload_n 1, 1) := by decide +kernel
theorem dX5_load_14 : decode cX5_load 14 = .ok (.iload 6, 2) := by decide +kernel
theorem dX5_load_16 : decode cX5_load 16 = .ok (.i2l, 1) := by decide +kernel
theorem dX5_load_17 : decode cX5_load 17 = .ok (.ladd, 1) := by decide +kernel
theorem dX5_load_18 : decode cX5_load 18 = .ok (.iconst 0, 1) := by decide +kernel
theorem dX5_load_19 : decode cX5_load 19 = .ok (.invokevirtual 176, 3) := by decide +kernel
theorem dX5_load_22 : decode cX5_load 22 = .ok (.istore 7, 2) := by decide +kernel
theorem dX5_load_24 : decode cX5_load 24 = .ok (.iload 7, 2) := by decide +kernel
theorem dX5_load_26 : decode cX5_load 26 = .ok (.ifCond .ge 11, 3) := by decide +kernel
theorem dX5_load_29 : decode cX5_load 29 = .ok (.aload_n 0, 1) := by decide +kernel
theorem dX5_load_30 : decode cX5_load 30 = .ok (.iconst 3, 1) := by decide +kernel
theorem dX5_load_31 : decode cX5_load 31 = .ok (.lload_n 1, 1) := by decide +kernel
theorem dX5_load_32 : decode cX5_load 32 = .ok (.invokevirtual 180, 3) := by decide +kernel
theorem dX5_load_35 : decode cX5_load 35 = .ok (.lconst 0, 1) := by decide +kernel
theorem dX5_load_36 : decode cX5_load 36 = .ok (.lreturn, 1) := by decide +kernel
theorem dX5_load_37 : decode cX5_load 37 = .ok (.lload 4, 2) := by decide +kernel
theorem dX5_load_39 : decode cX5_load 39 = .ok (.aload_n 0, 1) := by decide +kernel
theorem dX5_load_40 : decode cX5_load 40 = .ok (.iload 7, 2) := by decide +kernel
theorem dX5_load_42 : decode cX5_load 42 = .ok (.invokevirtual 184, 3) := by decide +kernel
theorem dX5_load_45 : decode cX5_load 45 = .ok (.i2l, 1) := by decide +kernel
theorem dX5_load_46 : decode cX5_load 46 = .ok (.bipush 8, 2) := by decide +kernel
theorem dX5_load_48 : decode cX5_load 48 = .ok (.iload 6, 2) := by decide +kernel
theorem dX5_load_50 : decode cX5_load 50 = .ok (.imul, 1) := by decide +kernel
theorem dX5_load_51 : decode cX5_load 51 = .ok (.lshl, 1) := by decide +kernel
theorem dX5_load_52 : decode cX5_load 52 = .ok (.lor, 1) := by decide +kernel
theorem dX5_load_53 : decode cX5_load 53 = .ok (.lstore 4, 2) := by decide +kernel
theorem dX5_load_55 : decode cX5_load 55 = .ok (.iinc 6 1, 3) := by decide +kernel
theorem dX5_load_58 : decode cX5_load 58 = .ok (.goto (-52), 3) := by decide +kernel
theorem dX5_load_61 : decode cX5_load 61 = .ok (.lload 4, 2) := by decide +kernel
theorem dX5_load_63 : decode cX5_load 63 = .ok (.lreturn, 1) := by decide +kernel
theorem dX5_find_0 : decode cX5_find 0 = .ok (.lload_n 1, 1) := by decide +kernel
theorem dX5_find_1 : decode cX5_find 1 = .ok (.ldc2_w 88, 3) := by decide +kernel
theorem dX5_find_4 : decode cX5_find 4 = .ok (.lsub, 1) := by decide +kernel
theorem dX5_find_5 : decode cX5_find 5 = .ok (.lstore 4, 2) := by decide +kernel
theorem dX5_find_7 : decode cX5_find 7 = .ok (.lload 4, 2) := by decide +kernel
theorem dX5_find_9 : decode cX5_find 9 = .ok (.lconst 0, 1) := by decide +kernel
theorem dX5_find_10 : decode cX5_find 10 = .ok (.lcmp, 1) := by decide +kernel
theorem dX5_find_11 : decode cX5_find 11 = .ok (.ifCond .lt 93, 3) := by decide +kernel
theorem dX5_find_14 : decode cX5_find 14 = .ok (.lload 4, 2) := by decide +kernel
theorem dX5_find_16 : decode cX5_find 16 = .ok (.aload_n 0, 1) := by decide +kernel
theorem dX5_find_17 : decode cX5_find 17 = .ok (.getfield 64, 3) := by decide +kernel
theorem dX5_find_20 : decode cX5_find 20 = .ok (.i2l, 1) := by decide +kernel
theorem dX5_find_21 : decode cX5_find 21 = .ok (.lcmp, 1) := by decide +kernel
theorem dX5_find_22 : decode cX5_find 22 = .ok (.ifCond .ge 82, 3) := by decide +kernel
theorem dX5_find_25 : decode cX5_find 25 = .ok (.lload 4, 2) := by decide +kernel
theorem dX5_find_27 : decode cX5_find 27 = .ok (.aload_n 0, 1) := by decide +kernel
theorem dX5_find_28 : decode cX5_find 28 = .ok (.getfield 67, 3) := by decide +kernel
theorem dX5_find_31 : decode cX5_find 31 = .ok (.i2l, 1) := by decide +kernel
theorem dX5_find_32 : decode cX5_find 32 = .ok (.lcmp, 1) := by decide +kernel
theorem dX5_find_33 : decode cX5_find 33 = .ok (.ifCond .lt 25, 3) := by decide +kernel
theorem dX5_find_36 : decode cX5_find 36 = .ok (.lload 4, 2) := by decide +kernel
theorem dX5_find_38 : decode cX5_find 38 = .ok (.aload_n 0, 1) := by decide +kernel
theorem dX5_find_39 : decode cX5_find 39 = .ok (.getfield 70, 3) := by decide +kernel
theorem dX5_find_42 : decode cX5_find 42 = .ok (.i2l, 1) := by decide +kernel
theorem dX5_find_43 : decode cX5_find 43 = .ok (.lcmp, 1) := by decide +kernel
theorem dX5_find_44 : decode cX5_find 44 = .ok (.ifCond .lt 18, 3) := by decide +kernel
theorem dX5_find_47 : decode cX5_find 47 = .ok (.lload 4, 2) := by decide +kernel
theorem dX5_find_49 : decode cX5_find 49 = .ok (.aload_n 0, 1) := by decide +kernel
theorem dX5_find_50 : decode cX5_find 50 = .ok (.getfield 73, 3) := by decide +kernel
theorem dX5_find_53 : decode cX5_find 53 = .ok (.i2l, 1) := by decide +kernel
theorem dX5_find_54 : decode cX5_find 54 = .ok (.lcmp, 1) := by decide +kernel
theorem dX5_find_55 : decode cX5_find 55 = .ok (.ifCond .ge 7, 3) := by decide +kernel
theorem dX5_find_58 : decode cX5_find 58 = .ok (.iconst 1, 1) := by decide +kernel
theorem dX5_find_59 : decode cX5_find 59 = .ok (.goto 4, 3) := by decide +kernel
theorem dX5_find_62 : decode cX5_find 62 = .ok (.iconst 0, 1) := by decide +kernel
theorem dX5_find_63 : decode cX5_find 63 = .ok (.istore 6, 2) := by decide +kernel
theorem dX5_find_65 : decode cX5_find 65 = .ok (.iload 6, 2) := by decide +kernel
theorem dX5_find_67 : decode cX5_find 67 = .ok (.ifCond .eq 7, 3) := by decide +kernel
theorem dX5_find_70 : decode cX5_find 70 = .ok (.iload_n 3, 1) := by decide +kernel
theorem dX5_find_71 : decode cX5_find 71 = .ok (.ifCond .eq 25, 3) := by decide +kernel
theorem dX5_find_74 : decode cX5_find 74 = .ok (.lload 4, 2) := by decide +kernel
theorem dX5_find_76 : decode cX5_find 76 = .ok (.aload_n 0, 1) := by decide +kernel
theorem dX5_find_77 : decode cX5_find 77 = .ok (.getfield 76, 3) := by decide +kernel
theorem dX5_find_80 : decode cX5_find 80 = .ok (.i2l, 1) := by decide +kernel
theorem dX5_find_81 : decode cX5_find 81 = .ok (.lcmp, 1) := by decide +kernel
theorem dX5_find_82 : decode cX5_find 82 = .ok (.ifCond .lt 20, 3) := by decide +kernel
theorem dX5_find_85 : decode cX5_find 85 = .ok (.lload 4, 2) := by decide +kernel
theorem dX5_find_87 : decode cX5_find 87 = .ok (.aload_n 0, 1) := by decide +kernel
theorem dX5_find_88 : decode cX5_find 88 = .ok (.getfield 79, 3) := by decide +kernel
theorem dX5_find_91 : decode cX5_find 91 = .ok (.i2l, 1) := by decide +kernel
theorem dX5_find_92 : decode cX5_find 92 = .ok (.lcmp, 1) := by decide +kernel
theorem dX5_find_93 : decode cX5_find 93 = .ok (.ifCond .ge 9, 3) := by decide +kernel
theorem dX5_find_96 : decode cX5_find 96 = .ok (.lload 4, 2) := by decide +kernel
theorem dX5_find_98 : decode cX5_find 98 = .ok (.l2i, 1) := by decide +kernel
theorem dX5_find_99 : decode cX5_find 99 = .ok (.goto 4, 3) := by decide +kernel
theorem dX5_find_102 : decode cX5_find 102 = .ok (.iconst (-1), 1) := by decide +kernel
theorem dX5_find_103 : decode cX5_find 103 = .ok (.ireturn, 1) := by decide +kernel
theorem dX5_find_104 : decode cX5_find 104 = .ok (.lload_n 1, 1) := by decide +kernel
theorem dX5_find_105 : decode cX5_find 105 = .ok (.aload_n 0, 1) := by decide +kernel
theorem dX5_find_106 : decode cX5_find 106 = .ok (.invokevirtual 159, 3) := by decide +kernel
theorem dX5_find_109 : decode cX5_find 109 = .ok (.lsub, 1) := by decide +kernel
theorem dX5_find_110 : decode cX5_find 110 = .ok (.lstore 6, 2) := by decide +kernel
theorem dX5_find_112 : decode cX5_find 112 = .ok (.lload 6, 2) := by decide +kernel
theorem dX5_find_114 : decode cX5_find 114 = .ok (.lconst 0, 1) := by decide +kernel
theorem dX5_find_115 : decode cX5_find 115 = .ok (.lcmp, 1) := by decide +kernel
theorem dX5_find_116 : decode cX5_find 116 = .ok (.ifCond .lt 21, 3) := by decide +kernel
theorem dX5_find_119 : decode cX5_find 119 = .ok (.lload 6, 2) := by decide +kernel
theorem dX5_find_121 : decode cX5_find 121 = .ok (.aload_n 0, 1) := by decide +kernel
theorem dX5_find_122 : decode cX5_find 122 = .ok (.getfield 94, 3) := by decide +kernel
theorem dX5_find_125 : decode cX5_find 125 = .ok (.i2l, 1) := by decide +kernel
theorem dX5_find_126 : decode cX5_find 126 = .ok (.lcmp, 1) := by decide +kernel
theorem dX5_find_127 : decode cX5_find 127 = .ok (.ifCond .ge 10, 3) := by decide +kernel
theorem dX5_find_130 : decode cX5_find 130 = .ok (.ldc 163, 2) := by decide +kernel
theorem dX5_find_132 : decode cX5_find 132 = .ok (.lload 6, 2) := by decide +kernel
theorem dX5_find_134 : decode cX5_find 134 = .ok (.l2i, 1) := by decide +kernel
theorem dX5_find_135 : decode cX5_find 135 = .ok (.ior, 1) := by decide +kernel
theorem dX5_find_136 : decode cX5_find 136 = .ok (.ireturn, 1) := by decide +kernel
theorem dX5_find_137 : decode cX5_find 137 = .ok (.lload_n 1, 1) := by decide +kernel
theorem dX5_find_138 : decode cX5_find 138 = .ok (.ldc2_w 164, 3) := by decide +kernel
theorem dX5_find_141 : decode cX5_find 141 = .ok (.lsub, 1) := by decide +kernel
theorem dX5_find_142 : decode cX5_find 142 = .ok (.lstore 8, 2) := by decide +kernel
theorem dX5_find_144 : decode cX5_find 144 = .ok (.lload 8, 2) := by decide +kernel
theorem dX5_find_146 : decode cX5_find 146 = .ok (.lconst 0, 1) := by decide +kernel
theorem dX5_find_147 : decode cX5_find 147 = .ok (.lcmp, 1) := by decide +kernel
theorem dX5_find_148 : decode cX5_find 148 = .ok (.ifCond .lt 21, 3) := by decide +kernel
theorem dX5_find_151 : decode cX5_find 151 = .ok (.lload 8, 2) := by decide +kernel
theorem dX5_find_153 : decode cX5_find 153 = .ok (.ldc2_w 166, 3) := by decide +kernel
theorem dX5_find_156 : decode cX5_find 156 = .ok (.lcmp, 1) := by decide +kernel
theorem dX5_find_157 : decode cX5_find 157 = .ok (.ifCond .ge 12, 3) := by decide +kernel
theorem dX5_find_160 : decode cX5_find 160 = .ok (.ldc 168, 2) := by decide +kernel
theorem dX5_find_162 : decode cX5_find 162 = .ok (.lload 8, 2) := by decide +kernel
theorem dX5_find_164 : decode cX5_find 164 = .ok (.l2i, 1) := by decide +kernel
theorem dX5_find_165 : decode cX5_find 165 = .ok (.ior, 1) := by decide +kernel
theorem dX5_find_166 : decode cX5_find 166 = .ok (.goto 4, 3) := by decide +kernel
theorem dX5_find_169 : decode cX5_find 169 = .ok (.iconst (-1), 1) := by decide +kernel
theorem dX5_find_170 : decode cX5_find 170 = .ok (.ireturn, 1) := by decide +kernel
theorem dX5_heapBegin_0 : decode cX5_heapBegin 0 = .ok (.ldc2_w 88, 3) := by decide +kernel
theorem dX5_heapBegin_3 : decode cX5_heapBegin 3 = .ok (.aload_n 0, 1) := by decide +kernel
theorem dX5_heapBegin_4 : decode cX5_heapBegin 4 = .ok (.getfield 64, 3) := by decide +kernel
theorem dX5_heapBegin_7 : decode cX5_heapBegin 7 = .ok (.sipush 4095, 3) := by decide +kernel
theorem dX5_heapBegin_10 : decode cX5_heapBegin 10 = .ok (.iadd, 1) := by decide +kernel
theorem dX5_heapBegin_11 : decode cX5_heapBegin 11 = .ok (.sipush (-4096), 3) := by decide +kernel
theorem dX5_heapBegin_14 : decode cX5_heapBegin 14 = .ok (.iand, 1) := by decide +kernel
theorem dX5_heapBegin_15 : decode cX5_heapBegin 15 = .ok (.i2l, 1) := by decide +kernel
theorem dX5_heapBegin_16 : decode cX5_heapBegin 16 = .ok (.ladd, 1) := by decide +kernel
theorem dX5_heapBegin_17 : decode cX5_heapBegin 17 = .ok (.lreturn, 1) := by decide +kernel
theorem dX5_stopWith_0 : decode cX5_stopWith 0 = .ok (.aload_n 0, 1) := by decide +kernel
theorem dX5_stopWith_1 : decode cX5_stopWith 1 = .ok (.getfield 170, 3) := by decide +kernel
theorem dX5_stopWith_4 : decode cX5_stopWith 4 = .ok (.ifCond .eq 4, 3) := by decide +kernel
theorem dX5_stopWith_7 : decode cX5_stopWith 7 = .ok (.return_, 1) := by decide +kernel
theorem dX5_stopWith_8 : decode cX5_stopWith 8 = .ok (.aload_n 0, 1) := by decide +kernel
theorem dX5_stopWith_9 : decode cX5_stopWith 9 = .ok (.iload_n 1, 1) := by decide +kernel
theorem dX5_stopWith_10 : decode cX5_stopWith 10 = .ok (.putfield 170, 3) := by decide +kernel
theorem dX5_stopWith_13 : decode cX5_stopWith 13 = .ok (.aload_n 0, 1) := by decide +kernel
theorem dX5_stopWith_14 : decode cX5_stopWith 14 = .ok (.lload_n 2, 1) := by decide +kernel
theorem dX5_stopWith_15 : decode cX5_stopWith 15 = .ok (.putfield 173, 3) := by decide +kernel
theorem dX5_stopWith_18 : decode cX5_stopWith 18 = .ok (.return_, 1) := by decide +kernel
theorem dX5_byteAtPlace_0 : decode cX5_byteAtPlace 0 = .ok (.iload_n 1, 1) := by decide +kernel
theorem dX5_byteAtPlace_1 : decode cX5_byteAtPlace 1 = .ok (.ldc 163, 2) := by decide +kernel
theorem dX5_byteAtPlace_3 : decode cX5_byteAtPlace 3 = .ok (.if_icmp .ge 12, 3) := by decide +kernel
theorem dX5_byteAtPlace_6 : decode cX5_byteAtPlace 6 = .ok (.aload_n 0, 1) := by decide +kernel
theorem dX5_byteAtPlace_7 : decode cX5_byteAtPlace 7 = .ok (.getfield 14, 3) := by decide +kernel
theorem dX5_byteAtPlace_10 : decode cX5_byteAtPlace 10 = .ok (.iload_n 1, 1) := by decide +kernel
theorem dX5_byteAtPlace_11 : decode cX5_byteAtPlace 11 = .ok (.baload, 1) := by decide +kernel
theorem dX5_byteAtPlace_12 : decode cX5_byteAtPlace 12 = .ok (.goto 30, 3) := by decide +kernel
theorem dX5_byteAtPlace_15 : decode cX5_byteAtPlace 15 = .ok (.iload_n 1, 1) := by decide +kernel
theorem dX5_byteAtPlace_16 : decode cX5_byteAtPlace 16 = .ok (.ldc 168, 2) := by decide +kernel
theorem dX5_byteAtPlace_18 : decode cX5_byteAtPlace 18 = .ok (.if_icmp .ge 15, 3) := by decide +kernel
theorem dX5_byteAtPlace_21 : decode cX5_byteAtPlace 21 = .ok (.aload_n 0, 1) := by decide +kernel
theorem dX5_byteAtPlace_22 : decode cX5_byteAtPlace 22 = .ok (.getfield 18, 3) := by decide +kernel
theorem dX5_byteAtPlace_25 : decode cX5_byteAtPlace 25 = .ok (.iload_n 1, 1) := by decide +kernel
theorem dX5_byteAtPlace_26 : decode cX5_byteAtPlace 26 = .ok (.ldc 169, 2) := by decide +kernel
theorem dX5_byteAtPlace_28 : decode cX5_byteAtPlace 28 = .ok (.iand, 1) := by decide +kernel
theorem dX5_byteAtPlace_29 : decode cX5_byteAtPlace 29 = .ok (.baload, 1) := by decide +kernel
theorem dX5_byteAtPlace_30 : decode cX5_byteAtPlace 30 = .ok (.goto 12, 3) := by decide +kernel
theorem dX5_byteAtPlace_33 : decode cX5_byteAtPlace 33 = .ok (.aload_n 0, 1) := by decide +kernel
theorem dX5_byteAtPlace_34 : decode cX5_byteAtPlace 34 = .ok (.getfield 21, 3) := by decide +kernel
theorem dX5_byteAtPlace_37 : decode cX5_byteAtPlace 37 = .ok (.iload_n 1, 1) := by decide +kernel
theorem dX5_byteAtPlace_38 : decode cX5_byteAtPlace 38 = .ok (.ldc 169, 2) := by decide +kernel
theorem dX5_byteAtPlace_40 : decode cX5_byteAtPlace 40 = .ok (.iand, 1) := by decide +kernel
theorem dX5_byteAtPlace_41 : decode cX5_byteAtPlace 41 = .ok (.baload, 1) := by decide +kernel
theorem dX5_byteAtPlace_42 : decode cX5_byteAtPlace 42 = .ok (.sipush 255, 3) := by decide +kernel
theorem dX5_byteAtPlace_45 : decode cX5_byteAtPlace 45 = .ok (.iand, 1) := by decide +kernel
theorem dX5_byteAtPlace_46 : decode cX5_byteAtPlace 46 = .ok (.ireturn, 1) := by decide +kernel
theorem dX5_add_0 : decode cX5_add 0 = .ok (.lload_n 1, 1) := by decide +kernel
theorem dX5_add_1 : decode cX5_add 1 = .ok (.lload_n 3, 1) := by decide +kernel
theorem dX5_add_2 : decode cX5_add 2 = .ok (.ladd, 1) := by decide +kernel
theorem dX5_add_3 : decode cX5_add 3 = .ok (.iload 5, 2) := by decide +kernel
theorem dX5_add_5 : decode cX5_add 5 = .ok (.ifCond .eq 7, 3) := by decide +kernel
theorem dX5_add_8 : decode cX5_add 8 = .ok (.lconst 1, 1) := by decide +kernel
theorem dX5_add_9 : decode cX5_add 9 = .ok (.goto 4, 3) := by decide +kernel
theorem dX5_add_12 : decode cX5_add 12 = .ok (.lconst 0, 1) := by decide +kernel
theorem dX5_add_13 : decode cX5_add 13 = .ok (.ladd, 1) := by decide +kernel
theorem dX5_add_14 : decode cX5_add 14 = .ok (.iload 6, 2) := by decide +kernel
theorem dX5_add_16 : decode cX5_add 16 = .ok (.invokestatic 200, 3) := by decide +kernel
theorem dX5_add_19 : decode cX5_add 19 = .ok (.lstore 7, 2) := by decide +kernel
theorem dX5_add_21 : decode cX5_add 21 = .ok (.aload_n 0, 1) := by decide +kernel
theorem dX5_add_22 : decode cX5_add 22 = .ok (.lload 7, 2) := by decide +kernel
theorem dX5_add_24 : decode cX5_add 24 = .ok (.lload_n 1, 1) := by decide +kernel
theorem dX5_add_25 : decode cX5_add 25 = .ok (.invokestatic 233, 3) := by decide +kernel
theorem dX5_add_28 : decode cX5_add 28 = .ok (.ifCond .ne 15, 3) := by decide +kernel
theorem dX5_add_31 : decode cX5_add 31 = .ok (.iload 5, 2) := by decide +kernel
theorem dX5_add_33 : decode cX5_add 33 = .ok (.ifCond .eq 14, 3) := by decide +kernel
theorem dX5_add_36 : decode cX5_add 36 = .ok (.lload 7, 2) := by decide +kernel
theorem dX5_add_38 : decode cX5_add 38 = .ok (.lload_n 1, 1) := by decide +kernel
theorem dX5_add_39 : decode cX5_add 39 = .ok (.lcmp, 1) := by decide +kernel
theorem dX5_add_40 : decode cX5_add 40 = .ok (.ifCond .ne 7, 3) := by decide +kernel
theorem dX5_add_43 : decode cX5_add 43 = .ok (.iconst 1, 1) := by decide +kernel
theorem dX5_add_44 : decode cX5_add 44 = .ok (.goto 4, 3) := by decide +kernel
theorem dX5_add_47 : decode cX5_add 47 = .ok (.iconst 0, 1) := by decide +kernel
theorem dX5_add_48 : decode cX5_add 48 = .ok (.putfield 237, 3) := by decide +kernel
theorem dX5_add_51 : decode cX5_add 51 = .ok (.aload_n 0, 1) := by decide +kernel
theorem dX5_add_52 : decode cX5_add 52 = .ok (.lload_n 1, 1) := by decide +kernel
theorem dX5_add_53 : decode cX5_add 53 = .ok (.lload 7, 2) := by decide +kernel
theorem dX5_add_55 : decode cX5_add 55 = .ok (.lxor, 1) := by decide +kernel
theorem dX5_add_56 : decode cX5_add 56 = .ok (.lload_n 3, 1) := by decide +kernel
theorem dX5_add_57 : decode cX5_add 57 = .ok (.lload 7, 2) := by decide +kernel
theorem dX5_add_59 : decode cX5_add 59 = .ok (.lxor, 1) := by decide +kernel
theorem dX5_add_60 : decode cX5_add 60 = .ok (.land, 1) := by decide +kernel
theorem dX5_add_61 : decode cX5_add 61 = .ok (.iload 6, 2) := by decide +kernel
theorem dX5_add_63 : decode cX5_add 63 = .ok (.invokestatic 224, 3) := by decide +kernel
theorem dX5_add_66 : decode cX5_add 66 = .ok (.lconst 1, 1) := by decide +kernel
theorem dX5_add_67 : decode cX5_add 67 = .ok (.lcmp, 1) := by decide +kernel
theorem dX5_add_68 : decode cX5_add 68 = .ok (.ifCond .ne 7, 3) := by decide +kernel
theorem dX5_add_71 : decode cX5_add 71 = .ok (.iconst 1, 1) := by decide +kernel
theorem dX5_add_72 : decode cX5_add 72 = .ok (.goto 4, 3) := by decide +kernel
theorem dX5_add_75 : decode cX5_add 75 = .ok (.iconst 0, 1) := by decide +kernel
theorem dX5_add_76 : decode cX5_add 76 = .ok (.putfield 240, 3) := by decide +kernel
theorem dX5_add_79 : decode cX5_add 79 = .ok (.aload_n 0, 1) := by decide +kernel
theorem dX5_add_80 : decode cX5_add 80 = .ok (.lload 7, 2) := by decide +kernel
theorem dX5_add_82 : decode cX5_add 82 = .ok (.iload 6, 2) := by decide +kernel
theorem dX5_add_84 : decode cX5_add 84 = .ok (.invokevirtual 243, 3) := by decide +kernel
theorem dX5_add_87 : decode cX5_add 87 = .ok (.lload 7, 2) := by decide +kernel
theorem dX5_add_89 : decode cX5_add 89 = .ok (.lreturn, 1) := by decide +kernel
theorem dX5_below_0 : decode cX5_below 0 = .ok (.lload_n 0, 1) := by decide +kernel
theorem dX5_below_1 : decode cX5_below 1 = .ok (.ldc2_w 279, 3) := by decide +kernel
