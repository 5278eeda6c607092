set_option maxRecDepth 100000
theorem dL_law_304 : decode cL_law 304 = .ok (.aload_n 0, 1) := by decide +kernel
theorem dL_law_305 : decode cL_law 305 = .ok (.iload 4, 2) := by decide +kernel
theorem dL_law_307 : decode cL_law 307 = .ok (.iconst 3, 1) := by decide +kernel
theorem dL_law_308 : decode cL_law 308 = .ok (.iadd, 1) := by decide +kernel
theorem dL_law_309 : decode cL_law 309 = .ok (.iaload, 1) := by decide +kernel
theorem dL_law_310 : decode cL_law 310 = .ok (.aload_n 0, 1) := by decide +kernel
theorem dL_law_311 : decode cL_law 311 = .ok (.iload 4, 2) := by decide +kernel
theorem dL_law_313 : decode cL_law 313 = .ok (.iconst 4, 1) := by decide +kernel
theorem dL_law_314 : decode cL_law 314 = .ok (.iadd, 1) := by decide +kernel
theorem dL_law_315 : decode cL_law 315 = .ok (.iaload, 1) := by decide +kernel
theorem dL_law_316 : decode cL_law 316 = .ok (.aload_n 0, 1) := by decide +kernel
theorem dL_law_317 : decode cL_law 317 = .ok (.iload 4, 2) := by decide +kernel
theorem dL_law_319 : decode cL_law 319 = .ok (.iconst 5, 1) := by decide +kernel
theorem dL_law_320 : decode cL_law 320 = .ok (.iadd, 1) := by decide +kernel
theorem dL_law_321 : decode cL_law 321 = .ok (.iaload, 1) := by decide +kernel
theorem dL_law_322 : decode cL_law 322 = .ok (.aload_n 0, 1) := by decide +kernel
theorem dL_law_323 : decode cL_law 323 = .ok (.iload 4, 2) := by decide +kernel
theorem dL_law_325 : decode cL_law 325 = .ok (.bipush 6, 2) := by decide +kernel
theorem dL_law_327 : decode cL_law 327 = .ok (.iadd, 1) := by decide +kernel
theorem dL_law_328 : decode cL_law 328 = .ok (.iaload, 1) := by decide +kernel
theorem dL_law_329 : decode cL_law 329 = .ok (.invokevirtual 76, 3) := by decide +kernel
theorem dL_law_332 : decode cL_law 332 = .ok (.if_icmp .eq 682, 3) := by decide +kernel
theorem dL_law_335 : decode cL_law 335 = .ok (.iconst 0, 1) := by decide +kernel
theorem dL_law_336 : decode cL_law 336 = .ok (.ireturn, 1) := by decide +kernel
theorem dL_law_337 : decode cL_law 337 = .ok (.aload_n 1, 1) := by decide +kernel
theorem dL_law_338 : decode cL_law 338 = .ok (.invokevirtual 77, 3) := by decide +kernel
theorem dL_law_341 : decode cL_law 341 = .ok (.aload_n 2, 1) := by decide +kernel
theorem dL_law_342 : decode cL_law 342 = .ok (.invokevirtual 80, 3) := by decide +kernel
theorem dL_law_345 : decode cL_law 345 = .ok (.if_icmp .eq 669, 3) := by decide +kernel
theorem dL_law_348 : decode cL_law 348 = .ok (.iconst 0, 1) := by decide +kernel
theorem dL_law_349 : decode cL_law 349 = .ok (.ireturn, 1) := by decide +kernel
theorem dL_law_350 : decode cL_law 350 = .ok (.aload_n 1, 1) := by decide +kernel
theorem dL_law_351 : decode cL_law 351 = .ok (.aload_n 0, 1) := by decide +kernel
theorem dL_law_352 : decode cL_law 352 = .ok (.iload 4, 2) := by decide +kernel
theorem dL_law_354 : decode cL_law 354 = .ok (.iconst 1, 1) := by decide +kernel
theorem dL_law_355 : decode cL_law 355 = .ok (.iadd, 1) := by decide +kernel
theorem dL_law_356 : decode cL_law 356 = .ok (.iaload, 1) := by decide +kernel
theorem dL_law_357 : decode cL_law 357 = .ok (.aload_n 3, 1) := by decide +kernel
theorem dL_law_358 : decode cL_law 358 = .ok (.invokestatic 81, 3) := by decide +kernel
theorem dL_law_361 : decode cL_law 361 = .ok (.istore 5, 2) := by decide +kernel
theorem dL_law_363 : decode cL_law 363 = .ok (.aload_n 2, 1) := by decide +kernel
theorem dL_law_364 : decode cL_law 364 = .ok (.aload_n 0, 1) := by decide +kernel
theorem dL_law_365 : decode cL_law 365 = .ok (.iload 4, 2) := by decide +kernel
theorem dL_law_367 : decode cL_law 367 = .ok (.iconst 1, 1) := by decide +kernel
theorem dL_law_368 : decode cL_law 368 = .ok (.iadd, 1) := by decide +kernel
theorem dL_law_369 : decode cL_law 369 = .ok (.iaload, 1) := by decide +kernel
theorem dL_law_370 : decode cL_law 370 = .ok (.invokevirtual 84, 3) := by decide +kernel
theorem dL_law_373 : decode cL_law 373 = .ok (.istore 6, 2) := by decide +kernel
theorem dL_law_375 : decode cL_law 375 = .ok (.aload_n 2, 1) := by decide +kernel
theorem dL_law_376 : decode cL_law 376 = .ok (.invokevirtual 68, 3) := by decide +kernel
theorem dL_law_379 : decode cL_law 379 = .ok (.iload 5, 2) := by decide +kernel
theorem dL_law_381 : decode cL_law 381 = .ok (.if_icmp .eq 5, 3) := by decide +kernel
theorem dL_law_384 : decode cL_law 384 = .ok (.iconst 0, 1) := by decide +kernel
theorem dL_law_385 : decode cL_law 385 = .ok (.ireturn, 1) := by decide +kernel
theorem dL_law_386 : decode cL_law 386 = .ok (.iload 5, 2) := by decide +kernel
theorem dL_law_388 : decode cL_law 388 = .ok (.ifCond .ne 15, 3) := by decide +kernel
theorem dL_law_391 : decode cL_law 391 = .ok (.aload_n 3, 1) := by decide +kernel
theorem dL_law_392 : decode cL_law 392 = .ok (.iconst 0, 1) := by decide +kernel
theorem dL_law_393 : decode cL_law 393 = .ok (.laload, 1) := by decide +kernel
theorem dL_law_394 : decode cL_law 394 = .ok (.iload 6, 2) := by decide +kernel
theorem dL_law_396 : decode cL_law 396 = .ok (.i2l, 1) := by decide +kernel
theorem dL_law_397 : decode cL_law 397 = .ok (.lcmp, 1) := by decide +kernel
theorem dL_law_398 : decode cL_law 398 = .ok (.ifCond .eq 5, 3) := by decide +kernel
theorem dL_law_401 : decode cL_law 401 = .ok (.iconst 0, 1) := by decide +kernel
theorem dL_law_402 : decode cL_law 402 = .ok (.ireturn, 1) := by decide +kernel
theorem dL_law_403 : decode cL_law 403 = .ok (.goto 611, 3) := by decide +kernel
theorem dL_law_406 : decode cL_law 406 = .ok (.aload_n 1, 1) := by decide +kernel
theorem dL_law_407 : decode cL_law 407 = .ok (.aload_n 0, 1) := by decide +kernel
theorem dL_law_408 : decode cL_law 408 = .ok (.iload 4, 2) := by decide +kernel
theorem dL_law_410 : decode cL_law 410 = .ok (.iconst 1, 1) := by decide +kernel
theorem dL_law_411 : decode cL_law 411 = .ok (.iadd, 1) := by decide +kernel
theorem dL_law_412 : decode cL_law 412 = .ok (.iaload, 1) := by decide +kernel
theorem dL_law_413 : decode cL_law 413 = .ok (.aload_n 3, 1) := by decide +kernel
theorem dL_law_414 : decode cL_law 414 = .ok (.invokestatic 85, 3) := by decide +kernel
theorem dL_law_417 : decode cL_law 417 = .ok (.istore 5, 2) := by decide +kernel
theorem dL_law_419 : decode cL_law 419 = .ok (.aload_n 2, 1) := by decide +kernel
theorem dL_law_420 : decode cL_law 420 = .ok (.aload_n 0, 1) := by decide +kernel
theorem dL_law_421 : decode cL_law 421 = .ok (.iload 4, 2) := by decide +kernel
theorem dL_law_423 : decode cL_law 423 = .ok (.iconst 1, 1) := by decide +kernel
theorem dL_law_424 : decode cL_law 424 = .ok (.iadd, 1) := by decide +kernel
theorem dL_law_425 : decode cL_law 425 = .ok (.iaload, 1) := by decide +kernel
theorem dL_law_426 : decode cL_law 426 = .ok (.invokevirtual 87, 3) := by decide +kernel
theorem dL_law_429 : decode cL_law 429 = .ok (.istore 6, 2) := by decide +kernel
theorem dL_law_431 : decode cL_law 431 = .ok (.aload_n 2, 1) := by decide +kernel
theorem dL_law_432 : decode cL_law 432 = .ok (.invokevirtual 68, 3) := by decide +kernel
theorem dL_law_435 : decode cL_law 435 = .ok (.iload 5, 2) := by decide +kernel
theorem dL_law_437 : decode cL_law 437 = .ok (.if_icmp .eq 5, 3) := by decide +kernel
theorem dL_law_440 : decode cL_law 440 = .ok (.iconst 0, 1) := by decide +kernel
theorem dL_law_441 : decode cL_law 441 = .ok (.ireturn, 1) := by decide +kernel
theorem dL_law_442 : decode cL_law 442 = .ok (.iload 5, 2) := by decide +kernel
theorem dL_law_444 : decode cL_law 444 = .ok (.ifCond .ne 15, 3) := by decide +kernel
theorem dL_law_447 : decode cL_law 447 = .ok (.aload_n 3, 1) := by decide +kernel
theorem dL_law_448 : decode cL_law 448 = .ok (.iconst 0, 1) := by decide +kernel
theorem dL_law_449 : decode cL_law 449 = .ok (.laload, 1) := by decide +kernel
theorem dL_law_450 : decode cL_law 450 = .ok (.iload 6, 2) := by decide +kernel
theorem dL_law_452 : decode cL_law 452 = .ok (.i2l, 1) := by decide +kernel
theorem dL_law_453 : decode cL_law 453 = .ok (.lcmp, 1) := by decide +kernel
theorem dL_law_454 : decode cL_law 454 = .ok (.ifCond .eq 5, 3) := by decide +kernel
theorem dL_law_457 : decode cL_law 457 = .ok (.iconst 0, 1) := by decide +kernel
theorem dL_law_458 : decode cL_law 458 = .ok (.ireturn, 1) := by decide +kernel
theorem dL_law_459 : decode cL_law 459 = .ok (.goto 555, 3) := by decide +kernel
theorem dL_law_462 : decode cL_law 462 = .ok (.aload_n 1, 1) := by decide +kernel
theorem dL_law_463 : decode cL_law 463 = .ok (.aload_n 0, 1) := by decide +kernel
theorem dL_law_464 : decode cL_law 464 = .ok (.iload 4, 2) := by decide +kernel
theorem dL_law_466 : decode cL_law 466 = .ok (.iconst 1, 1) := by decide +kernel
theorem dL_law_467 : decode cL_law 467 = .ok (.iadd, 1) := by decide +kernel
theorem dL_law_468 : decode cL_law 468 = .ok (.iaload, 1) := by decide +kernel
theorem dL_law_469 : decode cL_law 469 = .ok (.aload_n 0, 1) := by decide +kernel
theorem dL_law_470 : decode cL_law 470 = .ok (.iload 4, 2) := by decide +kernel
theorem dL_law_472 : decode cL_law 472 = .ok (.iconst 2, 1) := by decide +kernel
theorem dL_law_473 : decode cL_law 473 = .ok (.iadd, 1) := by decide +kernel
theorem dL_law_474 : decode cL_law 474 = .ok (.iaload, 1) := by decide +kernel
theorem dL_law_475 : decode cL_law 475 = .ok (.aload_n 3, 1) := by decide +kernel
theorem dL_law_476 : decode cL_law 476 = .ok (.invokestatic 88, 3) := by decide +kernel
theorem dL_law_479 : decode cL_law 479 = .ok (.istore 5, 2) := by decide +kernel
theorem dL_law_481 : decode cL_law 481 = .ok (.aload_n 2, 1) := by decide +kernel
theorem dL_law_482 : decode cL_law 482 = .ok (.aload_n 0, 1) := by decide +kernel
theorem dL_law_483 : decode cL_law 483 = .ok (.iload 4, 2) := by decide +kernel
theorem dL_law_485 : decode cL_law 485 = .ok (.iconst 1, 1) := by decide +kernel
theorem dL_law_486 : decode cL_law 486 = .ok (.iadd, 1) := by decide +kernel
theorem dL_law_487 : decode cL_law 487 = .ok (.iaload, 1) := by decide +kernel
theorem dL_law_488 : decode cL_law 488 = .ok (.aload_n 0, 1) := by decide +kernel
theorem dL_law_489 : decode cL_law 489 = .ok (.iload 4, 2) := by decide +kernel
theorem dL_law_491 : decode cL_law 491 = .ok (.iconst 2, 1) := by decide +kernel
theorem dL_law_492 : decode cL_law 492 = .ok (.iadd, 1) := by decide +kernel
theorem dL_law_493 : decode cL_law 493 = .ok (.iaload, 1) := by decide +kernel
theorem dL_law_494 : decode cL_law 494 = .ok (.invokevirtual 91, 3) := by decide +kernel
theorem dL_law_497 : decode cL_law 497 = .ok (.istore 6, 2) := by decide +kernel
theorem dL_law_499 : decode cL_law 499 = .ok (.aload_n 2, 1) := by decide +kernel
theorem dL_law_500 : decode cL_law 500 = .ok (.invokevirtual 68, 3) := by decide +kernel
theorem dL_law_503 : decode cL_law 503 = .ok (.iload 5, 2) := by decide +kernel
theorem dL_law_505 : decode cL_law 505 = .ok (.if_icmp .eq 5, 3) := by decide +kernel
theorem dL_law_508 : decode cL_law 508 = .ok (.iconst 0, 1) := by decide +kernel
theorem dL_law_509 : decode cL_law 509 = .ok (.ireturn, 1) := by decide +kernel
theorem dL_law_510 : decode cL_law 510 = .ok (.iload 5, 2) := by decide +kernel
theorem dL_law_512 : decode cL_law 512 = .ok (.ifCond .ne 22, 3) := by decide +kernel
theorem dL_law_515 : decode cL_law 515 = .ok (.aload_n 3, 1) := by decide +kernel
theorem dL_law_516 : decode cL_law 516 = .ok (.iconst 0, 1) := by decide +kernel
theorem dL_law_517 : decode cL_law 517 = .ok (.laload, 1) := by decide +kernel
theorem dL_law_518 : decode cL_law 518 = .ok (.iload 6, 2) := by decide +kernel
theorem dL_law_520 : decode cL_law 520 = .ok (.ifCond .eq 7, 3) := by decide +kernel
theorem dL_law_523 : decode cL_law 523 = .ok (.lconst 1, 1) := by decide +kernel
theorem dL_law_524 : decode cL_law 524 = .ok (.goto 4, 3) := by decide +kernel
theorem dL_law_527 : decode cL_law 527 = .ok (.lconst 0, 1) := by decide +kernel
theorem dL_law_528 : decode cL_law 528 = .ok (.lcmp, 1) := by decide +kernel
theorem dL_law_529 : decode cL_law 529 = .ok (.ifCond .eq 5, 3) := by decide +kernel
theorem dL_law_532 : decode cL_law 532 = .ok (.iconst 0, 1) := by decide +kernel
theorem dL_law_533 : decode cL_law 533 = .ok (.ireturn, 1) := by decide +kernel
theorem dL_law_534 : decode cL_law 534 = .ok (.goto 480, 3) := by decide +kernel
theorem dL_law_537 : decode cL_law 537 = .ok (.aload_n 1, 1) := by decide +kernel
theorem dL_law_538 : decode cL_law 538 = .ok (.aload_n 0, 1) := by decide +kernel
theorem dL_law_539 : decode cL_law 539 = .ok (.iload 4, 2) := by decide +kernel
theorem dL_law_541 : decode cL_law 541 = .ok (.iconst 1, 1) := by decide +kernel
theorem dL_law_542 : decode cL_law 542 = .ok (.iadd, 1) := by decide +kernel
theorem dL_law_543 : decode cL_law 543 = .ok (.iaload, 1) := by decide +kernel
theorem dL_law_544 : decode cL_law 544 = .ok (.aload_n 0, 1) := by decide +kernel
theorem dL_law_545 : decode cL_law 545 = .ok (.iload 4, 2) := by decide +kernel
theorem dL_law_547 : decode cL_law 547 = .ok (.iconst 2, 1) := by decide +kernel
theorem dL_law_548 : decode cL_law 548 = .ok (.iadd, 1) := by decide +kernel
theorem dL_law_549 : decode cL_law 549 = .ok (.iaload, 1) := by decide +kernel
theorem dL_law_550 : decode cL_law 550 = .ok (.aload_n 3, 1) := by decide +kernel
theorem dL_law_551 : decode cL_law 551 = .ok (.invokestatic 92, 3) := by decide +kernel
theorem dL_law_554 : decode cL_law 554 = .ok (.istore 5, 2) := by decide +kernel
theorem dL_law_556 : decode cL_law 556 = .ok (.aload_n 2, 1) := by decide +kernel
theorem dL_law_557 : decode cL_law 557 = .ok (.aload_n 0, 1) := by decide +kernel
theorem dL_law_558 : decode cL_law 558 = .ok (.iload 4, 2) := by decide +kernel
theorem dL_law_560 : decode cL_law 560 = .ok (.iconst 1, 1) := by decide +kernel
theorem dL_law_561 : decode cL_law 561 = .ok (.iadd, 1) := by decide +kernel
theorem dL_law_562 : decode cL_law 562 = .ok (.iaload, 1) := by decide +kernel
theorem dL_law_563 : decode cL_law 563 = .ok (.aload_n 0, 1) := by decide +kernel
theorem dL_law_564 : decode cL_law 564 = .ok (.iload 4, 2) := by decide +kernel
theorem dL_law_566 : decode cL_law 566 = .ok (.iconst 2, 1) := by decide +kernel
theorem dL_law_567 : decode cL_law 567 = .ok (.iadd, 1) := by decide +kernel
theorem dL_law_568 : decode cL_law 568 = .ok (.iaload, 1) := by decide +kernel
theorem dL_law_569 : decode cL_law 569 = .ok (.invokevirtual 94, 3) := by decide +kernel
theorem dL_law_572 : decode cL_law 572 = .ok (.istore 6, 2) := by decide +kernel
theorem dL_law_574 : decode cL_law 574 = .ok (.aload_n 2, 1) := by decide +kernel
theorem dL_law_575 : decode cL_law 575 = .ok (.invokevirtual 68, 3) := by decide +kernel
theorem dL_law_578 : decode cL_law 578 = .ok (.iload 5, 2) := by decide +kernel
theorem dL_law_580 : decode cL_law 580 = .ok (.if_icmp .eq 5, 3) := by decide +kernel
theorem dL_law_583 : decode cL_law 583 = .ok (.iconst 0, 1) := by decide +kernel
theorem dL_law_584 : decode cL_law 584 = .ok (.ireturn, 1) := by decide +kernel
theorem dL_law_585 : decode cL_law 585 = .ok (.iload 5, 2) := by decide +kernel
theorem dL_law_587 : decode cL_law 587 = .ok (.ifCond .ne 15, 3) := by decide +kernel
theorem dL_law_590 : decode cL_law 590 = .ok (.aload_n 3, 1) := by decide +kernel
theorem dL_law_591 : decode cL_law 591 = .ok (.iconst 0, 1) := by decide +kernel
theorem dL_law_592 : decode cL_law 592 = .ok (.laload, 1) := by decide +kernel
theorem dL_law_593 : decode cL_law 593 = .ok (.iload 6, 2) := by decide +kernel
theorem dL_law_595 : decode cL_law 595 = .ok (.i2l, 1) := by decide +kernel
theorem dL_law_596 : decode cL_law 596 = .ok (.lcmp, 1) := by decide +kernel
theorem dL_law_597 : decode cL_law 597 = .ok (.ifCond .eq 5, 3) := by decide +kernel
theorem dL_law_600 : decode cL_law 600 = .ok (.iconst 0, 1) := by decide +kernel
theorem dL_law_601 : decode cL_law 601 = .ok (.ireturn, 1) := by decide +kernel
theorem dL_law_602 : decode cL_law 602 = .ok (.goto 412, 3) := by decide +kernel
theorem dL_law_605 : decode cL_law 605 = .ok (.aload_n 1, 1) := by decide +kernel
theorem dL_law_606 : decode cL_law 606 = .ok (.aload_n 0, 1) := by decide +kernel
theorem dL_law_607 : decode cL_law 607 = .ok (.iload 4, 2) := by decide +kernel
theorem dL_law_609 : decode cL_law 609 = .ok (.iconst 1, 1) := by decide +kernel
theorem dL_law_610 : decode cL_law 610 = .ok (.iadd, 1) := by decide +kernel
theorem dL_law_611 : decode cL_law 611 = .ok (.iaload, 1) := by decide +kernel
theorem dL_law_612 : decode cL_law 612 = .ok (.aload_n 0, 1) := by decide +kernel
theorem dL_law_613 : decode cL_law 613 = .ok (.iload 4, 2) := by decide +kernel
theorem dL_law_615 : decode cL_law 615 = .ok (.iconst 2, 1) := by decide +kernel
theorem dL_law_616 : decode cL_law 616 = .ok (.iadd, 1) := by decide +kernel
theorem dL_law_617 : decode cL_law 617 = .ok (.iaload, 1) := by decide +kernel
theorem dL_law_618 : decode cL_law 618 = .ok (.aload_n 0, 1) := by decide +kernel
theorem dL_law_619 : decode cL_law 619 = .ok (.iload 4, 2) := by decide +kernel
theorem dL_law_621 : decode cL_law 621 = .ok (.iconst 3, 1) := by decide +kernel
theorem dL_law_622 : decode cL_law 622 = .ok (.iadd, 1) := by decide +kernel
theorem dL_law_623 : decode cL_law 623 = .ok (.iaload, 1) := by decide +kernel
theorem dL_law_624 : decode cL_law 624 = .ok (.aload_n 3, 1) := by decide +kernel
theorem dL_law_625 : decode cL_law 625 = .ok (.invokestatic 95, 3) := by decide +kernel
theorem dL_law_628 : decode cL_law 628 = .ok (.istore 5, 2) := by decide +kernel
theorem dL_law_630 : decode cL_law 630 = .ok (.aload_n 2, 1) := by decide +kernel
theorem dL_law_631 : decode cL_law 631 = .ok (.aload_n 0, 1) := by decide +kernel
theorem dL_law_632 : decode cL_law 632 = .ok (.iload 4, 2) := by decide +kernel
theorem dL_law_634 : decode cL_law 634 = .ok (.iconst 1, 1) := by decide +kernel
theorem dL_law_635 : decode cL_law 635 = .ok (.iadd, 1) := by decide +kernel
theorem dL_law_636 : decode cL_law 636 = .ok (.iaload, 1) := by decide +kernel
theorem dL_law_637 : decode cL_law 637 = .ok (.aload_n 0, 1) := by decide +kernel
theorem dL_law_638 : decode cL_law 638 = .ok (.iload 4, 2) := by decide +kernel
theorem dL_law_640 : decode cL_law 640 = .ok (.iconst 2, 1) := by decide +kernel
theorem dL_law_641 : decode cL_law 641 = .ok (.iadd, 1) := by decide +kernel
theorem dL_law_642 : decode cL_law 642 = .ok (.iaload, 1) := by decide +kernel
theorem dL_law_643 : decode cL_law 643 = .ok (.aload_n 0, 1) := by decide +kernel
theorem dL_law_644 : decode cL_law 644 = .ok (.iload 4, 2) := by decide +kernel
theorem dL_law_646 : decode cL_law 646 = .ok (.iconst 3, 1) := by decide +kernel
theorem dL_law_647 : decode cL_law 647 = .ok (.iadd, 1) := by decide +kernel
theorem dL_law_648 : decode cL_law 648 = .ok (.iaload, 1) := by decide +kernel
theorem dL_law_649 : decode cL_law 649 = .ok (.invokevirtual 97, 3) := by decide +kernel
theorem dL_law_652 : decode cL_law 652 = .ok (.istore 6, 2) := by decide +kernel
theorem dL_law_654 : decode cL_law 654 = .ok (.aload_n 2, 1) := by decide +kernel
theorem dL_law_655 : decode cL_law 655 = .ok (.invokevirtual 68, 3) := by decide +kernel
theorem dL_law_658 : decode cL_law 658 = .ok (.iload 5, 2) := by decide +kernel
theorem dL_law_660 : decode cL_law 660 = .ok (.if_icmp .eq 5, 3) := by decide +kernel
theorem dL_law_663 : decode cL_law 663 = .ok (.iconst 0, 1) := by decide +kernel
theorem dL_law_664 : decode cL_law 664 = .ok (.ireturn, 1) := by decide +kernel
theorem dL_law_665 : decode cL_law 665 = .ok (.iload 5, 2) := by decide +kernel
theorem dL_law_667 : decode cL_law 667 = .ok (.ifCond .ne 15, 3) := by decide +kernel
theorem dL_law_670 : decode cL_law 670 = .ok (.aload_n 3, 1) := by decide +kernel
theorem dL_law_671 : decode cL_law 671 = .ok (.iconst 0, 1) := by decide +kernel
theorem dL_law_672 : decode cL_law 672 = .ok (.laload, 1) := by decide +kernel
theorem dL_law_673 : decode cL_law 673 = .ok (.iload 6, 2) := by decide +kernel
theorem dL_law_675 : decode cL_law 675 = .ok (.i2l, 1) := by decide +kernel
theorem dL_law_676 : decode cL_law 676 = .ok (.lcmp, 1) := by decide +kernel
theorem dL_law_677 : decode cL_law 677 = .ok (.ifCond .eq 5, 3) := by decide +kernel
theorem dL_law_680 : decode cL_law 680 = .ok (.iconst 0, 1) := by decide +kernel
theorem dL_law_681 : decode cL_law 681 = .ok (.ireturn, 1) := by decide +kernel
theorem dL_law_682 : decode cL_law 682 = .ok (.goto 332, 3) := by decide +kernel
theorem dL_law_685 : decode cL_law 685 = .ok (.aload_n 1, 1) := by decide +kernel
theorem dL_law_686 : decode cL_law 686 = .ok (.aload_n 0, 1) := by decide +kernel
theorem dL_law_687 : decode cL_law 687 = .ok (.iload 4, 2) := by decide +kernel
theorem dL_law_689 : decode cL_law 689 = .ok (.iconst 1, 1) := by decide +kernel
theorem dL_law_690 : decode cL_law 690 = .ok (.iadd, 1) := by decide +kernel
theorem dL_law_691 : decode cL_law 691 = .ok (.iaload, 1) := by decide +kernel
theorem dL_law_692 : decode cL_law 692 = .ok (.aload_n 0, 1) := by decide +kernel
theorem dL_law_693 : decode cL_law 693 = .ok (.iload 4, 2) := by decide +kernel
theorem dL_law_695 : decode cL_law 695 = .ok (.iconst 2, 1) := by decide +kernel
theorem dL_law_696 : decode cL_law 696 = .ok (.iadd, 1) := by decide +kernel
theorem dL_law_697 : decode cL_law 697 = .ok (.iaload, 1) := by decide +kernel
theorem dL_law_698 : decode cL_law 698 = .ok (.aload_n 3, 1) := by decide +kernel
theorem dL_law_699 : decode cL_law 699 = .ok (.invokestatic 98, 3) := by decide +kernel
theorem dL_law_702 : decode cL_law 702 = .ok (.istore 5, 2) := by decide +kernel
theorem dL_law_704 : decode cL_law 704 = .ok (.aload_n 2, 1) := by decide +kernel
theorem dL_law_705 : decode cL_law 705 = .ok (.aload_n 0, 1) := by decide +kernel
theorem dL_law_706 : decode cL_law 706 = .ok (.iload 4, 2) := by decide +kernel
theorem dL_law_708 : decode cL_law 708 = .ok (.iconst 1, 1) := by decide +kernel
theorem dL_law_709 : decode cL_law 709 = .ok (.iadd, 1) := by decide +kernel
theorem dL_law_710 : decode cL_law 710 = .ok (.iaload, 1) := by decide +kernel
theorem dL_law_711 : decode cL_law 711 = .ok (.aload_n 0, 1) := by decide +kernel
theorem dL_law_712 : decode cL_law 712 = .ok (.iload 4, 2) := by decide +kernel
theorem dL_law_714 : decode cL_law 714 = .ok (.iconst 2, 1) := by decide +kernel
theorem dL_law_715 : decode cL_law 715 = .ok (.iadd, 1) := by decide +kernel
theorem dL_law_716 : decode cL_law 716 = .ok (.iaload, 1) := by decide +kernel
theorem dL_law_717 : decode cL_law 717 = .ok (.invokevirtual 100, 3) := by decide +kernel
theorem dL_law_720 : decode cL_law 720 = .ok (.istore 6, 2) := by decide +kernel
theorem dL_law_722 : decode cL_law 722 = .ok (.aload_n 2, 1) := by decide +kernel
theorem dL_law_723 : decode cL_law 723 = .ok (.invokevirtual 68, 3) := by decide +kernel
theorem dL_law_726 : decode cL_law 726 = .ok (.iload 5, 2) := by decide +kernel
theorem dL_law_728 : decode cL_law 728 = .ok (.if_icmp .eq 5, 3) := by decide +kernel
theorem dL_law_731 : decode cL_law 731 = .ok (.iconst 0, 1) := by decide +kernel
theorem dL_law_732 : decode cL_law 732 = .ok (.ireturn, 1) := by decide +kernel
theorem dL_law_733 : decode cL_law 733 = .ok (.iload 5, 2) := by decide +kernel
theorem dL_law_735 : decode cL_law 735 = .ok (.ifCond .ne 15, 3) := by decide +kernel
theorem dL_law_738 : decode cL_law 738 = .ok (.aload_n 3, 1) := by decide +kernel
theorem dL_law_739 : decode cL_law 739 = .ok (.iconst 0, 1) := by decide +kernel
theorem dL_law_740 : decode cL_law 740 = .ok (.laload, 1) := by decide +kernel
theorem dL_law_741 : decode cL_law 741 = .ok (.iload 6, 2) := by decide +kernel
theorem dL_law_743 : decode cL_law 743 = .ok (.i2l, 1) := by decide +kernel
theorem dL_law_744 : decode cL_law 744 = .ok (.lcmp, 1) := by decide +kernel
theorem dL_law_745 : decode cL_law 745 = .ok (.ifCond .eq 5, 3) := by decide +kernel
theorem dL_law_748 : decode cL_law 748 = .ok (.iconst 0, 1) := by decide +kernel
theorem dL_law_749 : decode cL_law 749 = .ok (.ireturn, 1) := by decide +kernel
theorem dL_law_750 : decode cL_law 750 = .ok (.goto 264, 3) := by decide +kernel
theorem dL_law_753 : decode cL_law 753 = .ok (.aload_n 1, 1) := by decide +kernel
theorem dL_law_754 : decode cL_law 754 = .ok (.aload_n 0, 1) := by decide +kernel
theorem dL_law_755 : decode cL_law 755 = .ok (.iload 4, 2) := by decide +kernel
theorem dL_law_757 : decode cL_law 757 = .ok (.iconst 1, 1) := by decide +kernel
theorem dL_law_758 : decode cL_law 758 = .ok (.iadd, 1) := by decide +kernel
theorem dL_law_759 : decode cL_law 759 = .ok (.iaload, 1) := by decide +kernel
theorem dL_law_760 : decode cL_law 760 = .ok (.aload_n 3, 1) := by decide +kernel
theorem dL_law_761 : decode cL_law 761 = .ok (.invokestatic 101, 3) := by decide +kernel
theorem dL_law_764 : decode cL_law 764 = .ok (.istore 5, 2) := by decide +kernel
theorem dL_law_766 : decode cL_law 766 = .ok (.aload_n 2, 1) := by decide +kernel
theorem dL_law_767 : decode cL_law 767 = .ok (.aload_n 0, 1) := by decide +kernel
theorem dL_law_768 : decode cL_law 768 = .ok (.iload 4, 2) := by decide +kernel
theorem dL_law_770 : decode cL_law 770 = .ok (.iconst 1, 1) := by decide +kernel
theorem dL_law_771 : decode cL_law 771 = .ok (.iadd, 1) := by decide +kernel
theorem dL_law_772 : decode cL_law 772 = .ok (.iaload, 1) := by decide +kernel
theorem dL_law_773 : decode cL_law 773 = .ok (.invokevirtual 103, 3) := by decide +kernel
theorem dL_law_776 : decode cL_law 776 = .ok (.istore 6, 2) := by decide +kernel
theorem dL_law_778 : decode cL_law 778 = .ok (.aload_n 2, 1) := by decide +kernel
theorem dL_law_779 : decode cL_law 779 = .ok (.invokevirtual 68, 3) := by decide +kernel
theorem dL_law_782 : decode cL_law 782 = .ok (.iload 5, 2) := by decide +kernel
theorem dL_law_784 : decode cL_law 784 = .ok (.if_icmp .eq 5, 3) := by decide +kernel
theorem dL_law_787 : decode cL_law 787 = .ok (.iconst 0, 1) := by decide +kernel
theorem dL_law_788 : decode cL_law 788 = .ok (.ireturn, 1) := by decide +kernel
theorem dL_law_789 : decode cL_law 789 = .ok (.iload 5, 2) := by decide +kernel
theorem dL_law_791 : decode cL_law 791 = .ok (.ifCond .ne 15, 3) := by decide +kernel
theorem dL_law_794 : decode cL_law 794 = .ok (.aload_n 3, 1) := by decide +kernel
theorem dL_law_795 : decode cL_law 795 = .ok (.iconst 0, 1) := by decide +kernel
theorem dL_law_796 : decode cL_law 796 = .ok (.laload, 1) := by decide +kernel
theorem dL_law_797 : decode cL_law 797 = .ok (.iload 6, 2) := by decide +kernel
theorem dL_law_799 : decode cL_law 799 = .ok (.i2l, 1) := by decide +kernel
theorem dL_law_800 : decode cL_law 800 = .ok (.lcmp, 1) := by decide +kernel
theorem dL_law_801 : decode cL_law 801 = .ok (.ifCond .eq 5, 3) := by decide +kernel
theorem dL_law_804 : decode cL_law 804 = .ok (.iconst 0, 1) := by decide +kernel
theorem dL_law_805 : decode cL_law 805 = .ok (.ireturn, 1) := by decide +kernel
theorem dL_law_806 : decode cL_law 806 = .ok (.goto 208, 3) := by decide +kernel
theorem dL_law_809 : decode cL_law 809 = .ok (.aload_n 1, 1) := by decide +kernel
theorem dL_law_810 : decode cL_law 810 = .ok (.aload_n 0, 1) := by decide +kernel
theorem dL_law_811 : decode cL_law 811 = .ok (.iload 4, 2) := by decide +kernel
theorem dL_law_813 : decode cL_law 813 = .ok (.iconst 1, 1) := by decide +kernel
theorem dL_law_814 : decode cL_law 814 = .ok (.iadd, 1) := by decide +kernel
theorem dL_law_815 : decode cL_law 815 = .ok (.iaload, 1) := by decide +kernel
theorem dL_law_816 : decode cL_law 816 = .ok (.aload_n 3, 1) := by decide +kernel
theorem dL_law_817 : decode cL_law 817 = .ok (.invokestatic 104, 3) := by decide +kernel
theorem dL_law_820 : decode cL_law 820 = .ok (.istore 5, 2) := by decide +kernel
theorem dL_law_822 : decode cL_law 822 = .ok (.aload_n 2, 1) := by decide +kernel
theorem dL_law_823 : decode cL_law 823 = .ok (.aload_n 0, 1) := by decide +kernel
theorem dL_law_824 : decode cL_law 824 = .ok (.iload 4, 2) := by decide +kernel
theorem dL_law_826 : decode cL_law 826 = .ok (.iconst 1, 1) := by decide +kernel
theorem dL_law_827 : decode cL_law 827 = .ok (.iadd, 1) := by decide +kernel
theorem dL_law_828 : decode cL_law 828 = .ok (.iaload, 1) := by decide +kernel
theorem dL_law_829 : decode cL_law 829 = .ok (.invokevirtual 106, 3) := by decide +kernel
theorem dL_law_832 : decode cL_law 832 = .ok (.istore 6, 2) := by decide +kernel
theorem dL_law_834 : decode cL_law 834 = .ok (.aload_n 2, 1) := by decide +kernel
theorem dL_law_835 : decode cL_law 835 = .ok (.invokevirtual 68, 3) := by decide +kernel
theorem dL_law_838 : decode cL_law 838 = .ok (.iload 5, 2) := by decide +kernel
theorem dL_law_840 : decode cL_law 840 = .ok (.if_icmp .eq 5, 3) := by decide +kernel
theorem dL_law_843 : decode cL_law 843 = .ok (.iconst 0, 1) := by decide +kernel
theorem dL_law_844 : decode cL_law 844 = .ok (.ireturn, 1) := by decide +kernel
theorem dL_law_845 : decode cL_law 845 = .ok (.iload 5, 2) := by decide +kernel
theorem dL_law_847 : decode cL_law 847 = .ok (.ifCond .ne 15, 3) := by decide +kernel
theorem dL_law_850 : decode cL_law 850 = .ok (.aload_n 3, 1) := by decide +kernel
theorem dL_law_851 : decode cL_law 851 = .ok (.iconst 0, 1) := by decide +kernel
theorem dL_law_852 : decode cL_law 852 = .ok (.laload, 1) := by decide +kernel
theorem dL_law_853 : decode cL_law 853 = .ok (.iload 6, 2) := by decide +kernel
theorem dL_law_855 : decode cL_law 855 = .ok (.i2l, 1) := by decide +kernel
theorem dL_law_856 : decode cL_law 856 = .ok (.lcmp, 1) := by decide +kernel
theorem dL_law_857 : decode cL_law 857 = .ok (.ifCond .eq 5, 3) := by decide +kernel
theorem dL_law_860 : decode cL_law 860 = .ok (.iconst 0, 1) := by decide +kernel
theorem dL_law_861 : decode cL_law 861 = .ok (.ireturn, 1) := by decide +kernel
theorem dL_law_862 : decode cL_law 862 = .ok (.goto 152, 3) := by decide +kernel
theorem dL_law_865 : decode cL_law 865 = .ok (.aload_n 1, 1) := by decide +kernel
theorem dL_law_866 : decode cL_law 866 = .ok (.aload_n 0, 1) := by decide +kernel
theorem dL_law_867 : decode cL_law 867 = .ok (.iload 4, 2) := by decide +kernel
theorem dL_law_869 : decode cL_law 869 = .ok (.iconst 1, 1) := by decide +kernel
theorem dL_law_870 : decode cL_law 870 = .ok (.iadd, 1) := by decide +kernel
theorem dL_law_871 : decode cL_law 871 = .ok (.iaload, 1) := by decide +kernel
theorem dL_law_872 : decode cL_law 872 = .ok (.invokevirtual 107, 3) := by decide +kernel
theorem dL_law_875 : decode cL_law 875 = .ok (.aload_n 2, 1) := by decide +kernel
theorem dL_law_876 : decode cL_law 876 = .ok (.aload_n 0, 1) := by decide +kernel
theorem dL_law_877 : decode cL_law 877 = .ok (.iload 4, 2) := by decide +kernel
theorem dL_law_879 : decode cL_law 879 = .ok (.iconst 1, 1) := by decide +kernel
theorem dL_law_880 : decode cL_law 880 = .ok (.iadd, 1) := by decide +kernel
theorem dL_law_881 : decode cL_law 881 = .ok (.iaload, 1) := by decide +kernel
theorem dL_law_882 : decode cL_law 882 = .ok (.invokevirtual 110, 3) := by decide +kernel
theorem dL_law_885 : decode cL_law 885 = .ok (.if_icmp .eq 129, 3) := by decide +kernel
theorem dL_law_888 : decode cL_law 888 = .ok (.iconst 0, 1) := by decide +kernel
theorem dL_law_889 : decode cL_law 889 = .ok (.ireturn, 1) := by decide +kernel
theorem dL_law_890 : decode cL_law 890 = .ok (.aload_n 1, 1) := by decide +kernel
theorem dL_law_891 : decode cL_law 891 = .ok (.aload_n 0, 1) := by decide +kernel
theorem dL_law_892 : decode cL_law 892 = .ok (.iload 4, 2) := by decide +kernel
theorem dL_law_894 : decode cL_law 894 = .ok (.iconst 1, 1) := by decide +kernel
theorem dL_law_895 : decode cL_law 895 = .ok (.iadd, 1) := by decide +kernel
theorem dL_law_896 : decode cL_law 896 = .ok (.iaload, 1) := by decide +kernel
theorem dL_law_897 : decode cL_law 897 = .ok (.aload_n 0, 1) := by decide +kernel
theorem dL_law_898 : decode cL_law 898 = .ok (.iload 4, 2) := by decide +kernel
theorem dL_law_900 : decode cL_law 900 = .ok (.iconst 2, 1) := by decide +kernel
theorem dL_law_901 : decode cL_law 901 = .ok (.iadd, 1) := by decide +kernel
theorem dL_law_902 : decode cL_law 902 = .ok (.iaload, 1) := by decide +kernel
theorem dL_law_903 : decode cL_law 903 = .ok (.aload_n 3, 1) := by decide +kernel
theorem dL_law_904 : decode cL_law 904 = .ok (.invokestatic 111, 3) := by decide +kernel
theorem dL_law_907 : decode cL_law 907 = .ok (.istore 5, 2) := by decide +kernel
theorem dL_law_909 : decode cL_law 909 = .ok (.aload_n 2, 1) := by decide +kernel
theorem dL_law_910 : decode cL_law 910 = .ok (.aload_n 0, 1) := by decide +kernel
theorem dL_law_911 : decode cL_law 911 = .ok (.iload 4, 2) := by decide +kernel
theorem dL_law_913 : decode cL_law 913 = .ok (.iconst 1, 1) := by decide +kernel
theorem dL_law_914 : decode cL_law 914 = .ok (.iadd, 1) := by decide +kernel
theorem dL_law_915 : decode cL_law 915 = .ok (.iaload, 1) := by decide +kernel
theorem dL_law_916 : decode cL_law 916 = .ok (.aload_n 0, 1) := by decide +kernel
theorem dL_law_917 : decode cL_law 917 = .ok (.iload 4, 2) := by decide +kernel
theorem dL_law_919 : decode cL_law 919 = .ok (.iconst 2, 1) := by decide +kernel
theorem dL_law_920 : decode cL_law 920 = .ok (.iadd, 1) := by decide +kernel
theorem dL_law_921 : decode cL_law 921 = .ok (.iaload, 1) := by decide +kernel
theorem dL_law_922 : decode cL_law 922 = .ok (.invokevirtual 113, 3) := by decide +kernel
theorem dL_law_925 : decode cL_law 925 = .ok (.istore 6, 2) := by decide +kernel
theorem dL_law_927 : decode cL_law 927 = .ok (.aload_n 2, 1) := by decide +kernel
theorem dL_law_928 : decode cL_law 928 = .ok (.invokevirtual 68, 3) := by decide +kernel
theorem dL_law_931 : decode cL_law 931 = .ok (.iload 5, 2) := by decide +kernel
theorem dL_law_933 : decode cL_law 933 = .ok (.if_icmp .eq 5, 3) := by decide +kernel
theorem dL_law_936 : decode cL_law 936 = .ok (.iconst 0, 1) := by decide +kernel
theorem dL_law_937 : decode cL_law 937 = .ok (.ireturn, 1) := by decide +kernel
theorem dL_law_938 : decode cL_law 938 = .ok (.iload 5, 2) := by decide +kernel
theorem dL_law_940 : decode cL_law 940 = .ok (.ifCond .ne 15, 3) := by decide +kernel
theorem dL_law_943 : decode cL_law 943 = .ok (.aload_n 3, 1) := by decide +kernel
theorem dL_law_944 : decode cL_law 944 = .ok (.iconst 0, 1) := by decide +kernel
theorem dL_law_945 : decode cL_law 945 = .ok (.laload, 1) := by decide +kernel
theorem dL_law_946 : decode cL_law 946 = .ok (.iload 6, 2) := by decide +kernel
theorem dL_law_948 : decode cL_law 948 = .ok (.i2l, 1) := by decide +kernel
theorem dL_law_949 : decode cL_law 949 = .ok (.lcmp, 1) := by decide +kernel
theorem dL_law_950 : decode cL_law 950 = .ok (.ifCond .eq 5, 3) := by decide +kernel
theorem dL_law_953 : decode cL_law 953 = .ok (.iconst 0, 1) := by decide +kernel
theorem dL_law_954 : decode cL_law 954 = .ok (.ireturn, 1) := by decide +kernel
theorem dL_law_955 : decode cL_law 955 = .ok (.goto 59, 3) := by decide +kernel
theorem dL_law_958 : decode cL_law 958 = .ok (.aload_n 1, 1) := by decide +kernel
theorem dL_law_959 : decode cL_law 959 = .ok (.aload_n 0, 1) := by decide +kernel
theorem dL_law_960 : decode cL_law 960 = .ok (.iload 4, 2) := by decide +kernel
theorem dL_law_962 : decode cL_law 962 = .ok (.iconst 1, 1) := by decide +kernel
theorem dL_law_963 : decode cL_law 963 = .ok (.iadd, 1) := by decide +kernel
theorem dL_law_964 : decode cL_law 964 = .ok (.iaload, 1) := by decide +kernel
theorem dL_law_965 : decode cL_law 965 = .ok (.aload_n 3, 1) := by decide +kernel
theorem dL_law_966 : decode cL_law 966 = .ok (.invokestatic 114, 3) := by decide +kernel
theorem dL_law_969 : decode cL_law 969 = .ok (.istore 5, 2) := by decide +kernel
theorem dL_law_971 : decode cL_law 971 = .ok (.aload_n 2, 1) := by decide +kernel
theorem dL_law_972 : decode cL_law 972 = .ok (.aload_n 0, 1) := by decide +kernel
theorem dL_law_973 : decode cL_law 973 = .ok (.iload 4, 2) := by decide +kernel
theorem dL_law_975 : decode cL_law 975 = .ok (.iconst 1, 1) := by decide +kernel
theorem dL_law_976 : decode cL_law 976 = .ok (.iadd, 1) := by decide +kernel
theorem dL_law_977 : decode cL_law 977 = .ok (.iaload, 1) := by decide +kernel
theorem dL_law_978 : decode cL_law 978 = .ok (.invokevirtual 116, 3) := by decide +kernel
theorem dL_law_981 : decode cL_law 981 = .ok (.istore 6, 2) := by decide +kernel
theorem dL_law_983 : decode cL_law 983 = .ok (.aload_n 2, 1) := by decide +kernel
theorem dL_law_984 : decode cL_law 984 = .ok (.invokevirtual 68, 3) := by decide +kernel
theorem dL_law_987 : decode cL_law 987 = .ok (.iload 5, 2) := by decide +kernel
theorem dL_law_989 : decode cL_law 989 = .ok (.if_icmp .eq 5, 3) := by decide +kernel
theorem dL_law_992 : decode cL_law 992 = .ok (.iconst 0, 1) := by decide +kernel
theorem dL_law_993 : decode cL_law 993 = .ok (.ireturn, 1) := by decide +kernel
theorem dL_law_994 : decode cL_law 994 = .ok (.iload 5, 2) := by decide +kernel
theorem dL_law_996 : decode cL_law 996 = .ok (.ifCond .ne 15, 3) := by decide +kernel
theorem dL_law_999 : decode cL_law 999 = .ok (.aload_n 3, 1) := by decide +kernel
theorem dL_law_1000 : decode cL_law 1000 = .ok (.iconst 0, 1) := by decide +kernel
theorem dL_law_1001 : decode cL_law 1001 = .ok (.laload, 1) := by decide +kernel
theorem dL_law_1002 : decode cL_law 1002 = .ok (.iload 6, 2) := by decide +kernel
theorem dL_law_1004 : decode cL_law 1004 = .ok (.i2l, 1) := by decide +kernel
theorem dL_law_1005 : decode cL_law 1005 = .ok (.lcmp, 1) := by decide +kernel
theorem dL_law_1006 : decode cL_law 1006 = .ok (.ifCond .eq 5, 3) := by decide +kernel
theorem dL_law_1009 : decode cL_law 1009 = .ok (.iconst 0, 1) := by decide +kernel
theorem dL_law_1010 : decode cL_law 1010 = .ok (.ireturn, 1) := by decide +kernel
theorem dL_law_1011 : decode cL_law 1011 = .ok (.goto 3, 3) := by decide +kernel
theorem dL_law_1014 : decode cL_law 1014 = .ok (.iinc 4 7, 3) := by decide +kernel
theorem dL_law_1017 : decode cL_law 1017 = .ok (.goto (-994), 3) := by decide +kernel
theorem dL_law_1020 : decode cL_law 1020 = .ok (.iconst 1, 1) := by decide +kernel
theorem dL_law_1021 : decode cL_law 1021 = .ok (.ireturn, 1) := by decide +kernel
/-! words._Z -/
theorem q1299 : (Jvm.Cond.castable "[Z" "java/lang/Object") ∈ lw_tbl := lw_at lw_m6 58 rfl
/-! words.rest -/
theorem q95 : (Jvm.Cond.arrayOver (Jvm.ClassFile.FieldType.object "java/lang/Object")) ∈ lw_tbl := lw_at lw_m1 54 rfl
theorem q169 : (Jvm.Cond.arrayClass Jvm.ClassFile.FieldType.byte) ∈ lw_all := lw_g (lw_at lw_m1 128 rfl) rfl
theorem q443 : (Jvm.Cond.arrayClass Jvm.ClassFile.FieldType.int) ∈ lw_all := lw_g (lw_at lw_m2 162 rfl) rfl
theorem q1089 : (Jvm.Cond.arrayClass Jvm.ClassFile.FieldType.boolean) ∈ lw_all := lw_g (lw_at lw_m5 88 rfl) rfl
theorem q1267 : (Jvm.Cond.arrayClass Jvm.ClassFile.FieldType.long) ∈ lw_all := lw_g (lw_at lw_m6 26 rfl) rfl
/-! words.LunchMarks_State -/
theorem q71 : (Jvm.Cond.initialized "LunchMarks$State") ∈ lw_all := lw_g (lw_at lw_m1 30 rfl) rfl
theorem q496 : (Jvm.Cond.selects "LunchMarks$State" ({ cls := "java/lang/Object", name := "getClass", desc := "()Ljava/lang/Class;" } : Jvm.MethodName) ({ cls := "java/lang/Object", name := "getClass", desc := "()Ljava/lang/Class;" } : Jvm.MethodName)) ∈ lw_all := lw_g (lw_at lw_m2 215 rfl) rfl
theorem q592 : (Jvm.Cond.laysStatic "LunchMarks$State" "NEW" "LLunchMarks$State;") ∈ lw_tbl := lw_at lw_m3 71 rfl
theorem q659 : (Jvm.Cond.laysStatic "LunchMarks$State" "LED" "LLunchMarks$State;") ∈ lw_tbl := lw_at lw_m3 138 rfl
theorem q869 : (Jvm.Cond.laysStatic "LunchMarks$State" "STANDS" "LLunchMarks$State;") ∈ lw_tbl := lw_at lw_m4 108 rfl
theorem q1289 : (Jvm.Cond.castable "LunchMarks$State" "java/lang/Object") ∈ lw_tbl := lw_at lw_m6 48 rfl
/-! words.java_lang_System -/
theorem q57 : (Jvm.Cond.initialized "java/lang/System") ∈ lw_all := lw_g (lw_at lw_m1 16 rfl) rfl
theorem q215 : (Jvm.Cond.static ({ cls := "java/lang/System", name := "arraycopy", desc := "(Ljava/lang/Object;ILjava/lang/Object;II)V" } : Jvm.MethodName)) ∈ lw_all := lw_g (lw_at lw_m1 174 rfl) rfl
theorem q216 : (Jvm.Cond.native ({ cls := "java/lang/System", name := "arraycopy", desc := "(Ljava/lang/Object;ILjava/lang/Object;II)V" } : Jvm.MethodName)) ∈ lw_all := lw_g (lw_at lw_m1 175 rfl) rfl
/-! words._Ljava_lang_Object_ -/
theorem q1293 : (Jvm.Cond.sameMethod "[Ljava/lang/Object;" "java/lang/Object" "getClass" "()Ljava/lang/Class;") ∈ lw_all := lw_g (lw_at lw_m6 52 rfl) rfl
theorem q1294 : (Jvm.Cond.selects "[Ljava/lang/Object;" ({ cls := "java/lang/Object", name := "getClass", desc := "()Ljava/lang/Class;" } : Jvm.MethodName) ({ cls := "java/lang/Object", name := "getClass", desc := "()Ljava/lang/Class;" } : Jvm.MethodName)) ∈ lw_all := lw_g (lw_at lw_m6 53 rfl) rfl
theorem q1296 : (Jvm.Cond.castable "[Ljava/lang/Object;" "java/lang/Object") ∈ lw_tbl := lw_at lw_m6 55 rfl
/-! words._B -/
theorem q205 : (Jvm.Cond.sameMethod "[B" "java/lang/Object" "clone" "()Ljava/lang/Object;") ∈ lw_all := lw_g (lw_at lw_m1 164 rfl) rfl
theorem q208 : (Jvm.Cond.selects "[B" ({ cls := "[B", name := "clone", desc := "()Ljava/lang/Object;" } : Jvm.MethodName) ({ cls := "java/lang/Object", name := "clone", desc := "()Ljava/lang/Object;" } : Jvm.MethodName)) ∈ lw_all := lw_g (lw_at lw_m1 167 rfl) rfl
theorem q209 : (Jvm.Cond.castable "[B" "java/lang/Cloneable") ∈ lw_tbl := lw_at lw_m1 168 rfl
theorem q1297 : (Jvm.Cond.castable "[B" "java/lang/Object") ∈ lw_tbl := lw_at lw_m6 56 rfl
/-! words._I -/
theorem q1298 : (Jvm.Cond.castable "[I" "java/lang/Object") ∈ lw_tbl := lw_at lw_m6 57 rfl
/-! words.java_lang_Integer_IntegerCache -/
theorem q73 : (Jvm.Cond.initialized "java/lang/Integer$IntegerCache") ∈ lw_all := lw_g (lw_at lw_m1 32 rfl) rfl
theorem q751 : (Jvm.Cond.laysStatic "java/lang/Integer$IntegerCache" "high" "I") ∈ lw_tbl := lw_at lw_m3 230 rfl
theorem q753 : (Jvm.Cond.laysStatic "java/lang/Integer$IntegerCache" "cache" "[Ljava/lang/Integer;") ∈ lw_tbl := lw_at lw_m3 232 rfl
/-! words.java_lang_Enum -/
theorem q70 : (Jvm.Cond.initialized "java/lang/Enum") ∈ lw_all := lw_g (lw_at lw_m1 29 rfl) rfl
/-! words._J -/
theorem q1300 : (Jvm.Cond.castable "[J" "java/lang/Object") ∈ lw_tbl := lw_at lw_m6 59 rfl
