/-! the methods; what the soundness rows stand on (by gen3.py) -/
set_option maxRecDepth 100000
def mt0 : MT := (⟨"", "", ""⟩, ByteArray.empty, 0, none, none, 0)
def mt_0 : Nat → MT := fun m => cond (Nat.ble 500 m) (cond (Nat.beq m 500) ((⟨"LimbBenchesLaw", "law", "([I)Z"⟩ : MethodName), cL_law, 7, (some .boolean), none, 26) mt0) (cond (Nat.beq m 499) (yJ24_getUTF16Char, cJ24_getUTF16Char, 3, (Option.some Jvm.ClassFile.FieldType.char), none, 10) mt0)
def mt_1 : Nat → MT := fun m => cond (Nat.ble 498 m) (cond (Nat.beq m 498) (yJ23_init, cJ23_init, 1, none, none, 8) mt0) (cond (Nat.beq m 497) (yX29_init, cX29_init, 4, none, none, 8) mt0)
def mt_2 : Nat → MT := fun m => cond (Nat.ble 499 m) (mt_0 m) (mt_1 m)
def mt_3 : Nat → MT := fun m => cond (Nat.ble 496 m) (cond (Nat.beq m 496) (yX28_init, cX28_init, 3, none, none, 8) mt0) (cond (Nat.beq m 495) (yX27_init, cX27_init, 3, none, none, 8) mt0)
def mt_4 : Nat → MT := fun m => cond (Nat.ble 494 m) (cond (Nat.beq m 494) (yX26_init, cX26_init, 4, none, none, 8) mt0) (cond (Nat.beq m 493) (yX25_ended, cX25_ended, 1, (Option.some (Jvm.ClassFile.FieldType.object "LimbBenches$Ordered")), none, 9) mt0)
def mt_5 : Nat → MT := fun m => cond (Nat.ble 495 m) (mt_3 m) (mt_4 m)
def mt_6 : Nat → MT := fun m => cond (Nat.ble 497 m) (mt_2 m) (mt_5 m)
def mt_7 : Nat → MT := fun m => cond (Nat.ble 492 m) (cond (Nat.beq m 492) (yX25_init, cX25_init, 5, none, none, 8) mt0) (cond (Nat.beq m 491) (yX24_late, cX24_late, 2, none, none, 8) mt0)
def mt_8 : Nat → MT := fun m => cond (Nat.ble 490 m) (cond (Nat.beq m 490) (yX24_init, cX24_init, 2, none, none, 8) mt0) (cond (Nat.beq m 489) (yX24_like, cX24_like, 2, (Option.some (Jvm.ClassFile.FieldType.object "LimbBenches$Maker")), none, 9) mt0)
def mt_9 : Nat → MT := fun m => cond (Nat.ble 491 m) (mt_7 m) (mt_8 m)
def mt_10 : Nat → MT := fun m => cond (Nat.ble 488 m) (cond (Nat.beq m 488) (yX23_init, cX23_init, 5, none, none, 8) mt0) (cond (Nat.beq m 487) (yX22_init, cX22_init, 4, none, none, 8) mt0)
def mt_11 : Nat → MT := fun m => cond (Nat.ble 486 m) (cond (Nat.beq m 486) (yX21_init, cX21_init, 7, none, none, 8) mt0) (cond (Nat.beq m 485) (yJ22_init, cJ22_init, 2, none, none, 12) mt0)
def mt_12 : Nat → MT := fun m => cond (Nat.ble 487 m) (mt_10 m) (mt_11 m)
def mt_13 : Nat → MT := fun m => cond (Nat.ble 489 m) (mt_9 m) (mt_12 m)
def mt_14 : Nat → MT := fun m => cond (Nat.ble 493 m) (mt_6 m) (mt_13 m)
def mt_15 : Nat → MT := fun m => cond (Nat.ble 484 m) (cond (Nat.beq m 484) (yJ21_init_2, cJ21_init_2, 1, none, none, 11) mt0) (cond (Nat.beq m 483) (yJ21_init, cJ21_init, 2, none, none, 11) mt0)
def mt_16 : Nat → MT := fun m => cond (Nat.ble 482 m) (cond (Nat.beq m 482) (yJ20_init, cJ20_init, 1, none, none, 11) mt0) (cond (Nat.beq m 481) (yX20_size, cX20_size, 2, (Option.some Jvm.ClassFile.FieldType.int), none, 8) mt0)
def mt_17 : Nat → MT := fun m => cond (Nat.ble 483 m) (mt_15 m) (mt_16 m)
def mt_18 : Nat → MT := fun m => cond (Nat.ble 480 m) (cond (Nat.beq m 480) (yX20_init, cX20_init, 8, none, none, 8) mt0) (cond (Nat.beq m 479) (yX20_like, cX20_like, 3, (Option.some (Jvm.ClassFile.FieldType.object "LimbBenches$Person")), none, 9) mt0)
def mt_19 : Nat → MT := fun m => cond (Nat.ble 478 m) (cond (Nat.beq m 478) (yX20_worn_2, cX20_worn_2, 4, (Option.some Jvm.ClassFile.FieldType.int), none, 8) mt0) (cond (Nat.beq m 477) (yX20_pace, cX20_pace, 1, (Option.some Jvm.ClassFile.FieldType.int), none, 8) mt0)
def mt_20 : Nat → MT := fun m => cond (Nat.ble 479 m) (mt_18 m) (mt_19 m)
def mt_21 : Nat → MT := fun m => cond (Nat.ble 481 m) (mt_17 m) (mt_20 m)
def mt_22 : Nat → MT := fun m => cond (Nat.ble 476 m) (cond (Nat.beq m 476) (yX20_worn, cX20_worn, 3, (Option.some Jvm.ClassFile.FieldType.int), none, 9) mt0) (cond (Nat.beq m 475) (yJ19_init, cJ19_init, 1, none, none, 11) mt0)
def mt_23 : Nat → MT := fun m => cond (Nat.ble 474 m) (cond (Nat.beq m 474) (yX19_init, cX19_init, 7, none, none, 8) mt0) (cond (Nat.beq m 473) (yJ18_checkIndex, cJ18_checkIndex, 2, (Option.some Jvm.ClassFile.FieldType.int), none, 9) mt0)
def mt_24 : Nat → MT := fun m => cond (Nat.ble 475 m) (mt_22 m) (mt_23 m)
def mt_25 : Nat → MT := fun m => cond (Nat.ble 472 m) (cond (Nat.beq m 472) (yX18_init, cX18_init, 4, none, none, 9) mt0) (cond (Nat.beq m 471) (yX18_holds, cX18_holds, 4, (Option.some Jvm.ClassFile.FieldType.boolean), none, 11) mt0)
def mt_26 : Nat → MT := fun m => cond (Nat.ble 470 m) (cond (Nat.beq m 470) (yX17_init, cX17_init, 4, none, none, 9) mt0) (cond (Nat.beq m 469) (yX17_holds, cX17_holds, 4, (Option.some Jvm.ClassFile.FieldType.boolean), none, 10) mt0)
def mt_27 : Nat → MT := fun m => cond (Nat.ble 471 m) (mt_25 m) (mt_26 m)
def mt_28 : Nat → MT := fun m => cond (Nat.ble 473 m) (mt_24 m) (mt_27 m)
def mt_29 : Nat → MT := fun m => cond (Nat.ble 477 m) (mt_21 m) (mt_28 m)
def mt_30 : Nat → MT := fun m => cond (Nat.ble 485 m) (mt_14 m) (mt_29 m)
def mt_31 : Nat → MT := fun m => cond (Nat.ble 468 m) (cond (Nat.beq m 468) (yX16_init, cX16_init, 2, none, none, 9) mt0) (cond (Nat.beq m 467) (yX16_holds, cX16_holds, 2, (Option.some Jvm.ClassFile.FieldType.boolean), none, 11) mt0)
def mt_32 : Nat → MT := fun m => cond (Nat.ble 466 m) (cond (Nat.beq m 466) (yX15_init, cX15_init, 1, none, none, 8) mt0) (cond (Nat.beq m 465) (yX14_init, cX14_init, 2, none, none, 9) mt0)
def mt_33 : Nat → MT := fun m => cond (Nat.ble 467 m) (mt_31 m) (mt_32 m)
def mt_34 : Nat → MT := fun m => cond (Nat.ble 464 m) (cond (Nat.beq m 464) (yX14_needs, cX14_needs, 1, (Option.some Jvm.ClassFile.FieldType.int), none, 8) mt0) (cond (Nat.beq m 463) (yX13_init, cX13_init, 4, none, none, 9) mt0)
def mt_35 : Nat → MT := fun m => cond (Nat.ble 462 m) (cond (Nat.beq m 462) (yX13_recalls, cX13_recalls, 3, (Option.some Jvm.ClassFile.FieldType.boolean), none, 13) mt0) (cond (Nat.beq m 461) (yX12_init, cX12_init, 2, none, none, 8) mt0)
def mt_36 : Nat → MT := fun m => cond (Nat.ble 463 m) (mt_34 m) (mt_35 m)
def mt_37 : Nat → MT := fun m => cond (Nat.ble 465 m) (mt_33 m) (mt_36 m)
def mt_38 : Nat → MT := fun m => cond (Nat.ble 460 m) (cond (Nat.beq m 460) (yX12_of, cX12_of, 2, (Option.some Jvm.ClassFile.FieldType.int), none, 8) mt0) (cond (Nat.beq m 459) (yX11_init, cX11_init, 4, none, none, 8) mt0)
def mt_39 : Nat → MT := fun m => cond (Nat.ble 458 m) (cond (Nat.beq m 458) (yX11_of, cX11_of, 4, (Option.some Jvm.ClassFile.FieldType.int), none, 9) mt0) (cond (Nat.beq m 457) (yX10_init, cX10_init, 2, none, none, 8) mt0)
def mt_40 : Nat → MT := fun m => cond (Nat.ble 459 m) (mt_38 m) (mt_39 m)
def mt_41 : Nat → MT := fun m => cond (Nat.ble 456 m) (cond (Nat.beq m 456) (yX10_of, cX10_of, 2, (Option.some Jvm.ClassFile.FieldType.int), none, 8) mt0) (cond (Nat.beq m 455) (yX9_init, cX9_init, 4, none, none, 9) mt0)
def mt_42 : Nat → MT := fun m => cond (Nat.ble 454 m) (cond (Nat.beq m 454) (yX9_value, cX9_value, 2, (Option.some Jvm.ClassFile.FieldType.int), none, 10) mt0) (cond (Nat.beq m 453) (yX9_tells, cX9_tells, 3, (Option.some Jvm.ClassFile.FieldType.boolean), none, 8) mt0)
def mt_43 : Nat → MT := fun m => cond (Nat.ble 455 m) (mt_41 m) (mt_42 m)
def mt_44 : Nat → MT := fun m => cond (Nat.ble 457 m) (mt_40 m) (mt_43 m)
def mt_45 : Nat → MT := fun m => cond (Nat.ble 461 m) (mt_37 m) (mt_44 m)
def mt_46 : Nat → MT := fun m => cond (Nat.ble 452 m) (cond (Nat.beq m 452) (yX8_bars, cX8_bars, 4, (Option.some Jvm.ClassFile.FieldType.boolean), none, 13) mt0) (cond (Nat.beq m 451) (yX8_init, cX8_init, 3, none, none, 9) mt0)
def mt_47 : Nat → MT := fun m => cond (Nat.ble 450 m) (cond (Nat.beq m 450) (yX7_bars, cX7_bars, 4, (Option.some Jvm.ClassFile.FieldType.boolean), none, 8) mt0) (cond (Nat.beq m 449) (yX7_init, cX7_init, 1, none, none, 8) mt0)
def mt_48 : Nat → MT := fun m => cond (Nat.ble 451 m) (mt_46 m) (mt_47 m)
def mt_49 : Nat → MT := fun m => cond (Nat.ble 448 m) (cond (Nat.beq m 448) (yX7_recalls, cX7_recalls, 3, (Option.some Jvm.ClassFile.FieldType.boolean), none, 8) mt0) (cond (Nat.beq m 447) (yX7_needs, cX7_needs, 1, (Option.some Jvm.ClassFile.FieldType.int), none, 8) mt0)
def mt_50 : Nat → MT := fun m => cond (Nat.ble 446 m) (cond (Nat.beq m 446) (yX7_value, cX7_value, 2, (Option.some Jvm.ClassFile.FieldType.int), none, 8) mt0) (cond (Nat.beq m 445) (yX7_holds, cX7_holds, 2, (Option.some Jvm.ClassFile.FieldType.boolean), none, 12) mt0)
def mt_51 : Nat → MT := fun m => cond (Nat.ble 447 m) (mt_49 m) (mt_50 m)
def mt_52 : Nat → MT := fun m => cond (Nat.ble 449 m) (mt_48 m) (mt_51 m)
def mt_53 : Nat → MT := fun m => cond (Nat.ble 444 m) (cond (Nat.beq m 444) (yX7_tells, cX7_tells, 3, (Option.some Jvm.ClassFile.FieldType.boolean), none, 8) mt0) (cond (Nat.beq m 443) (yX6_init, cX6_init, 3, none, none, 10) mt0)
def mt_54 : Nat → MT := fun m => cond (Nat.ble 442 m) (cond (Nat.beq m 442) (yX5_one, cX5_one, 3, (Option.some (Jvm.ClassFile.FieldType.object "LimbBenches$Cond")), none, 22) mt0) (cond (Nat.beq m 441) (yX5_all, cX5_all, 2, (Option.some (Jvm.ClassFile.FieldType.object "LimbBenches$Cond")), none, 22) mt0)
def mt_55 : Nat → MT := fun m => cond (Nat.ble 443 m) (mt_53 m) (mt_54 m)
def mt_56 : Nat → MT := fun m => cond (Nat.ble 440 m) (cond (Nat.beq m 440) (yX5_cond, cX5_cond, 2, (Option.some (Jvm.ClassFile.FieldType.object "LimbBenches$Cond")), none, 22) mt0) (cond (Nat.beq m 439) (yX5_takes, cX5_takes, 2, (Option.some Jvm.ClassFile.FieldType.boolean), none, 20) mt0)
def mt_57 : Nat → MT := fun m => cond (Nat.beq m 438) (yX5_nameOf, cX5_nameOf, 3, (Option.some Jvm.ClassFile.FieldType.int), none, 20) mt0
def mt_58 : Nat → MT := fun m => cond (Nat.ble 439 m) (mt_56 m) (mt_57 m)
def mt_59 : Nat → MT := fun m => cond (Nat.ble 441 m) (mt_55 m) (mt_58 m)
def mt_60 : Nat → MT := fun m => cond (Nat.ble 445 m) (mt_52 m) (mt_59 m)
def mt_61 : Nat → MT := fun m => cond (Nat.ble 453 m) (mt_45 m) (mt_60 m)
def mt_62 : Nat → MT := fun m => cond (Nat.ble 469 m) (mt_30 m) (mt_61 m)
def mt_63 : Nat → MT := fun m => cond (Nat.ble 437 m) (cond (Nat.beq m 437) (yX5_need, cX5_need, 2, none, none, 12) mt0) (cond (Nat.beq m 436) (yX5_closes, cX5_closes, 2, none, none, 13) mt0)
def mt_64 : Nat → MT := fun m => cond (Nat.ble 435 m) (cond (Nat.beq m 435) (yX5_opens_2, cX5_opens_2, 2, none, none, 11) mt0) (cond (Nat.beq m 434) (yX5_opens, cX5_opens, 1, none, none, 12) mt0)
def mt_65 : Nat → MT := fun m => cond (Nat.ble 436 m) (mt_63 m) (mt_64 m)
def mt_66 : Nat → MT := fun m => cond (Nat.ble 433 m) (cond (Nat.beq m 433) (yX5_unit, cX5_unit, 4, (Option.some (Jvm.ClassFile.FieldType.object "LimbBenches$Expr")), none, 21) mt0) (cond (Nat.beq m 432) (yX5_product, cX5_product, 3, (Option.some (Jvm.ClassFile.FieldType.object "LimbBenches$Expr")), none, 21) mt0)
def mt_67 : Nat → MT := fun m => cond (Nat.ble 431 m) (cond (Nat.beq m 431) (yX5_expr, cX5_expr, 3, (Option.some (Jvm.ClassFile.FieldType.object "LimbBenches$Expr")), none, 21) mt0) (cond (Nat.beq m 430) (yX5_isDigit, cX5_isDigit, 2, (Option.some Jvm.ClassFile.FieldType.boolean), none, 9) mt0)
def mt_68 : Nat → MT := fun m => cond (Nat.ble 432 m) (mt_66 m) (mt_67 m)
def mt_69 : Nat → MT := fun m => cond (Nat.ble 434 m) (mt_65 m) (mt_68 m)
def mt_70 : Nat → MT := fun m => cond (Nat.ble 429 m) (cond (Nat.beq m 429) (yX5_number, cX5_number, 5, (Option.some Jvm.ClassFile.FieldType.int), none, 12) mt0) (cond (Nat.beq m 428) (yX5_wrong, cX5_wrong, 1, (Option.some (Jvm.ClassFile.FieldType.object "LimbBenches$Wrong")), none, 11) mt0)
def mt_71 : Nat → MT := fun m => cond (Nat.ble 427 m) (cond (Nat.beq m 427) (yX5_word, cX5_word, 3, (Option.some (Jvm.ClassFile.FieldType.object "java/lang/String")), none, 19) mt0) (cond (Nat.beq m 426) (yX5_clause, cX5_clause, 8, (Option.some (Jvm.ClassFile.FieldType.object "LimbBenches$Clause")), none, 22) mt0)
def mt_72 : Nat → MT := fun m => cond (Nat.ble 428 m) (mt_70 m) (mt_71 m)
def mt_73 : Nat → MT := fun m => cond (Nat.ble 425 m) (cond (Nat.beq m 425) (yX5_sign, cX5_sign, 1, (Option.some Jvm.ClassFile.FieldType.int), none, 8) mt0) (cond (Nat.beq m 424) (yX5_reads, cX5_reads, 3, (Option.some (Jvm.ClassFile.FieldType.object "java/util/ArrayList")), none, 23) mt0)
def mt_74 : Nat → MT := fun m => cond (Nat.ble 423 m) (cond (Nat.beq m 423) (yX5_init, cX5_init, 3, none, none, 8) mt0) (cond (Nat.beq m 422) (yX4_init, cX4_init, 3, none, none, 8) mt0)
def mt_75 : Nat → MT := fun m => cond (Nat.ble 424 m) (mt_73 m) (mt_74 m)
def mt_76 : Nat → MT := fun m => cond (Nat.ble 426 m) (mt_72 m) (mt_75 m)
def mt_77 : Nat → MT := fun m => cond (Nat.ble 430 m) (mt_69 m) (mt_76 m)
def mt_78 : Nat → MT := fun m => cond (Nat.ble 421 m) (cond (Nat.beq m 421) (yX3_ones, cX3_ones, 3, (Option.some Jvm.ClassFile.FieldType.int), none, 8) mt0) (cond (Nat.beq m 420) (yX3_count, cX3_count, 2, (Option.some Jvm.ClassFile.FieldType.int), none, 9) mt0)
def mt_79 : Nat → MT := fun m => cond (Nat.ble 419 m) (cond (Nat.beq m 419) (yX3_restore, cX3_restore, 1, (Option.some Jvm.ClassFile.FieldType.int), none, 12) mt0) (cond (Nat.beq m 418) (yX3_movesRows, cX3_movesRows, 5, none, none, 10) mt0)
def mt_80 : Nat → MT := fun m => cond (Nat.ble 420 m) (mt_78 m) (mt_79 m)
def mt_81 : Nat → MT := fun m => cond (Nat.ble 417 m) (cond (Nat.beq m 417) (yX3_movesRow, cX3_movesRow, 5, none, none, 9) mt0) (cond (Nat.beq m 416) (yX3_moves, cX3_moves, 4, (Option.some Jvm.ClassFile.FieldType.int), none, 8) mt0)
def mt_82 : Nat → MT := fun m => cond (Nat.ble 415 m) (cond (Nat.beq m 415) (yX3_movesAll, cX3_movesAll, 3, none, none, 11) mt0) (cond (Nat.beq m 414) (yX3_image, cX3_image, 1, (Option.some Jvm.ClassFile.FieldType.int), none, 12) mt0)
def mt_83 : Nat → MT := fun m => cond (Nat.ble 416 m) (mt_81 m) (mt_82 m)
def mt_84 : Nat → MT := fun m => cond (Nat.ble 418 m) (mt_80 m) (mt_83 m)
def mt_85 : Nat → MT := fun m => cond (Nat.ble 413 m) (cond (Nat.beq m 413) (yX3_spent, cX3_spent, 5, (Option.some Jvm.ClassFile.FieldType.int), none, 10) mt0) (cond (Nat.beq m 412) (yX3_changed, cX3_changed, 10, (Option.some Jvm.ClassFile.FieldType.int), none, 10) mt0)
def mt_86 : Nat → MT := fun m => cond (Nat.ble 411 m) (cond (Nat.beq m 411) (yX3_walk, cX3_walk, 4, (Option.some Jvm.ClassFile.FieldType.int), none, 10) mt0) (cond (Nat.beq m 410) (yX3_look, cX3_look, 7, (Option.some Jvm.ClassFile.FieldType.int), none, 9) mt0)
def mt_87 : Nat → MT := fun m => cond (Nat.ble 412 m) (mt_85 m) (mt_86 m)
def mt_88 : Nat → MT := fun m => cond (Nat.ble 409 m) (cond (Nat.beq m 409) (yX3_sure, cX3_sure, 3, (Option.some Jvm.ClassFile.FieldType.int), none, 10) mt0) (cond (Nat.beq m 408) (yX3_isOpen, cX3_isOpen, 2, (Option.some Jvm.ClassFile.FieldType.boolean), none, 8) mt0)
def mt_89 : Nat → MT := fun m => cond (Nat.ble 407 m) (cond (Nat.beq m 407) (yX3_opens, cX3_opens, 3, (Option.some Jvm.ClassFile.FieldType.int), none, 9) mt0) (cond (Nat.beq m 406) (yX3_see, cX3_see, 3, (Option.some Jvm.ClassFile.FieldType.int), none, 10) mt0)
def mt_90 : Nat → MT := fun m => cond (Nat.ble 408 m) (mt_88 m) (mt_89 m)
def mt_91 : Nat → MT := fun m => cond (Nat.ble 410 m) (mt_87 m) (mt_90 m)
def mt_92 : Nat → MT := fun m => cond (Nat.ble 414 m) (mt_84 m) (mt_91 m)
def mt_93 : Nat → MT := fun m => cond (Nat.ble 422 m) (mt_77 m) (mt_92 m)
def mt_94 : Nat → MT := fun m => cond (Nat.ble 405 m) (cond (Nat.beq m 405) (yX3_cause, cX3_cause, 3, (Option.some Jvm.ClassFile.FieldType.int), none, 9) mt0) (cond (Nat.beq m 404) (yX3_anew, cX3_anew, 2, (Option.some Jvm.ClassFile.FieldType.int), none, 8) mt0)
def mt_95 : Nat → MT := fun m => cond (Nat.ble 403 m) (cond (Nat.beq m 403) (yX3_ways, cX3_ways, 3, (Option.some Jvm.ClassFile.FieldType.int), none, 9) mt0) (cond (Nat.beq m 402) (yX3_gainBy, cX3_gainBy, 4, (Option.some Jvm.ClassFile.FieldType.int), none, 8) mt0)
def mt_96 : Nat → MT := fun m => cond (Nat.ble 404 m) (mt_94 m) (mt_95 m)
def mt_97 : Nat → MT := fun m => cond (Nat.ble 401 m) (cond (Nat.beq m 401) (yX3_gain, cX3_gain, 1, (Option.some Jvm.ClassFile.FieldType.int), none, 9) mt0) (cond (Nat.beq m 400) (yX3_trial, cX3_trial, 3, (Option.some Jvm.ClassFile.FieldType.int), none, 9) mt0)
def mt_98 : Nat → MT := fun m => cond (Nat.ble 399 m) (cond (Nat.beq m 399) (yX3_better, cX3_better, 6, (Option.some Jvm.ClassFile.FieldType.int), none, 10) mt0) (cond (Nat.beq m 398) (yX3_skillOf, cX3_skillOf, 8, (Option.some Jvm.ClassFile.FieldType.int), none, 8) mt0)
def mt_99 : Nat → MT := fun m => cond (Nat.ble 400 m) (mt_97 m) (mt_98 m)
def mt_100 : Nat → MT := fun m => cond (Nat.ble 402 m) (mt_96 m) (mt_99 m)
def mt_101 : Nat → MT := fun m => cond (Nat.ble 397 m) (cond (Nat.beq m 397) (yX3_skill, cX3_skill, 4, (Option.some Jvm.ClassFile.FieldType.int), none, 10) mt0) (cond (Nat.beq m 396) (yX3_blister, cX3_blister, 4, (Option.some Jvm.ClassFile.FieldType.int), none, 10) mt0)
def mt_102 : Nat → MT := fun m => cond (Nat.ble 395 m) (cond (Nat.beq m 395) (yX3_isFitter, cX3_isFitter, 1, (Option.some Jvm.ClassFile.FieldType.boolean), none, 9) mt0) (cond (Nat.beq m 394) (yX3_fitter, cX3_fitter, 3, (Option.some Jvm.ClassFile.FieldType.int), none, 10) mt0)
def mt_103 : Nat → MT := fun m => cond (Nat.ble 396 m) (mt_101 m) (mt_102 m)
def mt_104 : Nat → MT := fun m => cond (Nat.ble 393 m) (cond (Nat.beq m 393) (yX3_chance, cX3_chance, 8, (Option.some Jvm.ClassFile.FieldType.int), none, 10) mt0) (cond (Nat.beq m 392) (yX3_nextWith, cX3_nextWith, 6, (Option.some Jvm.ClassFile.FieldType.int), none, 9) mt0)
def mt_105 : Nat → MT := fun m => cond (Nat.ble 391 m) (cond (Nat.beq m 391) (yX3_nextBy, cX3_nextBy, 4, (Option.some Jvm.ClassFile.FieldType.int), none, 11) mt0) (cond (Nat.beq m 390) (yX3_growthBy, cX3_growthBy, 7, (Option.some Jvm.ClassFile.FieldType.int), none, 10) mt0)
def mt_106 : Nat → MT := fun m => cond (Nat.ble 392 m) (mt_104 m) (mt_105 m)
def mt_107 : Nat → MT := fun m => cond (Nat.ble 394 m) (mt_103 m) (mt_106 m)
def mt_108 : Nat → MT := fun m => cond (Nat.ble 398 m) (mt_100 m) (mt_107 m)
def mt_109 : Nat → MT := fun m => cond (Nat.ble 389 m) (cond (Nat.beq m 389) (yX3_growthOf, cX3_growthOf, 8, (Option.some Jvm.ClassFile.FieldType.int), none, 8) mt0) (cond (Nat.beq m 388) (yX3_growths, cX3_growths, 2, (Option.some Jvm.ClassFile.FieldType.int), none, 9) mt0)
def mt_110 : Nat → MT := fun m => cond (Nat.ble 387 m) (cond (Nat.beq m 387) (yX3_growth, cX3_growth, 3, (Option.some Jvm.ClassFile.FieldType.int), none, 11) mt0) (cond (Nat.beq m 386) (yX3_latest, cX3_latest, 4, (Option.some Jvm.ClassFile.FieldType.int), none, 8) mt0)
def mt_111 : Nat → MT := fun m => cond (Nat.ble 388 m) (mt_109 m) (mt_110 m)
def mt_112 : Nat → MT := fun m => cond (Nat.ble 385 m) (cond (Nat.beq m 385) (yX3_measure, cX3_measure, 5, (Option.some Jvm.ClassFile.FieldType.int), none, 10) mt0) (cond (Nat.beq m 384) (yX3_seen, cX3_seen, 6, (Option.some Jvm.ClassFile.FieldType.int), none, 20) mt0)
def mt_113 : Nat → MT := fun m => cond (Nat.ble 383 m) (cond (Nat.beq m 383) (yX3_called, cX3_called, 6, (Option.some Jvm.ClassFile.FieldType.int), none, 19) mt0) (cond (Nat.beq m 382) (yX3_recalled, cX3_recalled, 3, (Option.some Jvm.ClassFile.FieldType.int), none, 20) mt0)
def mt_114 : Nat → MT := fun m => cond (Nat.ble 384 m) (mt_112 m) (mt_113 m)
def mt_115 : Nat → MT := fun m => cond (Nat.ble 386 m) (mt_111 m) (mt_114 m)
def mt_116 : Nat → MT := fun m => cond (Nat.ble 381 m) (cond (Nat.beq m 381) (yX3_recall, cX3_recall, 7, (Option.some Jvm.ClassFile.FieldType.int), none, 10) mt0) (cond (Nat.beq m 380) (yX3_lending, cX3_lending, 1, (Option.some Jvm.ClassFile.FieldType.int), none, 10) mt0)
def mt_117 : Nat → MT := fun m => cond (Nat.ble 379 m) (cond (Nat.beq m 379) (yX3_worthTo, cX3_worthTo, 3, (Option.some Jvm.ClassFile.FieldType.int), none, 8) mt0) (cond (Nat.beq m 378) (yX3_findLoans, cX3_findLoans, 5, none, none, 9) mt0)
def mt_118 : Nat → MT := fun m => cond (Nat.ble 380 m) (mt_116 m) (mt_117 m)
def mt_119 : Nat → MT := fun m => cond (Nat.ble 377 m) (cond (Nat.beq m 377) (yX3_lent, cX3_lent, 6, (Option.some Jvm.ClassFile.FieldType.int), none, 10) mt0) (cond (Nat.beq m 376) (yX3_spare, cX3_spare, 2, (Option.some Jvm.ClassFile.FieldType.int), none, 10) mt0)
def mt_120 : Nat → MT := fun m => cond (Nat.beq m 375) (yX3_stock, cX3_stock, 2, (Option.some Jvm.ClassFile.FieldType.int), none, 10) mt0
def mt_121 : Nat → MT := fun m => cond (Nat.ble 376 m) (mt_119 m) (mt_120 m)
def mt_122 : Nat → MT := fun m => cond (Nat.ble 378 m) (mt_118 m) (mt_121 m)
def mt_123 : Nat → MT := fun m => cond (Nat.ble 382 m) (mt_115 m) (mt_122 m)
def mt_124 : Nat → MT := fun m => cond (Nat.ble 390 m) (mt_108 m) (mt_123 m)
def mt_125 : Nat → MT := fun m => cond (Nat.ble 406 m) (mt_93 m) (mt_124 m)
def mt_126 : Nat → MT := fun m => cond (Nat.ble 438 m) (mt_62 m) (mt_125 m)
def mt_127 : Nat → MT := fun m => cond (Nat.ble 374 m) (cond (Nat.beq m 374) (yX3_late, cX3_late, 5, (Option.some Jvm.ClassFile.FieldType.int), none, 10) mt0) (cond (Nat.beq m 373) (yX3_lateness, cX3_lateness, 6, (Option.some Jvm.ClassFile.FieldType.int), none, 8) mt0)
def mt_128 : Nat → MT := fun m => cond (Nat.ble 372 m) (cond (Nat.beq m 372) (yX3_forecast, cX3_forecast, 3, (Option.some Jvm.ClassFile.FieldType.int), none, 10) mt0) (cond (Nat.beq m 371) (yX3_lose, cX3_lose, 2, (Option.some Jvm.ClassFile.FieldType.int), none, 10) mt0)
def mt_129 : Nat → MT := fun m => cond (Nat.ble 373 m) (mt_127 m) (mt_128 m)
def mt_130 : Nat → MT := fun m => cond (Nat.ble 370 m) (cond (Nat.beq m 370) (yX3_isThing, cX3_isThing, 2, (Option.some Jvm.ClassFile.FieldType.boolean), none, 9) mt0) (cond (Nat.beq m 369) (yX3_arrive, cX3_arrive, 2, (Option.some Jvm.ClassFile.FieldType.int), none, 10) mt0)
def mt_131 : Nat → MT := fun m => cond (Nat.ble 368 m) (cond (Nat.beq m 368) (yX3_isMaker, cX3_isMaker, 2, (Option.some Jvm.ClassFile.FieldType.boolean), none, 9) mt0) (cond (Nat.beq m 367) (yX3_order, cX3_order, 3, (Option.some Jvm.ClassFile.FieldType.int), none, 10) mt0)
def mt_132 : Nat → MT := fun m => cond (Nat.ble 369 m) (mt_130 m) (mt_131 m)
def mt_133 : Nat → MT := fun m => cond (Nat.ble 371 m) (mt_129 m) (mt_132 m)
def mt_134 : Nat → MT := fun m => cond (Nat.ble 366 m) (cond (Nat.beq m 366) (yX3_maker, cX3_maker, 2, (Option.some Jvm.ClassFile.FieldType.int), none, 9) mt0) (cond (Nat.beq m 365) (yX3_done, cX3_done, 2, (Option.some Jvm.ClassFile.FieldType.int), none, 12) mt0)
def mt_135 : Nat → MT := fun m => cond (Nat.ble 364 m) (cond (Nat.beq m 364) (yX3_isJob, cX3_isJob, 2, (Option.some Jvm.ClassFile.FieldType.boolean), none, 9) mt0) (cond (Nat.beq m 363) (yX3_delay, cX3_delay, 4, (Option.some Jvm.ClassFile.FieldType.int), none, 12) mt0)
def mt_136 : Nat → MT := fun m => cond (Nat.ble 365 m) (mt_134 m) (mt_135 m)
def mt_137 : Nat → MT := fun m => cond (Nat.ble 362 m) (cond (Nat.beq m 362) (yX3_orders, cX3_orders, 5, none, none, 10) mt0) (cond (Nat.beq m 361) (yX3_findBest, cX3_findBest, 1, none, none, 11) mt0)
def mt_138 : Nat → MT := fun m => cond (Nat.ble 360 m) (cond (Nat.beq m 360) (yX3_best, cX3_best, 3, (Option.some Jvm.ClassFile.FieldType.int), none, 12) mt0) (cond (Nat.beq m 359) (yX3_runs, cX3_runs, 10, (Option.some Jvm.ClassFile.FieldType.int), none, 9) mt0)
def mt_139 : Nat → MT := fun m => cond (Nat.ble 361 m) (mt_137 m) (mt_138 m)
def mt_140 : Nat → MT := fun m => cond (Nat.ble 363 m) (mt_136 m) (mt_139 m)
def mt_141 : Nat → MT := fun m => cond (Nat.ble 367 m) (mt_133 m) (mt_140 m)
def mt_142 : Nat → MT := fun m => cond (Nat.ble 358 m) (cond (Nat.beq m 358) (yX3_cost, cX3_cost, 5, (Option.some Jvm.ClassFile.FieldType.int), none, 10) mt0) (cond (Nat.beq m 357) (yX3_benches, cX3_benches, 3, (Option.some Jvm.ClassFile.FieldType.int), none, 9) mt0)
def mt_143 : Nat → MT := fun m => cond (Nat.ble 356 m) (cond (Nat.beq m 356) (yX3_job, cX3_job, 5, (Option.some Jvm.ClassFile.FieldType.int), none, 10) mt0) (cond (Nat.beq m 355) (yX3_clause, cX3_clause, 3, (Option.some Jvm.ClassFile.FieldType.int), none, 19) mt0)
def mt_144 : Nat → MT := fun m => cond (Nat.ble 357 m) (mt_142 m) (mt_143 m)
def mt_145 : Nat → MT := fun m => cond (Nat.ble 354 m) (cond (Nat.beq m 354) (yX3_choose, cX3_choose, 3, (Option.some Jvm.ClassFile.FieldType.int), none, 20) mt0) (cond (Nat.beq m 353) (yX3_chooses, cX3_chooses, 6, none, none, 8) mt0)
def mt_146 : Nat → MT := fun m => cond (Nat.ble 352 m) (cond (Nat.beq m 352) (yX3_findChoice, cX3_findChoice, 2, (Option.some Jvm.ClassFile.FieldType.boolean), none, 19) mt0) (cond (Nat.beq m 351) (yX3_choice, cX3_choice, 3, (Option.some Jvm.ClassFile.FieldType.int), none, 20) mt0)
def mt_147 : Nat → MT := fun m => cond (Nat.ble 353 m) (mt_145 m) (mt_146 m)
def mt_148 : Nat → MT := fun m => cond (Nat.ble 355 m) (mt_144 m) (mt_147 m)
def mt_149 : Nat → MT := fun m => cond (Nat.ble 350 m) (cond (Nat.beq m 350) (yX3_served, cX3_served, 6, (Option.some Jvm.ClassFile.FieldType.int), none, 20) mt0) (cond (Nat.beq m 349) (yX3_longer, cX3_longer, 3, (Option.some Jvm.ClassFile.FieldType.int), none, 19) mt0)
def mt_150 : Nat → MT := fun m => cond (Nat.ble 348 m) (cond (Nat.beq m 348) (yX3_beyond, cX3_beyond, 3, (Option.some Jvm.ClassFile.FieldType.int), none, 20) mt0) (cond (Nat.beq m 347) (yX3_more, cX3_more, 2, (Option.some Jvm.ClassFile.FieldType.int), none, 8) mt0)
def mt_151 : Nat → MT := fun m => cond (Nat.ble 349 m) (mt_149 m) (mt_150 m)
def mt_152 : Nat → MT := fun m => cond (Nat.ble 346 m) (cond (Nat.beq m 346) (yX3_waited, cX3_waited, 5, (Option.some Jvm.ClassFile.FieldType.int), none, 9) mt0) (cond (Nat.beq m 345) (yX3_lacking, cX3_lacking, 4, (Option.some Jvm.ClassFile.FieldType.int), none, 9) mt0)
def mt_153 : Nat → MT := fun m => cond (Nat.ble 344 m) (cond (Nat.beq m 344) (yX3_lacks, cX3_lacks, 3, (Option.some Jvm.ClassFile.FieldType.int), none, 19) mt0) (cond (Nat.beq m 343) (yX3_isBeyond, cX3_isBeyond, 3, (Option.some Jvm.ClassFile.FieldType.boolean), none, 8) mt0)
def mt_154 : Nat → MT := fun m => cond (Nat.ble 345 m) (mt_152 m) (mt_153 m)
def mt_155 : Nat → MT := fun m => cond (Nat.ble 347 m) (mt_151 m) (mt_154 m)
def mt_156 : Nat → MT := fun m => cond (Nat.ble 351 m) (mt_148 m) (mt_155 m)
def mt_157 : Nat → MT := fun m => cond (Nat.ble 359 m) (mt_141 m) (mt_156 m)
def mt_158 : Nat → MT := fun m => cond (Nat.ble 342 m) (cond (Nat.beq m 342) (yX3_next, cX3_next, 4, (Option.some Jvm.ClassFile.FieldType.int), none, 10) mt0) (cond (Nat.beq m 341) (yX3_reuse, cX3_reuse, 7, (Option.some Jvm.ClassFile.FieldType.int), none, 20) mt0)
def mt_159 : Nat → MT := fun m => cond (Nat.ble 340 m) (cond (Nat.beq m 340) (yX3_fits, cX3_fits, 6, (Option.some Jvm.ClassFile.FieldType.int), none, 10) mt0) (cond (Nat.beq m 339) (yX3_beside, cX3_beside, 5, (Option.some Jvm.ClassFile.FieldType.int), none, 19) mt0)
def mt_160 : Nat → MT := fun m => cond (Nat.ble 341 m) (mt_158 m) (mt_159 m)
def mt_161 : Nat → MT := fun m => cond (Nat.ble 338 m) (cond (Nat.beq m 338) (yX3_dueBy, cX3_dueBy, 5, (Option.some Jvm.ClassFile.FieldType.int), none, 9) mt0) (cond (Nat.beq m 337) (yX3_wornBy, cX3_wornBy, 4, (Option.some Jvm.ClassFile.FieldType.int), none, 8) mt0)
def mt_162 : Nat → MT := fun m => cond (Nat.ble 336 m) (cond (Nat.beq m 336) (yX3_rate, cX3_rate, 2, (Option.some Jvm.ClassFile.FieldType.int), none, 8) mt0) (cond (Nat.beq m 335) (yX3_wornOf, cX3_wornOf, 3, (Option.some Jvm.ClassFile.FieldType.int), none, 9) mt0)
def mt_163 : Nat → MT := fun m => cond (Nat.ble 337 m) (mt_161 m) (mt_162 m)
def mt_164 : Nat → MT := fun m => cond (Nat.ble 339 m) (mt_160 m) (mt_163 m)
def mt_165 : Nat → MT := fun m => cond (Nat.ble 334 m) (cond (Nat.beq m 334) (yX3_part, cX3_part, 4, (Option.some Jvm.ClassFile.FieldType.int), none, 19) mt0) (cond (Nat.beq m 333) (yX3_take, cX3_take, 5, (Option.some Jvm.ClassFile.FieldType.int), none, 20) mt0)
def mt_166 : Nat → MT := fun m => cond (Nat.ble 332 m) (cond (Nat.beq m 332) (yX3_puts, cX3_puts, 6, none, none, 9) mt0) (cond (Nat.beq m 331) (yX3_fitsIt, cX3_fitsIt, 4, (Option.some Jvm.ClassFile.FieldType.int), none, 10) mt0)
def mt_167 : Nat → MT := fun m => cond (Nat.ble 333 m) (mt_165 m) (mt_166 m)
def mt_168 : Nat → MT := fun m => cond (Nat.ble 330 m) (cond (Nat.beq m 330) (yX3_fittingOf, cX3_fittingOf, 3, (Option.some (Jvm.ClassFile.FieldType.array Jvm.ClassFile.FieldType.int)), none, 8) mt0) (cond (Nat.beq m 329) (yX3_has, cX3_has, 3, (Option.some Jvm.ClassFile.FieldType.boolean), none, 8) mt0)
def mt_169 : Nat → MT := fun m => cond (Nat.ble 328 m) (cond (Nat.beq m 328) (yX3_isBarredThere, cX3_isBarredThere, 4, (Option.some Jvm.ClassFile.FieldType.boolean), none, 9) mt0) (cond (Nat.beq m 327) (yX3_hinders, cX3_hinders, 3, (Option.some Jvm.ClassFile.FieldType.int), none, 19) mt0)
def mt_170 : Nat → MT := fun m => cond (Nat.ble 329 m) (mt_168 m) (mt_169 m)
def mt_171 : Nat → MT := fun m => cond (Nat.ble 331 m) (mt_167 m) (mt_170 m)
def mt_172 : Nat → MT := fun m => cond (Nat.ble 335 m) (mt_164 m) (mt_171 m)
def mt_173 : Nat → MT := fun m => cond (Nat.ble 326 m) (cond (Nat.beq m 326) (yX3_badFit, cX3_badFit, 4, (Option.some Jvm.ClassFile.FieldType.boolean), none, 10) mt0) (cond (Nat.beq m 325) (yX3_fit, cX3_fit, 5, (Option.some Jvm.ClassFile.FieldType.int), none, 20) mt0)
def mt_174 : Nat → MT := fun m => cond (Nat.ble 324 m) (cond (Nat.beq m 324) (yX3_asks, cX3_asks, 2, none, none, 18) mt0) (cond (Nat.beq m 323) (yX3_isModel, cX3_isModel, 2, (Option.some Jvm.ClassFile.FieldType.boolean), none, 9) mt0)
def mt_175 : Nat → MT := fun m => cond (Nat.ble 325 m) (mt_173 m) (mt_174 m)
def mt_176 : Nat → MT := fun m => cond (Nat.ble 322 m) (cond (Nat.beq m 322) (yX3_barred, cX3_barred, 4, (Option.some Jvm.ClassFile.FieldType.boolean), none, 19) mt0) (cond (Nat.beq m 321) (yX3_asksOn, cX3_asksOn, 4, none, none, 17) mt0)
def mt_177 : Nat → MT := fun m => cond (Nat.ble 320 m) (cond (Nat.beq m 320) (yX3_told, cX3_told, 4, (Option.some Jvm.ClassFile.FieldType.int), none, 18) mt0) (cond (Nat.beq m 319) (yX3_size, cX3_size, 3, (Option.some Jvm.ClassFile.FieldType.int), none, 10) mt0)
def mt_178 : Nat → MT := fun m => cond (Nat.ble 321 m) (mt_176 m) (mt_177 m)
def mt_179 : Nat → MT := fun m => cond (Nat.ble 323 m) (mt_175 m) (mt_178 m)
def mt_180 : Nat → MT := fun m => cond (Nat.ble 318 m) (cond (Nat.beq m 318) (yX3_change, cX3_change, 6, (Option.some Jvm.ClassFile.FieldType.int), none, 10) mt0) (cond (Nat.beq m 317) (yX3_sizeOf, cX3_sizeOf, 3, (Option.some Jvm.ClassFile.FieldType.int), none, 8) mt0)
def mt_181 : Nat → MT := fun m => cond (Nat.ble 316 m) (cond (Nat.beq m 316) (yX3_isPerson, cX3_isPerson, 2, (Option.some Jvm.ClassFile.FieldType.boolean), none, 9) mt0) (cond (Nat.beq m 315) (yX3_stump, cX3_stump, 5, (Option.some Jvm.ClassFile.FieldType.int), none, 10) mt0)
def mt_182 : Nat → MT := fun m => cond (Nat.ble 317 m) (mt_180 m) (mt_181 m)
def mt_183 : Nat → MT := fun m => cond (Nat.ble 314 m) (cond (Nat.beq m 314) (yX3_person, cX3_person, 8, (Option.some Jvm.ClassFile.FieldType.int), none, 9) mt0) (cond (Nat.beq m 313) (yX3_days, cX3_days, 2, (Option.some Jvm.ClassFile.FieldType.int), none, 9) mt0)
def mt_184 : Nat → MT := fun m => cond (Nat.beq m 312) (yX3_model, cX3_model, 8, (Option.some Jvm.ClassFile.FieldType.int), none, 9) mt0
def mt_185 : Nat → MT := fun m => cond (Nat.ble 313 m) (mt_183 m) (mt_184 m)
def mt_186 : Nat → MT := fun m => cond (Nat.ble 315 m) (mt_182 m) (mt_185 m)
def mt_187 : Nat → MT := fun m => cond (Nat.ble 319 m) (mt_179 m) (mt_186 m)
def mt_188 : Nat → MT := fun m => cond (Nat.ble 327 m) (mt_172 m) (mt_187 m)
def mt_189 : Nat → MT := fun m => cond (Nat.ble 343 m) (mt_157 m) (mt_188 m)
def mt_190 : Nat → MT := fun m => cond (Nat.ble 311 m) (cond (Nat.beq m 311) (yX3_fault, cX3_fault, 1, (Option.some Jvm.ClassFile.FieldType.int), none, 8) mt0) (cond (Nat.beq m 310) (yX3_countsOn, cX3_countsOn, 4, (Option.some Jvm.ClassFile.FieldType.int), none, 8) mt0)
def mt_191 : Nat → MT := fun m => cond (Nat.ble 309 m) (cond (Nat.beq m 309) (yX3_counts, cX3_counts, 2, (Option.some Jvm.ClassFile.FieldType.int), none, 9) mt0) (cond (Nat.beq m 308) (yX3_within, cX3_within, 3, (Option.some Jvm.ClassFile.FieldType.int), none, 8) mt0)
def mt_192 : Nat → MT := fun m => cond (Nat.ble 310 m) (mt_190 m) (mt_191 m)
def mt_193 : Nat → MT := fun m => cond (Nat.ble 307 m) (cond (Nat.beq m 307) (yX3_tells, cX3_tells, 5, none, none, 9) mt0) (cond (Nat.beq m 306) (yX3_test, cX3_test, 4, (Option.some Jvm.ClassFile.FieldType.boolean), none, 14) mt0)
def mt_194 : Nat → MT := fun m => cond (Nat.ble 305 m) (cond (Nat.beq m 305) (yX3_ands, cX3_ands, 3, (Option.some Jvm.ClassFile.FieldType.boolean), none, 14) mt0) (cond (Nat.beq m 304) (yX3_ors, cX3_ors, 3, (Option.some Jvm.ClassFile.FieldType.boolean), none, 14) mt0)
def mt_195 : Nat → MT := fun m => cond (Nat.ble 306 m) (mt_193 m) (mt_194 m)
def mt_196 : Nat → MT := fun m => cond (Nat.ble 308 m) (mt_192 m) (mt_195 m)
def mt_197 : Nat → MT := fun m => cond (Nat.ble 303 m) (cond (Nat.beq m 303) (yX3_sign, cX3_sign, 2, none, none, 10) mt0) (cond (Nat.beq m 302) (yX3_opensText, cX3_opensText, 2, none, none, 9) mt0)
def mt_198 : Nat → MT := fun m => cond (Nat.ble 301 m) (cond (Nat.beq m 301) (yX3_nameHere, cX3_nameHere, 1, (Option.some Jvm.ClassFile.FieldType.int), none, 12) mt0) (cond (Nat.beq m 300) (yX3_unit, cX3_unit, 6, (Option.some Jvm.ClassFile.FieldType.int), none, 13) mt0)
def mt_199 : Nat → MT := fun m => cond (Nat.ble 302 m) (mt_197 m) (mt_198 m)
def mt_200 : Nat → MT := fun m => cond (Nat.ble 299 m) (cond (Nat.beq m 299) (yX3_product, cX3_product, 4, (Option.some Jvm.ClassFile.FieldType.int), none, 13) mt0) (cond (Nat.beq m 298) (yX3_sum, cX3_sum, 4, (Option.some Jvm.ClassFile.FieldType.int), none, 13) mt0)
def mt_201 : Nat → MT := fun m => cond (Nat.ble 297 m) (cond (Nat.beq m 297) (yX3_isDigit, cX3_isDigit, 1, (Option.some Jvm.ClassFile.FieldType.boolean), none, 8) mt0) (cond (Nat.beq m 296) (yX3_number, cX3_number, 6, (Option.some Jvm.ClassFile.FieldType.int), none, 10) mt0)
def mt_202 : Nat → MT := fun m => cond (Nat.ble 298 m) (mt_200 m) (mt_201 m)
def mt_203 : Nat → MT := fun m => cond (Nat.ble 300 m) (mt_199 m) (mt_202 m)
def mt_204 : Nat → MT := fun m => cond (Nat.ble 304 m) (mt_196 m) (mt_203 m)
def mt_205 : Nat → MT := fun m => cond (Nat.ble 295 m) (cond (Nat.beq m 295) (yX3_skipWord, cX3_skipWord, 1, none, none, 9) mt0) (cond (Nat.beq m 294) (yX3_wrong, cX3_wrong, 3, none, none, 8) mt0)
def mt_206 : Nat → MT := fun m => cond (Nat.ble 293 m) (cond (Nat.beq m 293) (yX3_word, cX3_word, 7, (Option.some Jvm.ClassFile.FieldType.int), none, 8) mt0) (cond (Nat.beq m 292) (yX3_wordHere, cX3_wordHere, 3, (Option.some Jvm.ClassFile.FieldType.int), none, 10) mt0)
def mt_207 : Nat → MT := fun m => cond (Nat.ble 294 m) (mt_205 m) (mt_206 m)
def mt_208 : Nat → MT := fun m => cond (Nat.ble 291 m) (cond (Nat.beq m 291) (yX3_isWord, cX3_isWord, 7, (Option.some Jvm.ClassFile.FieldType.boolean), none, 11) mt0) (cond (Nat.beq m 290) (yX3_kindHere, cX3_kindHere, 1, (Option.some Jvm.ClassFile.FieldType.int), none, 12) mt0)
def mt_209 : Nat → MT := fun m => cond (Nat.ble 289 m) (cond (Nat.beq m 289) (yX3_clauseHere, cX3_clauseHere, 6, none, none, 15) mt0) (cond (Nat.beq m 288) (yX3_byteAt, cX3_byteAt, 2, (Option.some Jvm.ClassFile.FieldType.int), none, 8) mt0)
def mt_210 : Nat → MT := fun m => cond (Nat.ble 290 m) (mt_208 m) (mt_209 m)
def mt_211 : Nat → MT := fun m => cond (Nat.ble 292 m) (mt_207 m) (mt_210 m)
def mt_212 : Nat → MT := fun m => cond (Nat.ble 287 m) (cond (Nat.beq m 287) (yX3_blanks, cX3_blanks, 1, none, none, 9) mt0) (cond (Nat.beq m 286) (yX3_walksText, cX3_walksText, 2, none, none, 16) mt0)
def mt_213 : Nat → MT := fun m => cond (Nat.ble 285 m) (cond (Nat.beq m 285) (yX3_bad, cX3_bad, 3, (Option.some Jvm.ClassFile.FieldType.boolean), none, 8) mt0) (cond (Nat.beq m 284) (yX3_in, cX3_in, 3, (Option.some Jvm.ClassFile.FieldType.boolean), none, 8) mt0)
def mt_214 : Nat → MT := fun m => cond (Nat.ble 286 m) (mt_212 m) (mt_213 m)
def mt_215 : Nat → MT := fun m => cond (Nat.ble 283 m) (cond (Nat.beq m 283) (yX3_rules, cX3_rules, 4, (Option.some Jvm.ClassFile.FieldType.int), none, 17) mt0) (cond (Nat.beq m 282) (yX3_feed, cX3_feed, 8, (Option.some Jvm.ClassFile.FieldType.int), none, 8) mt0)
def mt_216 : Nat → MT := fun m => cond (Nat.beq m 281) (yX3_thrown, cX3_thrown, 1, (Option.some Jvm.ClassFile.FieldType.int), none, 8) mt0
def mt_217 : Nat → MT := fun m => cond (Nat.ble 282 m) (mt_215 m) (mt_216 m)
def mt_218 : Nat → MT := fun m => cond (Nat.ble 284 m) (mt_214 m) (mt_217 m)
def mt_219 : Nat → MT := fun m => cond (Nat.ble 288 m) (mt_211 m) (mt_218 m)
def mt_220 : Nat → MT := fun m => cond (Nat.ble 296 m) (mt_204 m) (mt_219 m)
def mt_221 : Nat → MT := fun m => cond (Nat.ble 280 m) (cond (Nat.beq m 280) (yX3_init, cX3_init, 2, none, none, 8) mt0) (cond (Nat.beq m 279) (yJ17_compare, cJ17_compare, 2, (Option.some Jvm.ClassFile.FieldType.int), none, 8) mt0)
def mt_222 : Nat → MT := fun m => cond (Nat.ble 278 m) (cond (Nat.beq m 278) (yJ17_intValue, cJ17_intValue, 1, (Option.some Jvm.ClassFile.FieldType.int), none, 8) mt0) (cond (Nat.beq m 277) (yJ17_init, cJ17_init, 2, none, none, 9) mt0)
def mt_223 : Nat → MT := fun m => cond (Nat.ble 279 m) (mt_221 m) (mt_222 m)
def mt_224 : Nat → MT := fun m => cond (Nat.ble 276 m) (cond (Nat.beq m 276) (yJ17_valueOf, cJ17_valueOf, 1, (Option.some (Jvm.ClassFile.FieldType.object "java/lang/Integer")), none, 10) mt0) (cond (Nat.beq m 275) (yJ17_numberOfTrailingZeros, cJ17_numberOfTrailingZeros, 2, (Option.some Jvm.ClassFile.FieldType.int), none, 8) mt0)
def mt_225 : Nat → MT := fun m => cond (Nat.ble 274 m) (cond (Nat.beq m 274) (yJ17_bitCount, cJ17_bitCount, 1, (Option.some Jvm.ClassFile.FieldType.int), none, 8) mt0) (cond (Nat.beq m 273) (yJ17_getChars, cJ17_getChars, 7, (Option.some Jvm.ClassFile.FieldType.int), none, 8) mt0)
def mt_226 : Nat → MT := fun m => cond (Nat.ble 275 m) (mt_224 m) (mt_225 m)
def mt_227 : Nat → MT := fun m => cond (Nat.ble 277 m) (mt_223 m) (mt_226 m)
def mt_228 : Nat → MT := fun m => cond (Nat.ble 272 m) (cond (Nat.beq m 272) (yJ17_stringSize, cJ17_stringSize, 4, (Option.some Jvm.ClassFile.FieldType.int), none, 8) mt0) (cond (Nat.beq m 271) (yJ16_init, cJ16_init, 1, none, none, 8) mt0)
def mt_229 : Nat → MT := fun m => cond (Nat.ble 270 m) (cond (Nat.beq m 270) (yJ15_charAt, cJ15_charAt, 2, (Option.some Jvm.ClassFile.FieldType.char), none, 10) mt0) (cond (Nat.beq m 269) (yJ15_equals, cJ15_equals, 3, (Option.some Jvm.ClassFile.FieldType.boolean), none, 8) mt0)
def mt_230 : Nat → MT := fun m => cond (Nat.ble 271 m) (mt_228 m) (mt_229 m)
def mt_231 : Nat → MT := fun m => cond (Nat.ble 268 m) (cond (Nat.beq m 268) (yJ15_hashCode, cJ15_hashCode, 1, (Option.some Jvm.ClassFile.FieldType.int), none, 18) mt0) (cond (Nat.beq m 267) (yJ15_canEncode, cJ15_canEncode, 1, (Option.some Jvm.ClassFile.FieldType.boolean), none, 8) mt0)
def mt_232 : Nat → MT := fun m => cond (Nat.ble 266 m) (cond (Nat.beq m 266) (yJ15_inflate, cJ15_inflate, 5, none, none, 12) mt0) (cond (Nat.beq m 265) (yJ14_checkIndex, cJ14_checkIndex, 3, (Option.some Jvm.ClassFile.FieldType.int), none, 8) mt0)
def mt_233 : Nat → MT := fun m => cond (Nat.ble 267 m) (mt_231 m) (mt_232 m)
def mt_234 : Nat → MT := fun m => cond (Nat.ble 269 m) (mt_230 m) (mt_233 m)
def mt_235 : Nat → MT := fun m => cond (Nat.ble 273 m) (mt_227 m) (mt_234 m)
def mt_236 : Nat → MT := fun m => cond (Nat.ble 264 m) (cond (Nat.beq m 264) (yJ14_checkFromIndexSize, cJ14_checkFromIndexSize, 4, (Option.some Jvm.ClassFile.FieldType.int), none, 8) mt0) (cond (Nat.beq m 263) (yJ14_checkFromToIndex, cJ14_checkFromToIndex, 4, (Option.some Jvm.ClassFile.FieldType.int), none, 8) mt0)
def mt_237 : Nat → MT := fun m => cond (Nat.ble 262 m) (cond (Nat.beq m 262) (yJ13_copyOf_3, cJ13_copyOf_3, 4, (Option.some (Jvm.ClassFile.FieldType.array (Jvm.ClassFile.FieldType.object "java/lang/Object"))), none, 8) mt0) (cond (Nat.beq m 261) (yJ13_copyOf_2, cJ13_copyOf_2, 2, (Option.some (Jvm.ClassFile.FieldType.array (Jvm.ClassFile.FieldType.object "java/lang/Object"))), none, 9) mt0)
def mt_238 : Nat → MT := fun m => cond (Nat.ble 263 m) (mt_236 m) (mt_237 m)
def mt_239 : Nat → MT := fun m => cond (Nat.ble 260 m) (cond (Nat.beq m 260) (yJ13_checkLength, cJ13_checkLength, 2, none, none, 16) mt0) (cond (Nat.beq m 259) (yJ13_copyOfRangeByte, cJ13_copyOfRangeByte, 5, (Option.some (Jvm.ClassFile.FieldType.array Jvm.ClassFile.FieldType.byte)), none, 16) mt0)
def mt_240 : Nat → MT := fun m => cond (Nat.ble 258 m) (cond (Nat.beq m 258) (yJ13_copyOfRange, cJ13_copyOfRange, 3, (Option.some (Jvm.ClassFile.FieldType.array Jvm.ClassFile.FieldType.byte)), none, 16) mt0) (cond (Nat.beq m 257) (yJ13_copyOf, cJ13_copyOf, 3, (Option.some (Jvm.ClassFile.FieldType.array Jvm.ClassFile.FieldType.byte)), none, 8) mt0)
def mt_241 : Nat → MT := fun m => cond (Nat.ble 259 m) (mt_239 m) (mt_240 m)
def mt_242 : Nat → MT := fun m => cond (Nat.ble 261 m) (mt_238 m) (mt_241 m)
def mt_243 : Nat → MT := fun m => cond (Nat.ble 256 m) (cond (Nat.beq m 256) (yJ12_abs_2, cJ12_abs_2, 2, (Option.some Jvm.ClassFile.FieldType.long), none, 8) mt0) (cond (Nat.beq m 255) (yJ12_abs, cJ12_abs, 1, (Option.some Jvm.ClassFile.FieldType.int), none, 8) mt0)
def mt_244 : Nat → MT := fun m => cond (Nat.ble 254 m) (cond (Nat.beq m 254) (yJ12_min, cJ12_min, 2, (Option.some Jvm.ClassFile.FieldType.int), none, 8) mt0) (cond (Nat.beq m 253) (yJ12_max, cJ12_max, 2, (Option.some Jvm.ClassFile.FieldType.int), none, 8) mt0)
def mt_245 : Nat → MT := fun m => cond (Nat.ble 255 m) (mt_243 m) (mt_244 m)
def mt_246 : Nat → MT := fun m => cond (Nat.ble 252 m) (cond (Nat.beq m 252) (yJ11_hashCode_4, cJ11_hashCode_4, 6, (Option.some Jvm.ClassFile.FieldType.int), none, 8) mt0) (cond (Nat.beq m 251) (yJ11_hashCode_3, cJ11_hashCode_3, 6, (Option.some Jvm.ClassFile.FieldType.int), none, 8) mt0)
def mt_247 : Nat → MT := fun m => cond (Nat.beq m 250) (yJ11_hashCode_2, cJ11_hashCode_2, 6, (Option.some Jvm.ClassFile.FieldType.int), none, 8) mt0
def mt_248 : Nat → MT := fun m => cond (Nat.ble 251 m) (mt_246 m) (mt_247 m)
def mt_249 : Nat → MT := fun m => cond (Nat.ble 253 m) (mt_245 m) (mt_248 m)
def mt_250 : Nat → MT := fun m => cond (Nat.ble 257 m) (mt_242 m) (mt_249 m)
def mt_251 : Nat → MT := fun m => cond (Nat.ble 265 m) (mt_235 m) (mt_250 m)
def mt_252 : Nat → MT := fun m => cond (Nat.ble 281 m) (mt_220 m) (mt_251 m)
def mt_253 : Nat → MT := fun m => cond (Nat.ble 312 m) (mt_189 m) (mt_252 m)
def mt_254 : Nat → MT := fun m => cond (Nat.ble 375 m) (mt_126 m) (mt_253 m)
def mt_255 : Nat → MT := fun m => cond (Nat.ble 249 m) (cond (Nat.beq m 249) (yJ11_hashCode, cJ11_hashCode, 6, (Option.some Jvm.ClassFile.FieldType.int), none, 8) mt0) (cond (Nat.beq m 248) (yJ11_utf16hashCode, cJ11_utf16hashCode, 6, (Option.some Jvm.ClassFile.FieldType.int), none, 8) mt0)
def mt_256 : Nat → MT := fun m => cond (Nat.ble 247 m) (cond (Nat.beq m 247) (yJ11_signedHashCode, cJ11_signedHashCode, 6, (Option.some Jvm.ClassFile.FieldType.int), none, 8) mt0) (cond (Nat.beq m 246) (yJ11_vectorizedHashCode, cJ11_vectorizedHashCode, 5, (Option.some Jvm.ClassFile.FieldType.int), none, 17) mt0)
def mt_257 : Nat → MT := fun m => cond (Nat.ble 248 m) (mt_255 m) (mt_256 m)
def mt_258 : Nat → MT := fun m => cond (Nat.ble 245 m) (cond (Nat.beq m 245) (yJ11_hugeLength, cJ11_hugeLength, 3, (Option.some Jvm.ClassFile.FieldType.int), none, 16) mt0) (cond (Nat.beq m 244) (yJ11_newLength, cJ11_newLength, 4, (Option.some Jvm.ClassFile.FieldType.int), none, 16) mt0)
def mt_259 : Nat → MT := fun m => cond (Nat.ble 243 m) (cond (Nat.beq m 243) (yJ10_charAt, cJ10_charAt, 2, (Option.some Jvm.ClassFile.FieldType.char), none, 11) mt0) (cond (Nat.beq m 242) (yJ10_hashCode, cJ10_hashCode, 1, (Option.some Jvm.ClassFile.FieldType.int), none, 18) mt0)
def mt_260 : Nat → MT := fun m => cond (Nat.ble 244 m) (mt_258 m) (mt_259 m)
def mt_261 : Nat → MT := fun m => cond (Nat.ble 246 m) (mt_257 m) (mt_260 m)
def mt_262 : Nat → MT := fun m => cond (Nat.ble 241 m) (cond (Nat.beq m 241) (yJ10_checkIndex, cJ10_checkIndex, 2, none, none, 10) mt0) (cond (Nat.beq m 240) (yJ10_putCharSB, cJ10_putCharSB, 3, none, none, 11) mt0)
def mt_263 : Nat → MT := fun m => cond (Nat.ble 239 m) (cond (Nat.beq m 239) (yJ10_coderFromArrayLen, cJ10_coderFromArrayLen, 2, (Option.some Jvm.ClassFile.FieldType.byte), none, 8) mt0) (cond (Nat.beq m 238) (yJ10_getChar, cJ10_getChar, 2, (Option.some Jvm.ClassFile.FieldType.char), none, 9) mt0)
def mt_264 : Nat → MT := fun m => cond (Nat.ble 240 m) (mt_262 m) (mt_263 m)
def mt_265 : Nat → MT := fun m => cond (Nat.ble 237 m) (cond (Nat.beq m 237) (yJ10_compress_2, cJ10_compress_2, 7, (Option.some Jvm.ClassFile.FieldType.int), none, 11) mt0) (cond (Nat.beq m 236) (yJ10_compress, cJ10_compress, 6, (Option.some (Jvm.ClassFile.FieldType.array Jvm.ClassFile.FieldType.byte)), none, 16) mt0)
def mt_266 : Nat → MT := fun m => cond (Nat.ble 235 m) (cond (Nat.beq m 235) (yJ10_getChars_2, cJ10_getChars_2, 7, (Option.some Jvm.ClassFile.FieldType.int), none, 10) mt0) (cond (Nat.beq m 234) (yJ10_getChars, cJ10_getChars, 5, (Option.some Jvm.ClassFile.FieldType.int), none, 11) mt0)
def mt_267 : Nat → MT := fun m => cond (Nat.ble 236 m) (mt_265 m) (mt_266 m)
def mt_268 : Nat → MT := fun m => cond (Nat.ble 238 m) (mt_264 m) (mt_267 m)
def mt_269 : Nat → MT := fun m => cond (Nat.ble 242 m) (mt_261 m) (mt_268 m)
def mt_270 : Nat → MT := fun m => cond (Nat.ble 233 m) (cond (Nat.beq m 233) (yJ10_checkBoundsOffCount, cJ10_checkBoundsOffCount, 3, none, none, 10) mt0) (cond (Nat.beq m 232) (yJ10_inflate, cJ10_inflate, 6, none, none, 11) mt0)
def mt_271 : Nat → MT := fun m => cond (Nat.ble 231 m) (cond (Nat.beq m 231) (yJ10_putChar, cJ10_putChar, 3, none, none, 9) mt0) (cond (Nat.beq m 230) (yJ10_length, cJ10_length, 1, (Option.some Jvm.ClassFile.FieldType.int), none, 8) mt0)
def mt_272 : Nat → MT := fun m => cond (Nat.ble 232 m) (mt_270 m) (mt_271 m)
def mt_273 : Nat → MT := fun m => cond (Nat.ble 229 m) (cond (Nat.beq m 229) (yJ10_checkBoundsBeginEnd, cJ10_checkBoundsBeginEnd, 3, none, none, 10) mt0) (cond (Nat.beq m 228) (yJ10_putCharsAt, cJ10_putCharsAt, 7, (Option.some Jvm.ClassFile.FieldType.int), none, 11) mt0)
def mt_274 : Nat → MT := fun m => cond (Nat.ble 227 m) (cond (Nat.beq m 227) (yJ10_newBytesLength, cJ10_newBytesLength, 1, (Option.some Jvm.ClassFile.FieldType.int), none, 8) mt0) (cond (Nat.beq m 226) (yJ10_newBytesFor, cJ10_newBytesFor, 1, (Option.some (Jvm.ClassFile.FieldType.array Jvm.ClassFile.FieldType.byte)), none, 9) mt0)
def mt_275 : Nat → MT := fun m => cond (Nat.ble 228 m) (mt_273 m) (mt_274 m)
def mt_276 : Nat → MT := fun m => cond (Nat.ble 230 m) (mt_272 m) (mt_275 m)
def mt_277 : Nat → MT := fun m => cond (Nat.ble 225 m) (cond (Nat.beq m 225) (yJ9_charAt, cJ9_charAt, 2, (Option.some Jvm.ClassFile.FieldType.char), none, 12) mt0) (cond (Nat.beq m 224) (yJ9_equals, cJ9_equals, 3, (Option.some Jvm.ClassFile.FieldType.boolean), none, 9) mt0)
def mt_278 : Nat → MT := fun m => cond (Nat.ble 223 m) (cond (Nat.beq m 223) (yJ9_isLatin1, cJ9_isLatin1, 1, (Option.some Jvm.ClassFile.FieldType.boolean), none, 8) mt0) (cond (Nat.beq m 222) (yJ9_hashCode, cJ9_hashCode, 2, (Option.some Jvm.ClassFile.FieldType.int), none, 19) mt0)
def mt_279 : Nat → MT := fun m => cond (Nat.ble 224 m) (mt_277 m) (mt_278 m)
def mt_280 : Nat → MT := fun m => cond (Nat.ble 221 m) (cond (Nat.beq m 221) (yJ9_checkIndex, cJ9_checkIndex, 2, none, none, 9) mt0) (cond (Nat.beq m 220) (yJ9_init_2, cJ9_init_2, 5, none, none, 16) mt0)
def mt_281 : Nat → MT := fun m => cond (Nat.ble 219 m) (cond (Nat.beq m 219) (yJ9_init, cJ9_init, 2, none, none, 16) mt0) (cond (Nat.beq m 218) (yJ9_getBytes, cJ9_getBytes, 4, none, none, 13) mt0)
def mt_282 : Nat → MT := fun m => cond (Nat.ble 220 m) (mt_280 m) (mt_281 m)
def mt_283 : Nat → MT := fun m => cond (Nat.ble 222 m) (mt_279 m) (mt_282 m)
def mt_284 : Nat → MT := fun m => cond (Nat.ble 226 m) (mt_276 m) (mt_283 m)
def mt_285 : Nat → MT := fun m => cond (Nat.ble 234 m) (mt_269 m) (mt_284 m)
def mt_286 : Nat → MT := fun m => cond (Nat.ble 217 m) (cond (Nat.beq m 217) (yJ9_checkBoundsOffCount, cJ9_checkBoundsOffCount, 3, (Option.some Jvm.ClassFile.FieldType.int), none, 9) mt0) (cond (Nat.beq m 216) (yJ9_coder, cJ9_coder, 1, (Option.some Jvm.ClassFile.FieldType.byte), none, 8) mt0)
def mt_287 : Nat → MT := fun m => cond (Nat.ble 215 m) (cond (Nat.beq m 215) (yJ9_length, cJ9_length, 1, (Option.some Jvm.ClassFile.FieldType.int), none, 9) mt0) (cond (Nat.beq m 214) (yJ9_checkBoundsBeginEnd, cJ9_checkBoundsBeginEnd, 3, none, none, 9) mt0)
def mt_288 : Nat → MT := fun m => cond (Nat.ble 216 m) (mt_286 m) (mt_287 m)
def mt_289 : Nat → MT := fun m => cond (Nat.ble 213 m) (cond (Nat.beq m 213) (yJ8_append_3, cJ8_append_3, 2, (Option.some (Jvm.ClassFile.FieldType.object "java/lang/StringBuilder")), none, 18) mt0) (cond (Nat.beq m 212) (yJ8_length, cJ8_length, 1, (Option.some Jvm.ClassFile.FieldType.int), none, 9) mt0)
def mt_290 : Nat → MT := fun m => cond (Nat.ble 211 m) (cond (Nat.beq m 211) (yJ8_toString, cJ8_toString, 1, (Option.some (Jvm.ClassFile.FieldType.object "java/lang/String")), none, 16) mt0) (cond (Nat.beq m 210) (yJ8_append_2, cJ8_append_2, 2, (Option.some (Jvm.ClassFile.FieldType.object "java/lang/StringBuilder")), none, 16) mt0)
def mt_291 : Nat → MT := fun m => cond (Nat.ble 212 m) (mt_289 m) (mt_290 m)
def mt_292 : Nat → MT := fun m => cond (Nat.ble 214 m) (mt_288 m) (mt_291 m)
def mt_293 : Nat → MT := fun m => cond (Nat.ble 209 m) (cond (Nat.beq m 209) (yJ8_append, cJ8_append, 2, (Option.some (Jvm.ClassFile.FieldType.object "java/lang/StringBuilder")), none, 16) mt0) (cond (Nat.beq m 208) (yJ8_init, cJ8_init, 1, none, none, 11) mt0)
def mt_294 : Nat → MT := fun m => cond (Nat.ble 207 m) (cond (Nat.beq m 207) (yJ7_append_3, cJ7_append_3, 2, (Option.some (Jvm.ClassFile.FieldType.object "java/lang/AbstractStringBuilder")), none, 17) mt0) (cond (Nat.beq m 206) (yJ7_length, cJ7_length, 1, (Option.some Jvm.ClassFile.FieldType.int), none, 8) mt0)
def mt_295 : Nat → MT := fun m => cond (Nat.ble 208 m) (mt_293 m) (mt_294 m)
def mt_296 : Nat → MT := fun m => cond (Nat.ble 205 m) (cond (Nat.beq m 205) (yJ7_getValue, cJ7_getValue, 1, (Option.some (Jvm.ClassFile.FieldType.array Jvm.ClassFile.FieldType.byte)), none, 8) mt0) (cond (Nat.beq m 204) (yJ7_append_2, cJ7_append_2, 4, (Option.some (Jvm.ClassFile.FieldType.object "java/lang/AbstractStringBuilder")), none, 16) mt0)
def mt_297 : Nat → MT := fun m => cond (Nat.ble 203 m) (cond (Nat.beq m 203) (yJ7_inflate, cJ7_inflate, 2, none, none, 13) mt0) (cond (Nat.beq m 202) (yJ7_inflateIfNeededFor, cJ7_inflateIfNeededFor, 2, none, none, 14) mt0)
def mt_298 : Nat → MT := fun m => cond (Nat.ble 204 m) (mt_296 m) (mt_297 m)
def mt_299 : Nat → MT := fun m => cond (Nat.ble 206 m) (mt_295 m) (mt_298 m)
def mt_300 : Nat → MT := fun m => cond (Nat.ble 210 m) (mt_292 m) (mt_299 m)
def mt_301 : Nat → MT := fun m => cond (Nat.ble 201 m) (cond (Nat.beq m 201) (yJ7_putStringAt, cJ7_putStringAt, 3, none, none, 15) mt0) (cond (Nat.beq m 200) (yJ7_isLatin1, cJ7_isLatin1, 1, (Option.some Jvm.ClassFile.FieldType.boolean), none, 8) mt0)
def mt_302 : Nat → MT := fun m => cond (Nat.ble 199 m) (cond (Nat.beq m 199) (yJ7_newCapacity, cJ7_newCapacity, 6, (Option.some Jvm.ClassFile.FieldType.int), none, 16) mt0) (cond (Nat.beq m 198) (yJ7_ensureCapacityInternal, cJ7_ensureCapacityInternal, 3, none, none, 16) mt0)
def mt_303 : Nat → MT := fun m => cond (Nat.ble 200 m) (mt_301 m) (mt_302 m)
def mt_304 : Nat → MT := fun m => cond (Nat.ble 197 m) (cond (Nat.beq m 197) (yJ7_appendNull, cJ7_appendNull, 3, (Option.some (Jvm.ClassFile.FieldType.object "java/lang/AbstractStringBuilder")), none, 16) mt0) (cond (Nat.beq m 196) (yJ7_append, cJ7_append, 3, (Option.some (Jvm.ClassFile.FieldType.object "java/lang/AbstractStringBuilder")), none, 16) mt0)
def mt_305 : Nat → MT := fun m => cond (Nat.ble 195 m) (cond (Nat.beq m 195) (yJ7_init, cJ7_init, 2, none, none, 10) mt0) (cond (Nat.beq m 194) (yJ6_init_2, cJ6_init_2, 1, none, none, 11) mt0)
def mt_306 : Nat → MT := fun m => cond (Nat.ble 196 m) (mt_304 m) (mt_305 m)
def mt_307 : Nat → MT := fun m => cond (Nat.ble 198 m) (mt_303 m) (mt_306 m)
def mt_308 : Nat → MT := fun m => cond (Nat.ble 193 m) (cond (Nat.beq m 193) (yJ6_init, cJ6_init, 2, none, none, 11) mt0) (cond (Nat.beq m 192) (yJ5_init_2, cJ5_init_2, 1, none, none, 10) mt0)
def mt_309 : Nat → MT := fun m => cond (Nat.ble 191 m) (cond (Nat.beq m 191) (yJ5_init, cJ5_init, 2, none, none, 10) mt0) (cond (Nat.beq m 190) (yJ4_init_3, cJ4_init_3, 5, none, none, 9) mt0)
def mt_310 : Nat → MT := fun m => cond (Nat.ble 192 m) (mt_308 m) (mt_309 m)
def mt_311 : Nat → MT := fun m => cond (Nat.ble 189 m) (cond (Nat.beq m 189) (yJ4_init_2, cJ4_init_2, 1, none, none, 9) mt0) (cond (Nat.beq m 188) (yJ4_init, cJ4_init, 2, none, none, 9) mt0)
def mt_312 : Nat → MT := fun m => cond (Nat.beq m 187) (yJ3_init_3, cJ3_init_3, 5, none, none, 8) mt0
def mt_313 : Nat → MT := fun m => cond (Nat.ble 188 m) (mt_311 m) (mt_312 m)
def mt_314 : Nat → MT := fun m => cond (Nat.ble 190 m) (mt_310 m) (mt_313 m)
def mt_315 : Nat → MT := fun m => cond (Nat.ble 194 m) (mt_307 m) (mt_314 m)
def mt_316 : Nat → MT := fun m => cond (Nat.ble 202 m) (mt_300 m) (mt_315 m)
def mt_317 : Nat → MT := fun m => cond (Nat.ble 218 m) (mt_285 m) (mt_316 m)
def mt_318 : Nat → MT := fun m => cond (Nat.ble 186 m) (cond (Nat.beq m 186) (yJ3_init_2, cJ3_init_2, 2, none, none, 8) mt0) (cond (Nat.beq m 185) (yJ3_init, cJ3_init, 1, none, none, 8) mt0)
def mt_319 : Nat → MT := fun m => cond (Nat.ble 184 m) (cond (Nat.beq m 184) (yJ2_isEmpty, cJ2_isEmpty, 1, (Option.some Jvm.ClassFile.FieldType.boolean), none, 8) mt0) (cond (Nat.beq m 183) (yJ2_set, cJ2_set, 4, (Option.some (Jvm.ClassFile.FieldType.object "java/lang/Object")), none, 10) mt0)
def mt_320 : Nat → MT := fun m => cond (Nat.ble 185 m) (mt_318 m) (mt_319 m)
def mt_321 : Nat → MT := fun m => cond (Nat.ble 182 m) (cond (Nat.beq m 182) (yJ2_grow_2, cJ2_grow_2, 4, (Option.some (Jvm.ClassFile.FieldType.array (Jvm.ClassFile.FieldType.object "java/lang/Object"))), none, 17) mt0) (cond (Nat.beq m 181) (yJ2_grow, cJ2_grow, 1, (Option.some (Jvm.ClassFile.FieldType.array (Jvm.ClassFile.FieldType.object "java/lang/Object"))), none, 18) mt0)
def mt_322 : Nat → MT := fun m => cond (Nat.ble 180 m) (cond (Nat.beq m 180) (yJ2_add_2, cJ2_add_2, 4, none, none, 19) mt0) (cond (Nat.beq m 179) (yJ2_add, cJ2_add, 2, (Option.some Jvm.ClassFile.FieldType.boolean), none, 20) mt0)
def mt_323 : Nat → MT := fun m => cond (Nat.ble 181 m) (mt_321 m) (mt_322 m)
def mt_324 : Nat → MT := fun m => cond (Nat.ble 183 m) (mt_320 m) (mt_323 m)
def mt_325 : Nat → MT := fun m => cond (Nat.ble 178 m) (cond (Nat.beq m 178) (yJ2_clear, cJ2_clear, 4, none, none, 8) mt0) (cond (Nat.beq m 177) (yJ2_elementData, cJ2_elementData, 2, (Option.some (Jvm.ClassFile.FieldType.object "java/lang/Object")), none, 8) mt0)
def mt_326 : Nat → MT := fun m => cond (Nat.ble 176 m) (cond (Nat.beq m 176) (yJ2_get, cJ2_get, 2, (Option.some (Jvm.ClassFile.FieldType.object "java/lang/Object")), none, 10) mt0) (cond (Nat.beq m 175) (yJ2_size, cJ2_size, 1, (Option.some Jvm.ClassFile.FieldType.int), none, 8) mt0)
def mt_327 : Nat → MT := fun m => cond (Nat.ble 177 m) (mt_325 m) (mt_326 m)
def mt_328 : Nat → MT := fun m => cond (Nat.ble 174 m) (cond (Nat.beq m 174) (yJ2_init, cJ2_init, 2, none, none, 17) mt0) (cond (Nat.beq m 173) (yJ1_init, cJ1_init, 1, none, none, 9) mt0)
def mt_329 : Nat → MT := fun m => cond (Nat.ble 172 m) (cond (Nat.beq m 172) (yJ0_init, cJ0_init, 1, none, none, 8) mt0) (cond (Nat.beq m 171) (yX2_like, cX2_like, 3, (Option.some (Jvm.ClassFile.FieldType.object "LimbBenches$State")), none, 21) mt0)
def mt_330 : Nat → MT := fun m => cond (Nat.ble 173 m) (mt_328 m) (mt_329 m)
def mt_331 : Nat → MT := fun m => cond (Nat.ble 175 m) (mt_327 m) (mt_330 m)
def mt_332 : Nat → MT := fun m => cond (Nat.ble 179 m) (mt_324 m) (mt_331 m)
def mt_333 : Nat → MT := fun m => cond (Nat.ble 170 m) (cond (Nat.beq m 170) (yX2_init, cX2_init, 1, none, none, 18) mt0) (cond (Nat.beq m 169) (yX1_spent, cX1_spent, 5, (Option.some Jvm.ClassFile.FieldType.int), none, 13) mt0)
def mt_334 : Nat → MT := fun m => cond (Nat.ble 168 m) (cond (Nat.beq m 168) (yX1_changed, cX1_changed, 10, (Option.some Jvm.ClassFile.FieldType.int), none, 13) mt0) (cond (Nat.beq m 167) (yX1_walk, cX1_walk, 4, (Option.some Jvm.ClassFile.FieldType.int), none, 21) mt0)
def mt_335 : Nat → MT := fun m => cond (Nat.ble 169 m) (mt_333 m) (mt_334 m)
def mt_336 : Nat → MT := fun m => cond (Nat.ble 166 m) (cond (Nat.beq m 166) (yX1_see, cX1_see, 3, (Option.some Jvm.ClassFile.FieldType.int), none, 13) mt0) (cond (Nat.beq m 165) (yX1_isSigns, cX1_isSigns, 1, (Option.some Jvm.ClassFile.FieldType.boolean), none, 8) mt0)
def mt_337 : Nat → MT := fun m => cond (Nat.ble 164 m) (cond (Nat.beq m 164) (yX1_cause, cX1_cause, 3, (Option.some Jvm.ClassFile.FieldType.int), none, 21) mt0) (cond (Nat.beq m 163) (yX1_trial, cX1_trial, 3, (Option.some Jvm.ClassFile.FieldType.int), none, 21) mt0)
def mt_338 : Nat → MT := fun m => cond (Nat.ble 165 m) (mt_336 m) (mt_337 m)
def mt_339 : Nat → MT := fun m => cond (Nat.ble 167 m) (mt_335 m) (mt_338 m)
def mt_340 : Nat → MT := fun m => cond (Nat.ble 162 m) (cond (Nat.beq m 162) (yX1_better, cX1_better, 4, (Option.some Jvm.ClassFile.FieldType.int), none, 13) mt0) (cond (Nat.beq m 161) (yX1_skillOf, cX1_skillOf, 7, (Option.some Jvm.ClassFile.FieldType.int), none, 11) mt0)
def mt_341 : Nat → MT := fun m => cond (Nat.ble 160 m) (cond (Nat.beq m 160) (yX1_isSpan, cX1_isSpan, 1, (Option.some Jvm.ClassFile.FieldType.boolean), none, 8) mt0) (cond (Nat.beq m 159) (yX1_skill, cX1_skill, 4, (Option.some Jvm.ClassFile.FieldType.int), none, 13) mt0)
def mt_342 : Nat → MT := fun m => cond (Nat.ble 161 m) (mt_340 m) (mt_341 m)
def mt_343 : Nat → MT := fun m => cond (Nat.ble 158 m) (cond (Nat.beq m 158) (yX1_blister, cX1_blister, 6, (Option.some Jvm.ClassFile.FieldType.int), none, 13) mt0) (cond (Nat.beq m 157) (yX1_isFitter, cX1_isFitter, 1, (Option.some Jvm.ClassFile.FieldType.boolean), none, 8) mt0)
def mt_344 : Nat → MT := fun m => cond (Nat.beq m 156) (yX1_fitter, cX1_fitter, 3, (Option.some Jvm.ClassFile.FieldType.int), none, 13) mt0
def mt_345 : Nat → MT := fun m => cond (Nat.ble 157 m) (mt_343 m) (mt_344 m)
def mt_346 : Nat → MT := fun m => cond (Nat.ble 159 m) (mt_342 m) (mt_345 m)
def mt_347 : Nat → MT := fun m => cond (Nat.ble 163 m) (mt_339 m) (mt_346 m)
def mt_348 : Nat → MT := fun m => cond (Nat.ble 171 m) (mt_332 m) (mt_347 m)
def mt_349 : Nat → MT := fun m => cond (Nat.ble 155 m) (cond (Nat.beq m 155) (yX1_chance, cX1_chance, 9, (Option.some Jvm.ClassFile.FieldType.int), none, 22) mt0) (cond (Nat.beq m 154) (yX1_nextBy_2, cX1_nextBy_2, 6, (Option.some Jvm.ClassFile.FieldType.int), none, 8) mt0)
def mt_350 : Nat → MT := fun m => cond (Nat.ble 153 m) (cond (Nat.beq m 153) (yX1_nextBy, cX1_nextBy, 6, (Option.some Jvm.ClassFile.FieldType.int), none, 22) mt0) (cond (Nat.beq m 152) (yX1_extreme, cX1_extreme, 4, (Option.some Jvm.ClassFile.FieldType.int), none, 11) mt0)
def mt_351 : Nat → MT := fun m => cond (Nat.ble 154 m) (mt_349 m) (mt_350 m)
def mt_352 : Nat → MT := fun m => cond (Nat.ble 151 m) (cond (Nat.beq m 151) (yX1_growths, cX1_growths, 6, (Option.some (Jvm.ClassFile.FieldType.object "java/util/ArrayList")), none, 21) mt0) (cond (Nat.beq m 150) (yX1_growth, cX1_growth, 4, (Option.some Jvm.ClassFile.FieldType.int), none, 22) mt0)
def mt_353 : Nat → MT := fun m => cond (Nat.ble 149 m) (cond (Nat.beq m 149) (yX1_latestOf, cX1_latestOf, 4, (Option.some (Jvm.ClassFile.FieldType.object "LimbBenches$Measure")), none, 11) mt0) (cond (Nat.beq m 148) (yX1_measure, cX1_measure, 5, (Option.some Jvm.ClassFile.FieldType.int), none, 21) mt0)
def mt_354 : Nat → MT := fun m => cond (Nat.ble 150 m) (mt_352 m) (mt_353 m)
def mt_355 : Nat → MT := fun m => cond (Nat.ble 152 m) (mt_351 m) (mt_354 m)
def mt_356 : Nat → MT := fun m => cond (Nat.ble 147 m) (cond (Nat.beq m 147) (yX1_seen, cX1_seen, 8, (Option.some Jvm.ClassFile.FieldType.int), none, 15) mt0) (cond (Nat.beq m 146) (yX1_recall, cX1_recall, 8, (Option.some Jvm.ClassFile.FieldType.int), none, 13) mt0)
def mt_357 : Nat → MT := fun m => cond (Nat.ble 145 m) (cond (Nat.beq m 145) (yX1_lent, cX1_lent, 2, (Option.some Jvm.ClassFile.FieldType.int), none, 13) mt0) (cond (Nat.beq m 144) (yX1_spare, cX1_spare, 2, (Option.some Jvm.ClassFile.FieldType.int), none, 13) mt0)
def mt_358 : Nat → MT := fun m => cond (Nat.ble 146 m) (mt_356 m) (mt_357 m)
def mt_359 : Nat → MT := fun m => cond (Nat.ble 143 m) (cond (Nat.beq m 143) (yX1_stock, cX1_stock, 2, (Option.some Jvm.ClassFile.FieldType.int), none, 13) mt0) (cond (Nat.beq m 142) (yX1_late, cX1_late, 6, (Option.some Jvm.ClassFile.FieldType.int), none, 13) mt0)
def mt_360 : Nat → MT := fun m => cond (Nat.ble 141 m) (cond (Nat.beq m 141) (yX1_forecast, cX1_forecast, 5, (Option.some Jvm.ClassFile.FieldType.int), none, 13) mt0) (cond (Nat.beq m 140) (yX1_lose, cX1_lose, 3, (Option.some Jvm.ClassFile.FieldType.int), none, 13) mt0)
def mt_361 : Nat → MT := fun m => cond (Nat.ble 142 m) (mt_359 m) (mt_360 m)
def mt_362 : Nat → MT := fun m => cond (Nat.ble 144 m) (mt_358 m) (mt_361 m)
def mt_363 : Nat → MT := fun m => cond (Nat.ble 148 m) (mt_355 m) (mt_362 m)
def mt_364 : Nat → MT := fun m => cond (Nat.ble 139 m) (cond (Nat.beq m 139) (yX1_orderedOf, cX1_orderedOf, 2, (Option.some (Jvm.ClassFile.FieldType.object "LimbBenches$Ordered")), none, 12) mt0) (cond (Nat.beq m 138) (yX1_arrive, cX1_arrive, 3, (Option.some Jvm.ClassFile.FieldType.int), none, 13) mt0)
def mt_365 : Nat → MT := fun m => cond (Nat.ble 137 m) (cond (Nat.beq m 137) (yX1_makerOf, cX1_makerOf, 2, (Option.some (Jvm.ClassFile.FieldType.object "LimbBenches$Maker")), none, 12) mt0) (cond (Nat.beq m 136) (yX1_order, cX1_order, 4, (Option.some Jvm.ClassFile.FieldType.int), none, 21) mt0)
def mt_366 : Nat → MT := fun m => cond (Nat.ble 138 m) (mt_364 m) (mt_365 m)
def mt_367 : Nat → MT := fun m => cond (Nat.ble 135 m) (cond (Nat.beq m 135) (yX1_maker, cX1_maker, 2, (Option.some Jvm.ClassFile.FieldType.int), none, 21) mt0) (cond (Nat.beq m 134) (yX1_done, cX1_done, 3, (Option.some Jvm.ClassFile.FieldType.int), none, 14) mt0)
def mt_368 : Nat → MT := fun m => cond (Nat.ble 133 m) (cond (Nat.beq m 133) (yX1_isJob, cX1_isJob, 2, none, none, 12) mt0) (cond (Nat.beq m 132) (yX1_delay, cX1_delay, 5, (Option.some Jvm.ClassFile.FieldType.int), none, 14) mt0)
def mt_369 : Nat → MT := fun m => cond (Nat.ble 134 m) (mt_367 m) (mt_368 m)
def mt_370 : Nat → MT := fun m => cond (Nat.ble 136 m) (mt_366 m) (mt_369 m)
def mt_371 : Nat → MT := fun m => cond (Nat.ble 131 m) (cond (Nat.beq m 131) (yX1_doneIn, cX1_doneIn, 8, (Option.some Jvm.ClassFile.FieldType.int), none, 12) mt0) (cond (Nat.beq m 130) (yX1_cost, cX1_cost, 8, (Option.some Jvm.ClassFile.FieldType.int), none, 13) mt0)
def mt_372 : Nat → MT := fun m => cond (Nat.ble 129 m) (cond (Nat.beq m 129) (yX1_benches, cX1_benches, 3, (Option.some Jvm.ClassFile.FieldType.int), none, 13) mt0) (cond (Nat.beq m 128) (yX1_job, cX1_job, 5, (Option.some Jvm.ClassFile.FieldType.int), none, 21) mt0)
def mt_373 : Nat → MT := fun m => cond (Nat.ble 130 m) (mt_371 m) (mt_372 m)
def mt_374 : Nat → MT := fun m => cond (Nat.ble 127 m) (cond (Nat.beq m 127) (yX1_clause, cX1_clause, 8, (Option.some Jvm.ClassFile.FieldType.int), none, 15) mt0) (cond (Nat.beq m 126) (yX1_choose, cX1_choose, 4, (Option.some Jvm.ClassFile.FieldType.int), none, 18) mt0)
def mt_375 : Nat → MT := fun m => cond (Nat.beq m 125) (yX1_goesNot, cX1_goesNot, 5, (Option.some Jvm.ClassFile.FieldType.boolean), none, 15) mt0
def mt_376 : Nat → MT := fun m => cond (Nat.ble 126 m) (mt_374 m) (mt_375 m)
def mt_377 : Nat → MT := fun m => cond (Nat.ble 128 m) (mt_373 m) (mt_376 m)
def mt_378 : Nat → MT := fun m => cond (Nat.ble 132 m) (mt_370 m) (mt_377 m)
def mt_379 : Nat → MT := fun m => cond (Nat.ble 140 m) (mt_363 m) (mt_378 m)
def mt_380 : Nat → MT := fun m => cond (Nat.ble 156 m) (mt_348 m) (mt_379 m)
def mt_381 : Nat → MT := fun m => cond (Nat.ble 187 m) (mt_317 m) (mt_380 m)
def mt_382 : Nat → MT := fun m => cond (Nat.ble 124 m) (cond (Nat.beq m 124) (yX1_picks, cX1_picks, 9, none, none, 16) mt0) (cond (Nat.beq m 123) (yX1_findChoice, cX1_findChoice, 3, (Option.some Jvm.ClassFile.FieldType.boolean), none, 17) mt0)
def mt_383 : Nat → MT := fun m => cond (Nat.ble 122 m) (cond (Nat.beq m 122) (yX1_choice, cX1_choice, 4, (Option.some Jvm.ClassFile.FieldType.int), none, 18) mt0) (cond (Nat.beq m 121) (yX1_lacks, cX1_lacks, 4, (Option.some Jvm.ClassFile.FieldType.int), none, 16) mt0)
def mt_384 : Nat → MT := fun m => cond (Nat.ble 123 m) (mt_382 m) (mt_383 m)
def mt_385 : Nat → MT := fun m => cond (Nat.ble 120 m) (cond (Nat.beq m 120) (yX1_isYear, cX1_isYear, 1, (Option.some Jvm.ClassFile.FieldType.boolean), none, 8) mt0) (cond (Nat.beq m 119) (yX1_fits_3, cX1_fits_3, 5, (Option.some Jvm.ClassFile.FieldType.int), none, 13) mt0)
def mt_386 : Nat → MT := fun m => cond (Nat.ble 118 m) (cond (Nat.beq m 118) (yX1_beside, cX1_beside, 6, (Option.some Jvm.ClassFile.FieldType.int), none, 17) mt0) (cond (Nat.beq m 117) (yX1_take, cX1_take, 5, (Option.some Jvm.ClassFile.FieldType.int), none, 23) mt0)
def mt_387 : Nat → MT := fun m => cond (Nat.ble 119 m) (mt_385 m) (mt_386 m)
def mt_388 : Nat → MT := fun m => cond (Nat.ble 121 m) (mt_384 m) (mt_387 m)
def mt_389 : Nat → MT := fun m => cond (Nat.ble 116 m) (cond (Nat.beq m 116) (yX1_isPlay, cX1_isPlay, 1, (Option.some Jvm.ClassFile.FieldType.boolean), none, 8) mt0) (cond (Nat.beq m 115) (yX1_next, cX1_next, 6, (Option.some Jvm.ClassFile.FieldType.int), none, 13) mt0)
def mt_390 : Nat → MT := fun m => cond (Nat.ble 114 m) (cond (Nat.beq m 114) (yX1_reuse, cX1_reuse, 9, (Option.some Jvm.ClassFile.FieldType.int), none, 22) mt0) (cond (Nat.beq m 113) (yX1_lifeOf, cX1_lifeOf, 3, (Option.some Jvm.ClassFile.FieldType.int), none, 15) mt0)
def mt_391 : Nat → MT := fun m => cond (Nat.ble 115 m) (mt_389 m) (mt_390 m)
def mt_392 : Nat → MT := fun m => cond (Nat.ble 112 m) (cond (Nat.beq m 112) (yX1_dueOf, cX1_dueOf, 6, (Option.some Jvm.ClassFile.FieldType.int), none, 16) mt0) (cond (Nat.beq m 111) (yX1_part, cX1_part, 6, (Option.some Jvm.ClassFile.FieldType.int), none, 17) mt0)
def mt_393 : Nat → MT := fun m => cond (Nat.ble 110 m) (cond (Nat.beq m 110) (yX1_yearNow, cX1_yearNow, 1, (Option.some Jvm.ClassFile.FieldType.int), none, 8) mt0) (cond (Nat.beq m 109) (yX1_fits_2, cX1_fits_2, 6, none, none, 21) mt0)
def mt_394 : Nat → MT := fun m => cond (Nat.ble 111 m) (mt_392 m) (mt_393 m)
def mt_395 : Nat → MT := fun m => cond (Nat.ble 113 m) (mt_391 m) (mt_394 m)
def mt_396 : Nat → MT := fun m => cond (Nat.ble 117 m) (mt_388 m) (mt_395 m)
def mt_397 : Nat → MT := fun m => cond (Nat.ble 108 m) (cond (Nat.beq m 108) (yX1_isBarred, cX1_isBarred, 5, (Option.some Jvm.ClassFile.FieldType.boolean), none, 15) mt0) (cond (Nat.beq m 107) (yX1_fits, cX1_fits, 6, (Option.some Jvm.ClassFile.FieldType.int), none, 22) mt0)
def mt_398 : Nat → MT := fun m => cond (Nat.ble 106 m) (cond (Nat.beq m 106) (yX1_isSerial, cX1_isSerial, 1, (Option.some Jvm.ClassFile.FieldType.boolean), none, 8) mt0) (cond (Nat.beq m 105) (yX1_fit, cX1_fit, 5, (Option.some Jvm.ClassFile.FieldType.int), none, 23) mt0)
def mt_399 : Nat → MT := fun m => cond (Nat.ble 107 m) (mt_397 m) (mt_398 m)
def mt_400 : Nat → MT := fun m => cond (Nat.ble 104 m) (cond (Nat.beq m 104) (yX1_barOf, cX1_barOf, 5, (Option.some Jvm.ClassFile.FieldType.int), none, 14) mt0) (cond (Nat.beq m 103) (yX1_modelOf, cX1_modelOf, 2, (Option.some (Jvm.ClassFile.FieldType.object "LimbBenches$Model")), none, 12) mt0)
def mt_401 : Nat → MT := fun m => cond (Nat.ble 102 m) (cond (Nat.beq m 102) (yX1_barred, cX1_barred, 5, (Option.some Jvm.ClassFile.FieldType.boolean), none, 15) mt0) (cond (Nat.beq m 101) (yX1_rightOf, cX1_rightOf, 3, (Option.some Jvm.ClassFile.FieldType.int), none, 15) mt0)
def mt_402 : Nat → MT := fun m => cond (Nat.ble 103 m) (mt_400 m) (mt_401 m)
def mt_403 : Nat → MT := fun m => cond (Nat.ble 105 m) (mt_399 m) (mt_402 m)
def mt_404 : Nat → MT := fun m => cond (Nat.ble 100 m) (cond (Nat.beq m 100) (yX1_told, cX1_told, 5, (Option.some Jvm.ClassFile.FieldType.int), none, 16) mt0) (cond (Nat.beq m 99) (yX1_size, cX1_size, 4, (Option.some Jvm.ClassFile.FieldType.int), none, 13) mt0)
def mt_405 : Nat → MT := fun m => cond (Nat.ble 98 m) (cond (Nat.beq m 98) (yX1_change, cX1_change, 6, (Option.some Jvm.ClassFile.FieldType.int), none, 13) mt0) (cond (Nat.beq m 97) (yX1_personOf, cX1_personOf, 2, (Option.some (Jvm.ClassFile.FieldType.object "LimbBenches$Person")), none, 12) mt0)
def mt_406 : Nat → MT := fun m => cond (Nat.ble 99 m) (mt_404 m) (mt_405 m)
def mt_407 : Nat → MT := fun m => cond (Nat.ble 96 m) (cond (Nat.beq m 96) (yX1_stump, cX1_stump, 6, (Option.some Jvm.ClassFile.FieldType.int), none, 13) mt0) (cond (Nat.beq m 95) (yX1_isTold, cX1_isTold, 2, (Option.some Jvm.ClassFile.FieldType.boolean), none, 8) mt0)
def mt_408 : Nat → MT := fun m => cond (Nat.ble 94 m) (cond (Nat.beq m 94) (yX1_person, cX1_person, 6, (Option.some Jvm.ClassFile.FieldType.int), none, 21) mt0) (cond (Nat.beq m 93) (yX1_days, cX1_days, 2, (Option.some Jvm.ClassFile.FieldType.int), none, 13) mt0)
def mt_409 : Nat → MT := fun m => cond (Nat.ble 95 m) (mt_407 m) (mt_408 m)
def mt_410 : Nat → MT := fun m => cond (Nat.ble 97 m) (mt_406 m) (mt_409 m)
def mt_411 : Nat → MT := fun m => cond (Nat.ble 101 m) (mt_403 m) (mt_410 m)
def mt_412 : Nat → MT := fun m => cond (Nat.ble 109 m) (mt_396 m) (mt_411 m)
def mt_413 : Nat → MT := fun m => cond (Nat.ble 92 m) (cond (Nat.beq m 92) (yX1_isKind, cX1_isKind, 1, (Option.some Jvm.ClassFile.FieldType.boolean), none, 8) mt0) (cond (Nat.beq m 91) (yX1_model, cX1_model, 5, (Option.some Jvm.ClassFile.FieldType.int), none, 21) mt0)
def mt_414 : Nat → MT := fun m => cond (Nat.ble 90 m) (cond (Nat.beq m 90) (yX1_counts, cX1_counts, 2, (Option.some Jvm.ClassFile.FieldType.int), none, 13) mt0) (cond (Nat.beq m 89) (yX1_need, cX1_need, 1, none, none, 12) mt0)
def mt_415 : Nat → MT := fun m => cond (Nat.ble 91 m) (mt_413 m) (mt_414 m)
def mt_416 : Nat → MT := fun m => cond (Nat.ble 88 m) (cond (Nat.beq m 88) (yX1_isDay, cX1_isDay, 1, (Option.some Jvm.ClassFile.FieldType.boolean), none, 8) mt0) (cond (Nat.beq m 87) (yX1_rules, cX1_rules, 6, (Option.some Jvm.ClassFile.FieldType.int), (some [(27, 45, 100, 127), (52, 93, 100, 127), (27, 45, 126, 0), (52, 93, 126, 0), (100, 118, 126, 0), (126, 128, 126, 0)]), 24) mt0)
def mt_417 : Nat → MT := fun m => cond (Nat.ble 86 m) (cond (Nat.beq m 86) (yX1_count, cX1_count, 2, (Option.some Jvm.ClassFile.FieldType.int), none, 9) mt0) (cond (Nat.beq m 85) (yX1_restore, cX1_restore, 1, (Option.some Jvm.ClassFile.FieldType.int), none, 8) mt0)
def mt_418 : Nat → MT := fun m => cond (Nat.ble 87 m) (mt_416 m) (mt_417 m)
def mt_419 : Nat → MT := fun m => cond (Nat.ble 89 m) (mt_415 m) (mt_418 m)
def mt_420 : Nat → MT := fun m => cond (Nat.ble 84 m) (cond (Nat.beq m 84) (yX1_image, cX1_image, 1, (Option.some Jvm.ClassFile.FieldType.int), none, 22) mt0) (cond (Nat.beq m 83) (yX1_look, cX1_look, 8, (Option.some Jvm.ClassFile.FieldType.int), none, 11) mt0)
def mt_421 : Nat → MT := fun m => cond (Nat.ble 82 m) (cond (Nat.beq m 82) (yX1_isOpen, cX1_isOpen, 2, (Option.some Jvm.ClassFile.FieldType.boolean), none, 8) mt0) (cond (Nat.beq m 81) (yX1_openNow, cX1_openNow, 3, (Option.some Jvm.ClassFile.FieldType.int), none, 11) mt0)
def mt_422 : Nat → MT := fun m => cond (Nat.ble 83 m) (mt_420 m) (mt_421 m)
def mt_423 : Nat → MT := fun m => cond (Nat.ble 80 m) (cond (Nat.beq m 80) (yX1_sure, cX1_sure, 2, (Option.some Jvm.ClassFile.FieldType.int), none, 12) mt0) (cond (Nat.beq m 79) (yX1_anew, cX1_anew, 2, (Option.some Jvm.ClassFile.FieldType.int), none, 9) mt0)
def mt_424 : Nat → MT := fun m => cond (Nat.ble 78 m) (cond (Nat.beq m 78) (yX1_ways, cX1_ways, 3, (Option.some Jvm.ClassFile.FieldType.int), none, 12) mt0) (cond (Nat.beq m 77) (yX1_gainOf, cX1_gainOf, 5, (Option.some Jvm.ClassFile.FieldType.int), none, 11) mt0)
def mt_425 : Nat → MT := fun m => cond (Nat.ble 79 m) (mt_423 m) (mt_424 m)
def mt_426 : Nat → MT := fun m => cond (Nat.ble 81 m) (mt_422 m) (mt_425 m)
def mt_427 : Nat → MT := fun m => cond (Nat.ble 85 m) (mt_419 m) (mt_426 m)
def mt_428 : Nat → MT := fun m => cond (Nat.ble 76 m) (cond (Nat.beq m 76) (yX1_gain, cX1_gain, 1, (Option.some Jvm.ClassFile.FieldType.int), none, 12) mt0) (cond (Nat.beq m 75) (yX1_wornRecalled, cX1_wornRecalled, 6, (Option.some Jvm.ClassFile.FieldType.int), none, 14) mt0)
def mt_429 : Nat → MT := fun m => cond (Nat.ble 74 m) (cond (Nat.beq m 74) (yX1_recalled, cX1_recalled, 3, (Option.some Jvm.ClassFile.FieldType.int), none, 15) mt0) (cond (Nat.beq m 73) (yX1_lends, cX1_lends, 7, none, none, 11) mt0)
def mt_430 : Nat → MT := fun m => cond (Nat.ble 75 m) (mt_428 m) (mt_429 m)
def mt_431 : Nat → MT := fun m => cond (Nat.ble 72 m) (cond (Nat.beq m 72) (yX1_findLent, cX1_findLent, 1, none, none, 12) mt0) (cond (Nat.beq m 71) (yX1_lending, cX1_lending, 1, (Option.some Jvm.ClassFile.FieldType.int), none, 13) mt0)
def mt_432 : Nat → MT := fun m => cond (Nat.ble 70 m) (cond (Nat.beq m 70) (yX1_doneAt, cX1_doneAt, 4, (Option.some Jvm.ClassFile.FieldType.int), none, 11) mt0) (cond (Nat.beq m 69) (yX1_orders, cX1_orders, 10, none, none, 12) mt0)
def mt_433 : Nat → MT := fun m => cond (Nat.ble 71 m) (mt_431 m) (mt_432 m)
def mt_434 : Nat → MT := fun m => cond (Nat.ble 73 m) (mt_430 m) (mt_433 m)
def mt_435 : Nat → MT := fun m => cond (Nat.ble 68 m) (cond (Nat.beq m 68) (yX1_otherFree, cX1_otherFree, 1, (Option.some Jvm.ClassFile.FieldType.int), none, 8) mt0) (cond (Nat.beq m 67) (yX1_findBest, cX1_findBest, 1, (Option.some Jvm.ClassFile.FieldType.int), none, 13) mt0)
def mt_436 : Nat → MT := fun m => cond (Nat.ble 66 m) (cond (Nat.beq m 66) (yX1_best, cX1_best, 3, (Option.some Jvm.ClassFile.FieldType.int), none, 14) mt0) (cond (Nat.beq m 65) (yX1_served, cX1_served, 7, (Option.some Jvm.ClassFile.FieldType.int), none, 17) mt0)
def mt_437 : Nat → MT := fun m => cond (Nat.ble 67 m) (mt_435 m) (mt_436 m)
def mt_438 : Nat → MT := fun m => cond (Nat.ble 64 m) (cond (Nat.beq m 64) (yX1_needsOf, cX1_needsOf, 5, (Option.some Jvm.ClassFile.FieldType.int), none, 13) mt0) (cond (Nat.beq m 63) (yX1_lacksOf, cX1_lacksOf, 4, (Option.some Jvm.ClassFile.FieldType.int), none, 14) mt0)
def mt_439 : Nat → MT := fun m => cond (Nat.beq m 62) (yX1_waitedOf, cX1_waitedOf, 5, (Option.some Jvm.ClassFile.FieldType.int), none, 15) mt0
def mt_440 : Nat → MT := fun m => cond (Nat.ble 63 m) (mt_438 m) (mt_439 m)
def mt_441 : Nat → MT := fun m => cond (Nat.ble 65 m) (mt_437 m) (mt_440 m)
def mt_442 : Nat → MT := fun m => cond (Nat.ble 69 m) (mt_434 m) (mt_441 m)
def mt_443 : Nat → MT := fun m => cond (Nat.ble 77 m) (mt_427 m) (mt_442 m)
def mt_444 : Nat → MT := fun m => cond (Nat.ble 93 m) (mt_412 m) (mt_443 m)
def mt_445 : Nat → MT := fun m => cond (Nat.ble 61 m) (cond (Nat.beq m 61) (yX1_lastOf, cX1_lastOf, 5, (Option.some (Jvm.ClassFile.FieldType.object "LimbBenches$Clause")), none, 13) mt0) (cond (Nat.beq m 60) (yX1_valueOf, cX1_valueOf, 5, (Option.some Jvm.ClassFile.FieldType.int), none, 14) mt0)
def mt_446 : Nat → MT := fun m => cond (Nat.ble 59 m) (cond (Nat.beq m 59) (yX1_countsOn, cX1_countsOn, 4, (Option.some Jvm.ClassFile.FieldType.int), none, 11) mt0) (cond (Nat.beq m 58) (yX1_name_2, cX1_name_2, 4, none, none, 12) mt0)
def mt_447 : Nat → MT := fun m => cond (Nat.ble 60 m) (mt_445 m) (mt_446 m)
def mt_448 : Nat → MT := fun m => cond (Nat.ble 57 m) (cond (Nat.beq m 57) (yX1_name, cX1_name, 2, none, none, 13) mt0) (cond (Nat.beq m 56) (yX1_overOf, cX1_overOf, 3, (Option.some Jvm.ClassFile.FieldType.int), none, 16) mt0)
def mt_449 : Nat → MT := fun m => cond (Nat.ble 55 m) (cond (Nat.beq m 55) (yX1_beyond, cX1_beyond, 3, (Option.some Jvm.ClassFile.FieldType.int), none, 17) mt0) (cond (Nat.beq m 54) (yX1_fault, cX1_fault, 1, (Option.some Jvm.ClassFile.FieldType.int), none, 8) mt0)
def mt_450 : Nat → MT := fun m => cond (Nat.ble 56 m) (mt_448 m) (mt_449 m)
def mt_451 : Nat → MT := fun m => cond (Nat.ble 58 m) (mt_447 m) (mt_450 m)
def mt_452 : Nat → MT := fun m => cond (Nat.ble 53 m) (cond (Nat.beq m 53) (yX1_put, cX1_put, 3, none, none, 8) mt0) (cond (Nat.beq m 52) (yX1_feed, cX1_feed, 6, (Option.some Jvm.ClassFile.FieldType.int), none, 9) mt0)
def mt_453 : Nat → MT := fun m => cond (Nat.ble 51 m) (cond (Nat.beq m 51) (yX1_init, cX1_init, 1, none, none, 19) mt0) (cond (Nat.beq m 50) (yX0_spent, cX0_spent, 5, (Option.some Jvm.ClassFile.FieldType.int), (some [(0, 10, 13, 36), (0, 10, 17, 13)]), 14) mt0)
def mt_454 : Nat → MT := fun m => cond (Nat.ble 52 m) (mt_452 m) (mt_453 m)
def mt_455 : Nat → MT := fun m => cond (Nat.ble 49 m) (cond (Nat.beq m 49) (yX0_changed, cX0_changed, 5, (Option.some Jvm.ClassFile.FieldType.int), (some [(0, 10, 13, 36), (0, 10, 17, 13)]), 14) mt0) (cond (Nat.beq m 48) (yX0_walk, cX0_walk, 6, (Option.some Jvm.ClassFile.FieldType.int), (some [(0, 12, 15, 36), (0, 12, 19, 13)]), 22) mt0)
def mt_456 : Nat → MT := fun m => cond (Nat.ble 47 m) (cond (Nat.beq m 47) (yX0_see, cX0_see, 5, (Option.some Jvm.ClassFile.FieldType.int), (some [(0, 10, 13, 13)]), 14) mt0) (cond (Nat.beq m 46) (yX0_cause, cX0_cause, 5, (Option.some Jvm.ClassFile.FieldType.int), (some [(0, 10, 13, 13)]), 22) mt0)
def mt_457 : Nat → MT := fun m => cond (Nat.ble 48 m) (mt_455 m) (mt_456 m)
def mt_458 : Nat → MT := fun m => cond (Nat.ble 50 m) (mt_454 m) (mt_457 m)
def mt_459 : Nat → MT := fun m => cond (Nat.ble 54 m) (mt_451 m) (mt_458 m)
def mt_460 : Nat → MT := fun m => cond (Nat.ble 45 m) (cond (Nat.beq m 45) (yX0_trial, cX0_trial, 5, (Option.some Jvm.ClassFile.FieldType.int), (some [(0, 10, 13, 13)]), 22) mt0) (cond (Nat.beq m 44) (yX0_better, cX0_better, 6, (Option.some Jvm.ClassFile.FieldType.int), (some [(0, 12, 15, 13)]), 14) mt0)
def mt_461 : Nat → MT := fun m => cond (Nat.ble 43 m) (cond (Nat.beq m 43) (yX0_skill, cX0_skill, 6, (Option.some Jvm.ClassFile.FieldType.int), (some [(0, 12, 15, 13)]), 14) mt0) (cond (Nat.beq m 42) (yX0_blister, cX0_blister, 4, (Option.some Jvm.ClassFile.FieldType.int), (some [(0, 9, 12, 36)]), 14) mt0)
def mt_462 : Nat → MT := fun m => cond (Nat.ble 44 m) (mt_460 m) (mt_461 m)
def mt_463 : Nat → MT := fun m => cond (Nat.ble 41 m) (cond (Nat.beq m 41) (yX0_fitter, cX0_fitter, 4, (Option.some Jvm.ClassFile.FieldType.int), (some [(0, 9, 12, 13)]), 14) mt0) (cond (Nat.beq m 40) (yX0_chance, cX0_chance, 6, (Option.some Jvm.ClassFile.FieldType.int), (some [(0, 12, 15, 36), (0, 12, 19, 13)]), 23) mt0)
def mt_464 : Nat → MT := fun m => cond (Nat.ble 39 m) (cond (Nat.beq m 39) (yX0_nextBy, cX0_nextBy, 6, (Option.some Jvm.ClassFile.FieldType.int), (some [(0, 12, 15, 36), (0, 12, 19, 13)]), 23) mt0) (cond (Nat.beq m 38) (yX0_growth, cX0_growth, 5, (Option.some Jvm.ClassFile.FieldType.int), (some [(0, 10, 13, 36), (0, 10, 17, 13)]), 23) mt0)
def mt_465 : Nat → MT := fun m => cond (Nat.ble 40 m) (mt_463 m) (mt_464 m)
def mt_466 : Nat → MT := fun m => cond (Nat.ble 42 m) (mt_462 m) (mt_465 m)
def mt_467 : Nat → MT := fun m => cond (Nat.ble 37 m) (cond (Nat.beq m 37) (yX0_measure, cX0_measure, 6, (Option.some Jvm.ClassFile.FieldType.int), (some [(0, 12, 15, 36), (0, 12, 19, 13)]), 22) mt0) (cond (Nat.beq m 36) (yX0_seen, cX0_seen, 5, (Option.some Jvm.ClassFile.FieldType.int), (some [(0, 10, 13, 36), (0, 10, 17, 13)]), 16) mt0)
def mt_468 : Nat → MT := fun m => cond (Nat.ble 35 m) (cond (Nat.beq m 35) (yX0_recall, cX0_recall, 6, (Option.some Jvm.ClassFile.FieldType.int), (some [(0, 12, 15, 51), (0, 12, 19, 13)]), 14) mt0) (cond (Nat.beq m 34) (yX0_lent, cX0_lent, 4, (Option.some Jvm.ClassFile.FieldType.int), (some [(0, 9, 12, 36)]), 14) mt0)
def mt_469 : Nat → MT := fun m => cond (Nat.ble 36 m) (mt_467 m) (mt_468 m)
def mt_470 : Nat → MT := fun m => cond (Nat.ble 33 m) (cond (Nat.beq m 33) (yX0_spare, cX0_spare, 4, (Option.some Jvm.ClassFile.FieldType.int), (some [(0, 9, 12, 51)]), 14) mt0) (cond (Nat.beq m 32) (yX0_stock, cX0_stock, 4, (Option.some Jvm.ClassFile.FieldType.int), (some [(0, 9, 12, 51)]), 14) mt0)
def mt_471 : Nat → MT := fun m => cond (Nat.beq m 31) (yX0_late, cX0_late, 5, (Option.some Jvm.ClassFile.FieldType.int), (some [(0, 10, 13, 36), (0, 10, 17, 13)]), 14) mt0
def mt_472 : Nat → MT := fun m => cond (Nat.ble 32 m) (mt_470 m) (mt_471 m)
def mt_473 : Nat → MT := fun m => cond (Nat.ble 34 m) (mt_469 m) (mt_472 m)
def mt_474 : Nat → MT := fun m => cond (Nat.ble 38 m) (mt_466 m) (mt_473 m)
def mt_475 : Nat → MT := fun m => cond (Nat.ble 46 m) (mt_459 m) (mt_474 m)
def mt_476 : Nat → MT := fun m => cond (Nat.ble 30 m) (cond (Nat.beq m 30) (yX0_forecast, cX0_forecast, 5, (Option.some Jvm.ClassFile.FieldType.int), (some [(0, 10, 13, 36)]), 14) mt0) (cond (Nat.beq m 29) (yX0_lose, cX0_lose, 4, (Option.some Jvm.ClassFile.FieldType.int), (some [(0, 9, 12, 36)]), 14) mt0)
def mt_477 : Nat → MT := fun m => cond (Nat.ble 28 m) (cond (Nat.beq m 28) (yX0_arrive, cX0_arrive, 4, (Option.some Jvm.ClassFile.FieldType.int), (some [(0, 9, 12, 36)]), 14) mt0) (cond (Nat.beq m 27) (yX0_order, cX0_order, 5, (Option.some Jvm.ClassFile.FieldType.int), (some [(0, 10, 13, 36), (0, 10, 17, 51)]), 22) mt0)
def mt_478 : Nat → MT := fun m => cond (Nat.ble 29 m) (mt_476 m) (mt_477 m)
def mt_479 : Nat → MT := fun m => cond (Nat.ble 26 m) (cond (Nat.beq m 26) (yX0_maker, cX0_maker, 4, (Option.some Jvm.ClassFile.FieldType.int), (some [(0, 9, 12, 13)]), 22) mt0) (cond (Nat.beq m 25) (yX0_done, cX0_done, 4, (Option.some Jvm.ClassFile.FieldType.int), (some [(0, 9, 12, 51)]), 15) mt0)
def mt_480 : Nat → MT := fun m => cond (Nat.ble 24 m) (cond (Nat.beq m 24) (yX0_delay, cX0_delay, 5, (Option.some Jvm.ClassFile.FieldType.int), (some [(0, 10, 13, 51), (0, 10, 17, 13)]), 15) mt0) (cond (Nat.beq m 23) (yX0_cost, cX0_cost, 4, (Option.some Jvm.ClassFile.FieldType.int), (some [(0, 9, 12, 13)]), 14) mt0)
def mt_481 : Nat → MT := fun m => cond (Nat.ble 25 m) (mt_479 m) (mt_480 m)
def mt_482 : Nat → MT := fun m => cond (Nat.ble 27 m) (mt_478 m) (mt_481 m)
def mt_483 : Nat → MT := fun m => cond (Nat.ble 22 m) (cond (Nat.beq m 22) (yX0_benches, cX0_benches, 4, (Option.some Jvm.ClassFile.FieldType.int), (some [(0, 9, 12, 13)]), 14) mt0) (cond (Nat.beq m 21) (yX0_job, cX0_job, 7, (Option.some Jvm.ClassFile.FieldType.int), (some [(0, 14, 17, 36), (0, 14, 21, 13)]), 22) mt0)
def mt_484 : Nat → MT := fun m => cond (Nat.ble 20 m) (cond (Nat.beq m 20) (yX0_clause, cX0_clause, 5, (Option.some Jvm.ClassFile.FieldType.int), (some [(0, 10, 13, 36), (0, 10, 17, 13)]), 16) mt0) (cond (Nat.beq m 19) (yX0_choose, cX0_choose, 5, (Option.some Jvm.ClassFile.FieldType.int), (some [(0, 10, 13, 36), (0, 10, 17, 13)]), 19) mt0)
def mt_485 : Nat → MT := fun m => cond (Nat.ble 21 m) (mt_483 m) (mt_484 m)
def mt_486 : Nat → MT := fun m => cond (Nat.ble 18 m) (cond (Nat.beq m 18) (yX0_choice, cX0_choice, 5, (Option.some Jvm.ClassFile.FieldType.int), (some [(0, 10, 13, 36), (0, 10, 17, 13)]), 19) mt0) (cond (Nat.beq m 17) (yX0_lacks, cX0_lacks, 5, (Option.some Jvm.ClassFile.FieldType.int), (some [(0, 10, 13, 36), (0, 10, 17, 13)]), 17) mt0)
def mt_487 : Nat → MT := fun m => cond (Nat.ble 16 m) (cond (Nat.beq m 16) (yX0_fits, cX0_fits, 6, (Option.some Jvm.ClassFile.FieldType.int), (some [(0, 12, 15, 36), (0, 12, 19, 13)]), 14) mt0) (cond (Nat.beq m 15) (yX0_beside, cX0_beside, 5, (Option.some Jvm.ClassFile.FieldType.int), (some [(0, 10, 13, 36), (0, 10, 17, 13)]), 18) mt0)
def mt_488 : Nat → MT := fun m => cond (Nat.ble 17 m) (mt_486 m) (mt_487 m)
def mt_489 : Nat → MT := fun m => cond (Nat.ble 19 m) (mt_485 m) (mt_488 m)
def mt_490 : Nat → MT := fun m => cond (Nat.ble 23 m) (mt_482 m) (mt_489 m)
def mt_491 : Nat → MT := fun m => cond (Nat.ble 14 m) (cond (Nat.beq m 14) (yX0_take, cX0_take, 6, (Option.some Jvm.ClassFile.FieldType.int), (some [(0, 12, 15, 36), (0, 12, 19, 51), (0, 12, 23, 13)]), 24) mt0) (cond (Nat.beq m 13) (yX0_next, cX0_next, 5, (Option.some Jvm.ClassFile.FieldType.int), (some [(0, 10, 13, 36), (0, 10, 17, 13)]), 14) mt0)
def mt_492 : Nat → MT := fun m => cond (Nat.ble 12 m) (cond (Nat.beq m 12) (yX0_reuse, cX0_reuse, 6, (Option.some Jvm.ClassFile.FieldType.int), (some [(0, 12, 15, 36), (0, 12, 19, 13)]), 23) mt0) (cond (Nat.beq m 11) (yX0_part, cX0_part, 6, (Option.some Jvm.ClassFile.FieldType.int), (some [(0, 12, 15, 36), (0, 12, 19, 13)]), 18) mt0)
def mt_493 : Nat → MT := fun m => cond (Nat.ble 13 m) (mt_491 m) (mt_492 m)
def mt_494 : Nat → MT := fun m => cond (Nat.ble 10 m) (cond (Nat.beq m 10) (yX0_fit, cX0_fit, 6, (Option.some Jvm.ClassFile.FieldType.int), (some [(0, 12, 15, 36), (0, 12, 19, 51), (0, 12, 23, 13)]), 24) mt0) (cond (Nat.beq m 9) (yX0_barred, cX0_barred, 6, (Option.some Jvm.ClassFile.FieldType.int), (some [(0, 19, 22, 36), (0, 19, 26, 51)]), 16) mt0)
def mt_495 : Nat → MT := fun m => cond (Nat.ble 8 m) (cond (Nat.beq m 8) (yX0_told, cX0_told, 6, (Option.some Jvm.ClassFile.FieldType.int), (some [(0, 12, 15, 36), (0, 12, 19, 13)]), 17) mt0) (cond (Nat.beq m 7) (yX0_size, cX0_size, 5, (Option.some Jvm.ClassFile.FieldType.int), (some [(0, 10, 13, 36), (0, 10, 17, 13)]), 14) mt0)
def mt_496 : Nat → MT := fun m => cond (Nat.ble 9 m) (mt_494 m) (mt_495 m)
def mt_497 : Nat → MT := fun m => cond (Nat.ble 11 m) (mt_493 m) (mt_496 m)
def mt_498 : Nat → MT := fun m => cond (Nat.ble 6 m) (cond (Nat.beq m 6) (yX0_change, cX0_change, 6, (Option.some Jvm.ClassFile.FieldType.int), (some [(0, 12, 15, 36), (0, 12, 19, 13)]), 14) mt0) (cond (Nat.beq m 5) (yX0_stump, cX0_stump, 6, (Option.some Jvm.ClassFile.FieldType.int), (some [(0, 12, 15, 36), (0, 12, 19, 13)]), 14) mt0)
def mt_499 : Nat → MT := fun m => cond (Nat.ble 4 m) (cond (Nat.beq m 4) (yX0_person, cX0_person, 8, (Option.some Jvm.ClassFile.FieldType.int), (some [(0, 16, 19, 13)]), 22) mt0) (cond (Nat.beq m 3) (yX0_days, cX0_days, 4, (Option.some Jvm.ClassFile.FieldType.int), (some [(0, 9, 12, 13), (0, 9, 15, 26)]), 14) mt0)
def mt_500 : Nat → MT := fun m => cond (Nat.ble 5 m) (mt_498 m) (mt_499 m)
def mt_501 : Nat → MT := fun m => cond (Nat.ble 2 m) (cond (Nat.beq m 2) (yX0_model, cX0_model, 7, (Option.some Jvm.ClassFile.FieldType.int), (some [(0, 14, 17, 13)]), 22) mt0) (cond (Nat.beq m 1) (yX0_counts, cX0_counts, 4, (Option.some Jvm.ClassFile.FieldType.int), (some [(0, 9, 12, 13)]), 14) mt0)
def mt_502 : Nat → MT := fun m => cond (Nat.beq m 0) (yX0_rules, cX0_rules, 5, (Option.some Jvm.ClassFile.FieldType.int), (some [(0, 10, 13, 13)]), 25) mt0
def mt_503 : Nat → MT := fun m => cond (Nat.ble 1 m) (mt_501 m) (mt_502 m)
def mt_504 : Nat → MT := fun m => cond (Nat.ble 3 m) (mt_500 m) (mt_503 m)
def mt_505 : Nat → MT := fun m => cond (Nat.ble 7 m) (mt_497 m) (mt_504 m)
def mt_506 : Nat → MT := fun m => cond (Nat.ble 15 m) (mt_490 m) (mt_505 m)
def mt_507 : Nat → MT := fun m => cond (Nat.ble 31 m) (mt_475 m) (mt_506 m)
def mt_508 : Nat → MT := fun m => cond (Nat.ble 62 m) (mt_444 m) (mt_507 m)
def mt_509 : Nat → MT := fun m => cond (Nat.ble 125 m) (mt_381 m) (mt_508 m)
def mt : Nat → MT := fun m => cond (Nat.ble 250 m) (mt_254 m) (mt_509 m)
theorem mm0 : mt 0 = (yX0_rules, cX0_rules, 5, (Option.some Jvm.ClassFile.FieldType.int), (some [(0, 10, 13, 13)]), 25) := rfl
theorem pa0 : ParN yX0_rules 4 := ⟨by decide, by decide, by decide +kernel⟩
theorem mm1 : mt 1 = (yX0_counts, cX0_counts, 4, (Option.some Jvm.ClassFile.FieldType.int), (some [(0, 9, 12, 13)]), 14) := rfl
theorem pa1 : ParN yX0_counts 3 := ⟨by decide, by decide, by decide +kernel⟩
theorem mm2 : mt 2 = (yX0_model, cX0_model, 7, (Option.some Jvm.ClassFile.FieldType.int), (some [(0, 14, 17, 13)]), 22) := rfl
theorem pa2 : ParN yX0_model 6 := ⟨by decide, by decide, by decide +kernel⟩
theorem mm3 : mt 3 = (yX0_days, cX0_days, 4, (Option.some Jvm.ClassFile.FieldType.int), (some [(0, 9, 12, 13), (0, 9, 15, 26)]), 14) := rfl
theorem pa3 : ParN yX0_days 3 := ⟨by decide, by decide, by decide +kernel⟩
theorem mm4 : mt 4 = (yX0_person, cX0_person, 8, (Option.some Jvm.ClassFile.FieldType.int), (some [(0, 16, 19, 13)]), 22) := rfl
theorem pa4 : ParN yX0_person 7 := ⟨by decide, by decide, by decide +kernel⟩
theorem mm5 : mt 5 = (yX0_stump, cX0_stump, 6, (Option.some Jvm.ClassFile.FieldType.int), (some [(0, 12, 15, 36), (0, 12, 19, 13)]), 14) := rfl
theorem pa5 : ParN yX0_stump 5 := ⟨by decide, by decide, by decide +kernel⟩
theorem mm6 : mt 6 = (yX0_change, cX0_change, 6, (Option.some Jvm.ClassFile.FieldType.int), (some [(0, 12, 15, 36), (0, 12, 19, 13)]), 14) := rfl
theorem pa6 : ParN yX0_change 5 := ⟨by decide, by decide, by decide +kernel⟩
theorem mm7 : mt 7 = (yX0_size, cX0_size, 5, (Option.some Jvm.ClassFile.FieldType.int), (some [(0, 10, 13, 36), (0, 10, 17, 13)]), 14) := rfl
theorem pa7 : ParN yX0_size 4 := ⟨by decide, by decide, by decide +kernel⟩
theorem mm8 : mt 8 = (yX0_told, cX0_told, 6, (Option.some Jvm.ClassFile.FieldType.int), (some [(0, 12, 15, 36), (0, 12, 19, 13)]), 17) := rfl
theorem pa8 : ParN yX0_told 5 := ⟨by decide, by decide, by decide +kernel⟩
theorem mm9 : mt 9 = (yX0_barred, cX0_barred, 6, (Option.some Jvm.ClassFile.FieldType.int), (some [(0, 19, 22, 36), (0, 19, 26, 51)]), 16) := rfl
theorem pa9 : ParN yX0_barred 5 := ⟨by decide, by decide, by decide +kernel⟩
theorem mm10 : mt 10 = (yX0_fit, cX0_fit, 6, (Option.some Jvm.ClassFile.FieldType.int), (some [(0, 12, 15, 36), (0, 12, 19, 51), (0, 12, 23, 13)]), 24) := rfl
theorem pa10 : ParN yX0_fit 5 := ⟨by decide, by decide, by decide +kernel⟩
theorem mm11 : mt 11 = (yX0_part, cX0_part, 6, (Option.some Jvm.ClassFile.FieldType.int), (some [(0, 12, 15, 36), (0, 12, 19, 13)]), 18) := rfl
theorem pa11 : ParN yX0_part 5 := ⟨by decide, by decide, by decide +kernel⟩
theorem mm12 : mt 12 = (yX0_reuse, cX0_reuse, 6, (Option.some Jvm.ClassFile.FieldType.int), (some [(0, 12, 15, 36), (0, 12, 19, 13)]), 23) := rfl
theorem pa12 : ParN yX0_reuse 5 := ⟨by decide, by decide, by decide +kernel⟩
theorem mm13 : mt 13 = (yX0_next, cX0_next, 5, (Option.some Jvm.ClassFile.FieldType.int), (some [(0, 10, 13, 36), (0, 10, 17, 13)]), 14) := rfl
theorem pa13 : ParN yX0_next 4 := ⟨by decide, by decide, by decide +kernel⟩
theorem mm14 : mt 14 = (yX0_take, cX0_take, 6, (Option.some Jvm.ClassFile.FieldType.int), (some [(0, 12, 15, 36), (0, 12, 19, 51), (0, 12, 23, 13)]), 24) := rfl
theorem pa14 : ParN yX0_take 5 := ⟨by decide, by decide, by decide +kernel⟩
theorem mm15 : mt 15 = (yX0_beside, cX0_beside, 5, (Option.some Jvm.ClassFile.FieldType.int), (some [(0, 10, 13, 36), (0, 10, 17, 13)]), 18) := rfl
theorem pa15 : ParN yX0_beside 4 := ⟨by decide, by decide, by decide +kernel⟩
theorem mm16 : mt 16 = (yX0_fits, cX0_fits, 6, (Option.some Jvm.ClassFile.FieldType.int), (some [(0, 12, 15, 36), (0, 12, 19, 13)]), 14) := rfl
theorem pa16 : ParN yX0_fits 5 := ⟨by decide, by decide, by decide +kernel⟩
theorem mm17 : mt 17 = (yX0_lacks, cX0_lacks, 5, (Option.some Jvm.ClassFile.FieldType.int), (some [(0, 10, 13, 36), (0, 10, 17, 13)]), 17) := rfl
theorem pa17 : ParN yX0_lacks 4 := ⟨by decide, by decide, by decide +kernel⟩
theorem mm18 : mt 18 = (yX0_choice, cX0_choice, 5, (Option.some Jvm.ClassFile.FieldType.int), (some [(0, 10, 13, 36), (0, 10, 17, 13)]), 19) := rfl
theorem pa18 : ParN yX0_choice 4 := ⟨by decide, by decide, by decide +kernel⟩
theorem mm19 : mt 19 = (yX0_choose, cX0_choose, 5, (Option.some Jvm.ClassFile.FieldType.int), (some [(0, 10, 13, 36), (0, 10, 17, 13)]), 19) := rfl
theorem pa19 : ParN yX0_choose 4 := ⟨by decide, by decide, by decide +kernel⟩
theorem mm20 : mt 20 = (yX0_clause, cX0_clause, 5, (Option.some Jvm.ClassFile.FieldType.int), (some [(0, 10, 13, 36), (0, 10, 17, 13)]), 16) := rfl
theorem pa20 : ParN yX0_clause 4 := ⟨by decide, by decide, by decide +kernel⟩
theorem mm21 : mt 21 = (yX0_job, cX0_job, 7, (Option.some Jvm.ClassFile.FieldType.int), (some [(0, 14, 17, 36), (0, 14, 21, 13)]), 22) := rfl
theorem pa21 : ParN yX0_job 6 := ⟨by decide, by decide, by decide +kernel⟩
theorem mm22 : mt 22 = (yX0_benches, cX0_benches, 4, (Option.some Jvm.ClassFile.FieldType.int), (some [(0, 9, 12, 13)]), 14) := rfl
theorem pa22 : ParN yX0_benches 3 := ⟨by decide, by decide, by decide +kernel⟩
theorem mm23 : mt 23 = (yX0_cost, cX0_cost, 4, (Option.some Jvm.ClassFile.FieldType.int), (some [(0, 9, 12, 13)]), 14) := rfl
theorem pa23 : ParN yX0_cost 3 := ⟨by decide, by decide, by decide +kernel⟩
theorem mm24 : mt 24 = (yX0_delay, cX0_delay, 5, (Option.some Jvm.ClassFile.FieldType.int), (some [(0, 10, 13, 51), (0, 10, 17, 13)]), 15) := rfl
theorem pa24 : ParN yX0_delay 4 := ⟨by decide, by decide, by decide +kernel⟩
theorem mm25 : mt 25 = (yX0_done, cX0_done, 4, (Option.some Jvm.ClassFile.FieldType.int), (some [(0, 9, 12, 51)]), 15) := rfl
theorem pa25 : ParN yX0_done 3 := ⟨by decide, by decide, by decide +kernel⟩
theorem mm26 : mt 26 = (yX0_maker, cX0_maker, 4, (Option.some Jvm.ClassFile.FieldType.int), (some [(0, 9, 12, 13)]), 22) := rfl
theorem pa26 : ParN yX0_maker 3 := ⟨by decide, by decide, by decide +kernel⟩
theorem mm27 : mt 27 = (yX0_order, cX0_order, 5, (Option.some Jvm.ClassFile.FieldType.int), (some [(0, 10, 13, 36), (0, 10, 17, 51)]), 22) := rfl
theorem pa27 : ParN yX0_order 4 := ⟨by decide, by decide, by decide +kernel⟩
theorem mm28 : mt 28 = (yX0_arrive, cX0_arrive, 4, (Option.some Jvm.ClassFile.FieldType.int), (some [(0, 9, 12, 36)]), 14) := rfl
theorem pa28 : ParN yX0_arrive 3 := ⟨by decide, by decide, by decide +kernel⟩
theorem mm29 : mt 29 = (yX0_lose, cX0_lose, 4, (Option.some Jvm.ClassFile.FieldType.int), (some [(0, 9, 12, 36)]), 14) := rfl
theorem pa29 : ParN yX0_lose 3 := ⟨by decide, by decide, by decide +kernel⟩
theorem mm30 : mt 30 = (yX0_forecast, cX0_forecast, 5, (Option.some Jvm.ClassFile.FieldType.int), (some [(0, 10, 13, 36)]), 14) := rfl
theorem pa30 : ParN yX0_forecast 4 := ⟨by decide, by decide, by decide +kernel⟩
theorem mm31 : mt 31 = (yX0_late, cX0_late, 5, (Option.some Jvm.ClassFile.FieldType.int), (some [(0, 10, 13, 36), (0, 10, 17, 13)]), 14) := rfl
theorem pa31 : ParN yX0_late 4 := ⟨by decide, by decide, by decide +kernel⟩
theorem mm32 : mt 32 = (yX0_stock, cX0_stock, 4, (Option.some Jvm.ClassFile.FieldType.int), (some [(0, 9, 12, 51)]), 14) := rfl
theorem pa32 : ParN yX0_stock 3 := ⟨by decide, by decide, by decide +kernel⟩
theorem mm33 : mt 33 = (yX0_spare, cX0_spare, 4, (Option.some Jvm.ClassFile.FieldType.int), (some [(0, 9, 12, 51)]), 14) := rfl
theorem pa33 : ParN yX0_spare 3 := ⟨by decide, by decide, by decide +kernel⟩
theorem mm34 : mt 34 = (yX0_lent, cX0_lent, 4, (Option.some Jvm.ClassFile.FieldType.int), (some [(0, 9, 12, 36)]), 14) := rfl
theorem pa34 : ParN yX0_lent 3 := ⟨by decide, by decide, by decide +kernel⟩
theorem mm35 : mt 35 = (yX0_recall, cX0_recall, 6, (Option.some Jvm.ClassFile.FieldType.int), (some [(0, 12, 15, 51), (0, 12, 19, 13)]), 14) := rfl
theorem pa35 : ParN yX0_recall 5 := ⟨by decide, by decide, by decide +kernel⟩
theorem mm36 : mt 36 = (yX0_seen, cX0_seen, 5, (Option.some Jvm.ClassFile.FieldType.int), (some [(0, 10, 13, 36), (0, 10, 17, 13)]), 16) := rfl
theorem pa36 : ParN yX0_seen 4 := ⟨by decide, by decide, by decide +kernel⟩
theorem mm37 : mt 37 = (yX0_measure, cX0_measure, 6, (Option.some Jvm.ClassFile.FieldType.int), (some [(0, 12, 15, 36), (0, 12, 19, 13)]), 22) := rfl
theorem pa37 : ParN yX0_measure 5 := ⟨by decide, by decide, by decide +kernel⟩
theorem mm38 : mt 38 = (yX0_growth, cX0_growth, 5, (Option.some Jvm.ClassFile.FieldType.int), (some [(0, 10, 13, 36), (0, 10, 17, 13)]), 23) := rfl
theorem pa38 : ParN yX0_growth 4 := ⟨by decide, by decide, by decide +kernel⟩
theorem mm39 : mt 39 = (yX0_nextBy, cX0_nextBy, 6, (Option.some Jvm.ClassFile.FieldType.int), (some [(0, 12, 15, 36), (0, 12, 19, 13)]), 23) := rfl
theorem pa39 : ParN yX0_nextBy 5 := ⟨by decide, by decide, by decide +kernel⟩
theorem mm40 : mt 40 = (yX0_chance, cX0_chance, 6, (Option.some Jvm.ClassFile.FieldType.int), (some [(0, 12, 15, 36), (0, 12, 19, 13)]), 23) := rfl
theorem pa40 : ParN yX0_chance 5 := ⟨by decide, by decide, by decide +kernel⟩
theorem mm41 : mt 41 = (yX0_fitter, cX0_fitter, 4, (Option.some Jvm.ClassFile.FieldType.int), (some [(0, 9, 12, 13)]), 14) := rfl
theorem pa41 : ParN yX0_fitter 3 := ⟨by decide, by decide, by decide +kernel⟩
theorem mm42 : mt 42 = (yX0_blister, cX0_blister, 4, (Option.some Jvm.ClassFile.FieldType.int), (some [(0, 9, 12, 36)]), 14) := rfl
theorem pa42 : ParN yX0_blister 3 := ⟨by decide, by decide, by decide +kernel⟩
theorem mm43 : mt 43 = (yX0_skill, cX0_skill, 6, (Option.some Jvm.ClassFile.FieldType.int), (some [(0, 12, 15, 13)]), 14) := rfl
theorem pa43 : ParN yX0_skill 5 := ⟨by decide, by decide, by decide +kernel⟩
theorem mm44 : mt 44 = (yX0_better, cX0_better, 6, (Option.some Jvm.ClassFile.FieldType.int), (some [(0, 12, 15, 13)]), 14) := rfl
theorem pa44 : ParN yX0_better 5 := ⟨by decide, by decide, by decide +kernel⟩
theorem mm45 : mt 45 = (yX0_trial, cX0_trial, 5, (Option.some Jvm.ClassFile.FieldType.int), (some [(0, 10, 13, 13)]), 22) := rfl
theorem pa45 : ParN yX0_trial 4 := ⟨by decide, by decide, by decide +kernel⟩
theorem mm46 : mt 46 = (yX0_cause, cX0_cause, 5, (Option.some Jvm.ClassFile.FieldType.int), (some [(0, 10, 13, 13)]), 22) := rfl
theorem pa46 : ParN yX0_cause 4 := ⟨by decide, by decide, by decide +kernel⟩
theorem mm47 : mt 47 = (yX0_see, cX0_see, 5, (Option.some Jvm.ClassFile.FieldType.int), (some [(0, 10, 13, 13)]), 14) := rfl
theorem pa47 : ParN yX0_see 4 := ⟨by decide, by decide, by decide +kernel⟩
theorem mm48 : mt 48 = (yX0_walk, cX0_walk, 6, (Option.some Jvm.ClassFile.FieldType.int), (some [(0, 12, 15, 36), (0, 12, 19, 13)]), 22) := rfl
theorem pa48 : ParN yX0_walk 5 := ⟨by decide, by decide, by decide +kernel⟩
theorem mm49 : mt 49 = (yX0_changed, cX0_changed, 5, (Option.some Jvm.ClassFile.FieldType.int), (some [(0, 10, 13, 36), (0, 10, 17, 13)]), 14) := rfl
theorem pa49 : ParN yX0_changed 4 := ⟨by decide, by decide, by decide +kernel⟩
theorem mm50 : mt 50 = (yX0_spent, cX0_spent, 5, (Option.some Jvm.ClassFile.FieldType.int), (some [(0, 10, 13, 36), (0, 10, 17, 13)]), 14) := rfl
theorem pa50 : ParN yX0_spent 4 := ⟨by decide, by decide, by decide +kernel⟩
theorem mm51 : mt 51 = (yX1_init, cX1_init, 1, none, none, 19) := rfl
theorem pa51 : ParN yX1_init 0 := ⟨by decide, by decide, by decide +kernel⟩
theorem mm52 : mt 52 = (yX1_feed, cX1_feed, 6, (Option.some Jvm.ClassFile.FieldType.int), none, 9) := rfl
theorem pa52 : ParN yX1_feed 5 := ⟨by decide, by decide, by decide +kernel⟩
theorem mm53 : mt 53 = (yX1_put, cX1_put, 3, none, none, 8) := rfl
theorem pa53 : ParN yX1_put 1 := ⟨by decide, by decide, by decide +kernel⟩
theorem mm54 : mt 54 = (yX1_fault, cX1_fault, 1, (Option.some Jvm.ClassFile.FieldType.int), none, 8) := rfl
theorem pa54 : ParN yX1_fault 0 := ⟨by decide, by decide, by decide +kernel⟩
theorem mm55 : mt 55 = (yX1_beyond, cX1_beyond, 3, (Option.some Jvm.ClassFile.FieldType.int), none, 17) := rfl
theorem pa55 : ParN yX1_beyond 0 := ⟨by decide, by decide, by decide +kernel⟩
theorem mm56 : mt 56 = (yX1_overOf, cX1_overOf, 3, (Option.some Jvm.ClassFile.FieldType.int), none, 16) := rfl
theorem pa56 : ParN yX1_overOf 1 := ⟨by decide, by decide, by decide +kernel⟩
theorem mm57 : mt 57 = (yX1_name, cX1_name, 2, none, none, 13) := rfl
theorem pa57 : ParN yX1_name 1 := ⟨by decide, by decide, by decide +kernel⟩
theorem mm58 : mt 58 = (yX1_name_2, cX1_name_2, 4, none, none, 12) := rfl
theorem pa58 : ParN yX1_name_2 2 := ⟨by decide, by decide, by decide +kernel⟩
theorem mm59 : mt 59 = (yX1_countsOn, cX1_countsOn, 4, (Option.some Jvm.ClassFile.FieldType.int), none, 11) := rfl
theorem pa59 : ParN yX1_countsOn 1 := ⟨by decide, by decide, by decide +kernel⟩
theorem mm60 : mt 60 = (yX1_valueOf, cX1_valueOf, 5, (Option.some Jvm.ClassFile.FieldType.int), none, 14) := rfl
theorem pa60 : ParN yX1_valueOf 3 := ⟨by decide, by decide, by decide +kernel⟩
theorem mm61 : mt 61 = (yX1_lastOf, cX1_lastOf, 5, (Option.some (Jvm.ClassFile.FieldType.object "LimbBenches$Clause")), none, 13) := rfl
theorem pa61 : ParN yX1_lastOf 2 := ⟨by decide, by decide, by decide +kernel⟩
theorem mm62 : mt 62 = (yX1_waitedOf, cX1_waitedOf, 5, (Option.some Jvm.ClassFile.FieldType.int), none, 15) := rfl
theorem pa62 : ParN yX1_waitedOf 1 := ⟨by decide, by decide, by decide +kernel⟩
theorem mm63 : mt 63 = (yX1_lacksOf, cX1_lacksOf, 4, (Option.some Jvm.ClassFile.FieldType.int), none, 14) := rfl
theorem pa63 : ParN yX1_lacksOf 1 := ⟨by decide, by decide, by decide +kernel⟩
theorem mm64 : mt 64 = (yX1_needsOf, cX1_needsOf, 5, (Option.some Jvm.ClassFile.FieldType.int), none, 13) := rfl
theorem pa64 : ParN yX1_needsOf 2 := ⟨by decide, by decide, by decide +kernel⟩
theorem mm65 : mt 65 = (yX1_served, cX1_served, 7, (Option.some Jvm.ClassFile.FieldType.int), none, 17) := rfl
theorem pa65 : ParN yX1_served 1 := ⟨by decide, by decide, by decide +kernel⟩
theorem mm66 : mt 66 = (yX1_best, cX1_best, 3, (Option.some Jvm.ClassFile.FieldType.int), none, 14) := rfl
theorem pa66 : ParN yX1_best 0 := ⟨by decide, by decide, by decide +kernel⟩
theorem mm67 : mt 67 = (yX1_findBest, cX1_findBest, 1, (Option.some Jvm.ClassFile.FieldType.int), none, 13) := rfl
theorem pa67 : ParN yX1_findBest 0 := ⟨by decide, by decide, by decide +kernel⟩
theorem mm68 : mt 68 = (yX1_otherFree, cX1_otherFree, 1, (Option.some Jvm.ClassFile.FieldType.int), none, 8) := rfl
theorem pa68 : ParN yX1_otherFree 0 := ⟨by decide, by decide, by decide +kernel⟩
theorem mm69 : mt 69 = (yX1_orders, cX1_orders, 10, none, none, 12) := rfl
theorem pa69 : ParN yX1_orders 5 := ⟨by decide, by decide, by decide +kernel⟩
theorem mm70 : mt 70 = (yX1_doneAt, cX1_doneAt, 4, (Option.some Jvm.ClassFile.FieldType.int), none, 11) := rfl
theorem pa70 : ParN yX1_doneAt 2 := ⟨by decide, by decide, by decide +kernel⟩
theorem mm71 : mt 71 = (yX1_lending, cX1_lending, 1, (Option.some Jvm.ClassFile.FieldType.int), none, 13) := rfl
theorem pa71 : ParN yX1_lending 0 := ⟨by decide, by decide, by decide +kernel⟩
theorem mm72 : mt 72 = (yX1_findLent, cX1_findLent, 1, none, none, 12) := rfl
theorem pa72 : ParN yX1_findLent 0 := ⟨by decide, by decide, by decide +kernel⟩
theorem mm73 : mt 73 = (yX1_lends, cX1_lends, 7, none, none, 11) := rfl
theorem pa73 : ParN yX1_lends 3 := ⟨by decide, by decide, by decide +kernel⟩
theorem mm74 : mt 74 = (yX1_recalled, cX1_recalled, 3, (Option.some Jvm.ClassFile.FieldType.int), none, 15) := rfl
theorem pa74 : ParN yX1_recalled 0 := ⟨by decide, by decide, by decide +kernel⟩
theorem mm75 : mt 75 = (yX1_wornRecalled, cX1_wornRecalled, 6, (Option.some Jvm.ClassFile.FieldType.int), none, 14) := rfl
theorem pa75 : ParN yX1_wornRecalled 1 := ⟨by decide, by decide, by decide +kernel⟩
theorem mm76 : mt 76 = (yX1_gain, cX1_gain, 1, (Option.some Jvm.ClassFile.FieldType.int), none, 12) := rfl
theorem pa76 : ParN yX1_gain 0 := ⟨by decide, by decide, by decide +kernel⟩
theorem mm77 : mt 77 = (yX1_gainOf, cX1_gainOf, 5, (Option.some Jvm.ClassFile.FieldType.int), none, 11) := rfl
theorem pa77 : ParN yX1_gainOf 1 := ⟨by decide, by decide, by decide +kernel⟩
theorem mm78 : mt 78 = (yX1_ways, cX1_ways, 3, (Option.some Jvm.ClassFile.FieldType.int), none, 12) := rfl
theorem pa78 : ParN yX1_ways 0 := ⟨by decide, by decide, by decide +kernel⟩
theorem mm79 : mt 79 = (yX1_anew, cX1_anew, 2, (Option.some Jvm.ClassFile.FieldType.int), none, 9) := rfl
theorem pa79 : ParN yX1_anew 0 := ⟨by decide, by decide, by decide +kernel⟩
theorem mm80 : mt 80 = (yX1_sure, cX1_sure, 2, (Option.some Jvm.ClassFile.FieldType.int), none, 12) := rfl
theorem pa80 : ParN yX1_sure 0 := ⟨by decide, by decide, by decide +kernel⟩
theorem mm81 : mt 81 = (yX1_openNow, cX1_openNow, 3, (Option.some Jvm.ClassFile.FieldType.int), none, 11) := rfl
theorem pa81 : ParN yX1_openNow 0 := ⟨by decide, by decide, by decide +kernel⟩
theorem mm82 : mt 82 = (yX1_isOpen, cX1_isOpen, 2, (Option.some Jvm.ClassFile.FieldType.boolean), none, 8) := rfl
theorem pa82 : ParN yX1_isOpen 1 := ⟨by decide, by decide, by decide +kernel⟩
theorem mm83 : mt 83 = (yX1_look, cX1_look, 8, (Option.some Jvm.ClassFile.FieldType.int), none, 11) := rfl
theorem pa83 : ParN yX1_look 0 := ⟨by decide, by decide, by decide +kernel⟩
theorem mm84 : mt 84 = (yX1_image, cX1_image, 1, (Option.some Jvm.ClassFile.FieldType.int), none, 22) := rfl
theorem pa84 : ParN yX1_image 0 := ⟨by decide, by decide, by decide +kernel⟩
theorem mm85 : mt 85 = (yX1_restore, cX1_restore, 1, (Option.some Jvm.ClassFile.FieldType.int), none, 8) := rfl
theorem pa85 : ParN yX1_restore 0 := ⟨by decide, by decide, by decide +kernel⟩
theorem mm86 : mt 86 = (yX1_count, cX1_count, 2, (Option.some Jvm.ClassFile.FieldType.int), none, 9) := rfl
theorem pa86 : ParN yX1_count 1 := ⟨by decide, by decide, by decide +kernel⟩
theorem mm87 : mt 87 = (yX1_rules, cX1_rules, 6, (Option.some Jvm.ClassFile.FieldType.int), (some [(27, 45, 100, 127), (52, 93, 100, 127), (27, 45, 126, 0), (52, 93, 126, 0), (100, 118, 126, 0), (126, 128, 126, 0)]), 24) := rfl
theorem pa87 : ParN yX1_rules 2 := ⟨by decide, by decide, by decide +kernel⟩
theorem mm88 : mt 88 = (yX1_isDay, cX1_isDay, 1, (Option.some Jvm.ClassFile.FieldType.boolean), none, 8) := rfl
theorem pa88 : ParN yX1_isDay 1 := ⟨by decide, by decide, by decide +kernel⟩
theorem mm89 : mt 89 = (yX1_need, cX1_need, 1, none, none, 12) := rfl
theorem pa89 : ParN yX1_need 1 := ⟨by decide, by decide, by decide +kernel⟩
theorem mm90 : mt 90 = (yX1_counts, cX1_counts, 2, (Option.some Jvm.ClassFile.FieldType.int), none, 13) := rfl
theorem pa90 : ParN yX1_counts 1 := ⟨by decide, by decide, by decide +kernel⟩
theorem mm91 : mt 91 = (yX1_model, cX1_model, 5, (Option.some Jvm.ClassFile.FieldType.int), none, 21) := rfl
theorem pa91 : ParN yX1_model 4 := ⟨by decide, by decide, by decide +kernel⟩
theorem mm92 : mt 92 = (yX1_isKind, cX1_isKind, 1, (Option.some Jvm.ClassFile.FieldType.boolean), none, 8) := rfl
theorem pa92 : ParN yX1_isKind 1 := ⟨by decide, by decide, by decide +kernel⟩
theorem mm93 : mt 93 = (yX1_days, cX1_days, 2, (Option.some Jvm.ClassFile.FieldType.int), none, 13) := rfl
theorem pa93 : ParN yX1_days 1 := ⟨by decide, by decide, by decide +kernel⟩
theorem mm94 : mt 94 = (yX1_person, cX1_person, 6, (Option.some Jvm.ClassFile.FieldType.int), none, 21) := rfl
theorem pa94 : ParN yX1_person 5 := ⟨by decide, by decide, by decide +kernel⟩
theorem mm95 : mt 95 = (yX1_isTold, cX1_isTold, 2, (Option.some Jvm.ClassFile.FieldType.boolean), none, 8) := rfl
theorem pa95 : ParN yX1_isTold 2 := ⟨by decide, by decide, by decide +kernel⟩
theorem mm96 : mt 96 = (yX1_stump, cX1_stump, 6, (Option.some Jvm.ClassFile.FieldType.int), none, 13) := rfl
theorem pa96 : ParN yX1_stump 3 := ⟨by decide, by decide, by decide +kernel⟩
theorem mm97 : mt 97 = (yX1_personOf, cX1_personOf, 2, (Option.some (Jvm.ClassFile.FieldType.object "LimbBenches$Person")), none, 12) := rfl
theorem pa97 : ParN yX1_personOf 1 := ⟨by decide, by decide, by decide +kernel⟩
theorem mm98 : mt 98 = (yX1_change, cX1_change, 6, (Option.some Jvm.ClassFile.FieldType.int), none, 13) := rfl
theorem pa98 : ParN yX1_change 3 := ⟨by decide, by decide, by decide +kernel⟩
theorem mm99 : mt 99 = (yX1_size, cX1_size, 4, (Option.some Jvm.ClassFile.FieldType.int), none, 13) := rfl
theorem pa99 : ParN yX1_size 2 := ⟨by decide, by decide, by decide +kernel⟩
theorem mm100 : mt 100 = (yX1_told, cX1_told, 5, (Option.some Jvm.ClassFile.FieldType.int), none, 16) := rfl
theorem pa100 : ParN yX1_told 3 := ⟨by decide, by decide, by decide +kernel⟩
theorem mm101 : mt 101 = (yX1_rightOf, cX1_rightOf, 3, (Option.some Jvm.ClassFile.FieldType.int), none, 15) := rfl
theorem pa101 : ParN yX1_rightOf 2 := ⟨by decide, by decide, by decide +kernel⟩
theorem mm102 : mt 102 = (yX1_barred, cX1_barred, 5, (Option.some Jvm.ClassFile.FieldType.boolean), none, 15) := rfl
theorem pa102 : ParN yX1_barred 3 := ⟨by decide, by decide, by decide +kernel⟩
theorem mm103 : mt 103 = (yX1_modelOf, cX1_modelOf, 2, (Option.some (Jvm.ClassFile.FieldType.object "LimbBenches$Model")), none, 12) := rfl
theorem pa103 : ParN yX1_modelOf 1 := ⟨by decide, by decide, by decide +kernel⟩
theorem mm104 : mt 104 = (yX1_barOf, cX1_barOf, 5, (Option.some Jvm.ClassFile.FieldType.int), none, 14) := rfl
theorem pa104 : ParN yX1_barOf 3 := ⟨by decide, by decide, by decide +kernel⟩
theorem mm105 : mt 105 = (yX1_fit, cX1_fit, 5, (Option.some Jvm.ClassFile.FieldType.int), none, 23) := rfl
theorem pa105 : ParN yX1_fit 3 := ⟨by decide, by decide, by decide +kernel⟩
theorem mm106 : mt 106 = (yX1_isSerial, cX1_isSerial, 1, (Option.some Jvm.ClassFile.FieldType.boolean), none, 8) := rfl
theorem pa106 : ParN yX1_isSerial 1 := ⟨by decide, by decide, by decide +kernel⟩
theorem mm107 : mt 107 = (yX1_fits, cX1_fits, 6, (Option.some Jvm.ClassFile.FieldType.int), none, 22) := rfl
theorem pa107 : ParN yX1_fits 4 := ⟨by decide, by decide, by decide +kernel⟩
theorem mm108 : mt 108 = (yX1_isBarred, cX1_isBarred, 5, (Option.some Jvm.ClassFile.FieldType.boolean), none, 15) := rfl
theorem pa108 : ParN yX1_isBarred 2 := ⟨by decide, by decide, by decide +kernel⟩
theorem mm109 : mt 109 = (yX1_fits_2, cX1_fits_2, 6, none, none, 21) := rfl
theorem pa109 : ParN yX1_fits_2 4 := ⟨by decide, by decide, by decide +kernel⟩
theorem mm110 : mt 110 = (yX1_yearNow, cX1_yearNow, 1, (Option.some Jvm.ClassFile.FieldType.int), none, 8) := rfl
theorem pa110 : ParN yX1_yearNow 0 := ⟨by decide, by decide, by decide +kernel⟩
theorem mm111 : mt 111 = (yX1_part, cX1_part, 6, (Option.some Jvm.ClassFile.FieldType.int), none, 17) := rfl
theorem pa111 : ParN yX1_part 3 := ⟨by decide, by decide, by decide +kernel⟩
theorem mm112 : mt 112 = (yX1_dueOf, cX1_dueOf, 6, (Option.some Jvm.ClassFile.FieldType.int), none, 16) := rfl
theorem pa112 : ParN yX1_dueOf 3 := ⟨by decide, by decide, by decide +kernel⟩
theorem mm113 : mt 113 = (yX1_lifeOf, cX1_lifeOf, 3, (Option.some Jvm.ClassFile.FieldType.int), none, 15) := rfl
theorem pa113 : ParN yX1_lifeOf 2 := ⟨by decide, by decide, by decide +kernel⟩
theorem mm114 : mt 114 = (yX1_reuse, cX1_reuse, 9, (Option.some Jvm.ClassFile.FieldType.int), none, 22) := rfl
theorem pa114 : ParN yX1_reuse 3 := ⟨by decide, by decide, by decide +kernel⟩
theorem mm115 : mt 115 = (yX1_next, cX1_next, 6, (Option.some Jvm.ClassFile.FieldType.int), none, 13) := rfl
theorem pa115 : ParN yX1_next 2 := ⟨by decide, by decide, by decide +kernel⟩
theorem mm116 : mt 116 = (yX1_isPlay, cX1_isPlay, 1, (Option.some Jvm.ClassFile.FieldType.boolean), none, 8) := rfl
theorem pa116 : ParN yX1_isPlay 1 := ⟨by decide, by decide, by decide +kernel⟩
theorem mm117 : mt 117 = (yX1_take, cX1_take, 5, (Option.some Jvm.ClassFile.FieldType.int), none, 23) := rfl
theorem pa117 : ParN yX1_take 3 := ⟨by decide, by decide, by decide +kernel⟩
theorem mm118 : mt 118 = (yX1_beside, cX1_beside, 6, (Option.some Jvm.ClassFile.FieldType.int), none, 17) := rfl
theorem pa118 : ParN yX1_beside 2 := ⟨by decide, by decide, by decide +kernel⟩
theorem mm119 : mt 119 = (yX1_fits_3, cX1_fits_3, 5, (Option.some Jvm.ClassFile.FieldType.int), none, 13) := rfl
theorem pa119 : ParN yX1_fits_3 3 := ⟨by decide, by decide, by decide +kernel⟩
theorem mm120 : mt 120 = (yX1_isYear, cX1_isYear, 1, (Option.some Jvm.ClassFile.FieldType.boolean), none, 8) := rfl
theorem pa120 : ParN yX1_isYear 1 := ⟨by decide, by decide, by decide +kernel⟩
theorem mm121 : mt 121 = (yX1_lacks, cX1_lacks, 4, (Option.some Jvm.ClassFile.FieldType.int), none, 16) := rfl
theorem pa121 : ParN yX1_lacks 2 := ⟨by decide, by decide, by decide +kernel⟩
theorem mm122 : mt 122 = (yX1_choice, cX1_choice, 4, (Option.some Jvm.ClassFile.FieldType.int), none, 18) := rfl
theorem pa122 : ParN yX1_choice 2 := ⟨by decide, by decide, by decide +kernel⟩
theorem mm123 : mt 123 = (yX1_findChoice, cX1_findChoice, 3, (Option.some Jvm.ClassFile.FieldType.boolean), none, 17) := rfl
theorem pa123 : ParN yX1_findChoice 1 := ⟨by decide, by decide, by decide +kernel⟩
theorem mm124 : mt 124 = (yX1_picks, cX1_picks, 9, none, none, 16) := rfl
theorem pa124 : ParN yX1_picks 6 := ⟨by decide, by decide, by decide +kernel⟩
theorem mm125 : mt 125 = (yX1_goesNot, cX1_goesNot, 5, (Option.some Jvm.ClassFile.FieldType.boolean), none, 15) := rfl
theorem pa125 : ParN yX1_goesNot 3 := ⟨by decide, by decide, by decide +kernel⟩
theorem mm126 : mt 126 = (yX1_choose, cX1_choose, 4, (Option.some Jvm.ClassFile.FieldType.int), none, 18) := rfl
theorem pa126 : ParN yX1_choose 2 := ⟨by decide, by decide, by decide +kernel⟩
theorem mm127 : mt 127 = (yX1_clause, cX1_clause, 8, (Option.some Jvm.ClassFile.FieldType.int), none, 15) := rfl
theorem pa127 : ParN yX1_clause 2 := ⟨by decide, by decide, by decide +kernel⟩
theorem mm128 : mt 128 = (yX1_job, cX1_job, 5, (Option.some Jvm.ClassFile.FieldType.int), none, 21) := rfl
theorem pa128 : ParN yX1_job 4 := ⟨by decide, by decide, by decide +kernel⟩
theorem mm129 : mt 129 = (yX1_benches, cX1_benches, 3, (Option.some Jvm.ClassFile.FieldType.int), none, 13) := rfl
theorem pa129 : ParN yX1_benches 1 := ⟨by decide, by decide, by decide +kernel⟩
theorem mm130 : mt 130 = (yX1_cost, cX1_cost, 8, (Option.some Jvm.ClassFile.FieldType.int), none, 13) := rfl
theorem pa130 : ParN yX1_cost 1 := ⟨by decide, by decide, by decide +kernel⟩
theorem mm131 : mt 131 = (yX1_doneIn, cX1_doneIn, 8, (Option.some Jvm.ClassFile.FieldType.int), none, 12) := rfl
theorem pa131 : ParN yX1_doneIn 2 := ⟨by decide, by decide, by decide +kernel⟩
theorem mm132 : mt 132 = (yX1_delay, cX1_delay, 5, (Option.some Jvm.ClassFile.FieldType.int), none, 14) := rfl
theorem pa132 : ParN yX1_delay 2 := ⟨by decide, by decide, by decide +kernel⟩
theorem mm133 : mt 133 = (yX1_isJob, cX1_isJob, 2, none, none, 12) := rfl
theorem pa133 : ParN yX1_isJob 1 := ⟨by decide, by decide, by decide +kernel⟩
theorem mm134 : mt 134 = (yX1_done, cX1_done, 3, (Option.some Jvm.ClassFile.FieldType.int), none, 14) := rfl
theorem pa134 : ParN yX1_done 1 := ⟨by decide, by decide, by decide +kernel⟩
theorem mm135 : mt 135 = (yX1_maker, cX1_maker, 2, (Option.some Jvm.ClassFile.FieldType.int), none, 21) := rfl
theorem pa135 : ParN yX1_maker 1 := ⟨by decide, by decide, by decide +kernel⟩
theorem mm136 : mt 136 = (yX1_order, cX1_order, 4, (Option.some Jvm.ClassFile.FieldType.int), none, 21) := rfl
theorem pa136 : ParN yX1_order 2 := ⟨by decide, by decide, by decide +kernel⟩
theorem mm137 : mt 137 = (yX1_makerOf, cX1_makerOf, 2, (Option.some (Jvm.ClassFile.FieldType.object "LimbBenches$Maker")), none, 12) := rfl
theorem pa137 : ParN yX1_makerOf 1 := ⟨by decide, by decide, by decide +kernel⟩
theorem mm138 : mt 138 = (yX1_arrive, cX1_arrive, 3, (Option.some Jvm.ClassFile.FieldType.int), none, 13) := rfl
theorem pa138 : ParN yX1_arrive 1 := ⟨by decide, by decide, by decide +kernel⟩
theorem mm139 : mt 139 = (yX1_orderedOf, cX1_orderedOf, 2, (Option.some (Jvm.ClassFile.FieldType.object "LimbBenches$Ordered")), none, 12) := rfl
theorem pa139 : ParN yX1_orderedOf 1 := ⟨by decide, by decide, by decide +kernel⟩
theorem mm140 : mt 140 = (yX1_lose, cX1_lose, 3, (Option.some Jvm.ClassFile.FieldType.int), none, 13) := rfl
theorem pa140 : ParN yX1_lose 1 := ⟨by decide, by decide, by decide +kernel⟩
theorem mm141 : mt 141 = (yX1_forecast, cX1_forecast, 5, (Option.some Jvm.ClassFile.FieldType.int), none, 13) := rfl
theorem pa141 : ParN yX1_forecast 2 := ⟨by decide, by decide, by decide +kernel⟩
theorem mm142 : mt 142 = (yX1_late, cX1_late, 6, (Option.some Jvm.ClassFile.FieldType.int), none, 13) := rfl
theorem pa142 : ParN yX1_late 2 := ⟨by decide, by decide, by decide +kernel⟩
theorem mm143 : mt 143 = (yX1_stock, cX1_stock, 2, (Option.some Jvm.ClassFile.FieldType.int), none, 13) := rfl
theorem pa143 : ParN yX1_stock 1 := ⟨by decide, by decide, by decide +kernel⟩
theorem mm144 : mt 144 = (yX1_spare, cX1_spare, 2, (Option.some Jvm.ClassFile.FieldType.int), none, 13) := rfl
theorem pa144 : ParN yX1_spare 1 := ⟨by decide, by decide, by decide +kernel⟩
theorem mm145 : mt 145 = (yX1_lent, cX1_lent, 2, (Option.some Jvm.ClassFile.FieldType.int), none, 13) := rfl
theorem pa145 : ParN yX1_lent 1 := ⟨by decide, by decide, by decide +kernel⟩
theorem mm146 : mt 146 = (yX1_recall, cX1_recall, 8, (Option.some Jvm.ClassFile.FieldType.int), none, 13) := rfl
theorem pa146 : ParN yX1_recall 3 := ⟨by decide, by decide, by decide +kernel⟩
theorem mm147 : mt 147 = (yX1_seen, cX1_seen, 8, (Option.some Jvm.ClassFile.FieldType.int), none, 15) := rfl
theorem pa147 : ParN yX1_seen 2 := ⟨by decide, by decide, by decide +kernel⟩
theorem mm148 : mt 148 = (yX1_measure, cX1_measure, 5, (Option.some Jvm.ClassFile.FieldType.int), none, 21) := rfl
theorem pa148 : ParN yX1_measure 3 := ⟨by decide, by decide, by decide +kernel⟩
theorem mm149 : mt 149 = (yX1_latestOf, cX1_latestOf, 4, (Option.some (Jvm.ClassFile.FieldType.object "LimbBenches$Measure")), none, 11) := rfl
theorem pa149 : ParN yX1_latestOf 1 := ⟨by decide, by decide, by decide +kernel⟩
theorem mm150 : mt 150 = (yX1_growth, cX1_growth, 4, (Option.some Jvm.ClassFile.FieldType.int), none, 22) := rfl
theorem pa150 : ParN yX1_growth 2 := ⟨by decide, by decide, by decide +kernel⟩
theorem mm151 : mt 151 = (yX1_growths, cX1_growths, 6, (Option.some (Jvm.ClassFile.FieldType.object "java/util/ArrayList")), none, 21) := rfl
theorem pa151 : ParN yX1_growths 1 := ⟨by decide, by decide, by decide +kernel⟩
theorem mm152 : mt 152 = (yX1_extreme, cX1_extreme, 4, (Option.some Jvm.ClassFile.FieldType.int), none, 11) := rfl
theorem pa152 : ParN yX1_extreme 2 := ⟨by decide, by decide, by decide +kernel⟩
theorem mm153 : mt 153 = (yX1_nextBy, cX1_nextBy, 6, (Option.some Jvm.ClassFile.FieldType.int), none, 22) := rfl
theorem pa153 : ParN yX1_nextBy 3 := ⟨by decide, by decide, by decide +kernel⟩
theorem mm154 : mt 154 = (yX1_nextBy_2, cX1_nextBy_2, 6, (Option.some Jvm.ClassFile.FieldType.int), none, 8) := rfl
theorem pa154 : ParN yX1_nextBy_2 4 := ⟨by decide, by decide, by decide +kernel⟩
theorem mm155 : mt 155 = (yX1_chance, cX1_chance, 9, (Option.some Jvm.ClassFile.FieldType.int), none, 22) := rfl
theorem pa155 : ParN yX1_chance 3 := ⟨by decide, by decide, by decide +kernel⟩
theorem mm156 : mt 156 = (yX1_fitter, cX1_fitter, 3, (Option.some Jvm.ClassFile.FieldType.int), none, 13) := rfl
theorem pa156 : ParN yX1_fitter 1 := ⟨by decide, by decide, by decide +kernel⟩
theorem mm157 : mt 157 = (yX1_isFitter, cX1_isFitter, 1, (Option.some Jvm.ClassFile.FieldType.boolean), none, 8) := rfl
theorem pa157 : ParN yX1_isFitter 1 := ⟨by decide, by decide, by decide +kernel⟩
theorem mm158 : mt 158 = (yX1_blister, cX1_blister, 6, (Option.some Jvm.ClassFile.FieldType.int), none, 13) := rfl
theorem pa158 : ParN yX1_blister 1 := ⟨by decide, by decide, by decide +kernel⟩
theorem mm159 : mt 159 = (yX1_skill, cX1_skill, 4, (Option.some Jvm.ClassFile.FieldType.int), none, 13) := rfl
theorem pa159 : ParN yX1_skill 3 := ⟨by decide, by decide, by decide +kernel⟩
theorem mm160 : mt 160 = (yX1_isSpan, cX1_isSpan, 1, (Option.some Jvm.ClassFile.FieldType.boolean), none, 8) := rfl
theorem pa160 : ParN yX1_isSpan 1 := ⟨by decide, by decide, by decide +kernel⟩
theorem mm161 : mt 161 = (yX1_skillOf, cX1_skillOf, 7, (Option.some Jvm.ClassFile.FieldType.int), none, 11) := rfl
theorem pa161 : ParN yX1_skillOf 3 := ⟨by decide, by decide, by decide +kernel⟩
theorem mm162 : mt 162 = (yX1_better, cX1_better, 4, (Option.some Jvm.ClassFile.FieldType.int), none, 13) := rfl
theorem pa162 : ParN yX1_better 3 := ⟨by decide, by decide, by decide +kernel⟩
theorem mm163 : mt 163 = (yX1_trial, cX1_trial, 3, (Option.some Jvm.ClassFile.FieldType.int), none, 21) := rfl
theorem pa163 : ParN yX1_trial 2 := ⟨by decide, by decide, by decide +kernel⟩
theorem mm164 : mt 164 = (yX1_cause, cX1_cause, 3, (Option.some Jvm.ClassFile.FieldType.int), none, 21) := rfl
theorem pa164 : ParN yX1_cause 2 := ⟨by decide, by decide, by decide +kernel⟩
theorem mm165 : mt 165 = (yX1_isSigns, cX1_isSigns, 1, (Option.some Jvm.ClassFile.FieldType.boolean), none, 8) := rfl
theorem pa165 : ParN yX1_isSigns 1 := ⟨by decide, by decide, by decide +kernel⟩
theorem mm166 : mt 166 = (yX1_see, cX1_see, 3, (Option.some Jvm.ClassFile.FieldType.int), none, 13) := rfl
theorem pa166 : ParN yX1_see 2 := ⟨by decide, by decide, by decide +kernel⟩
theorem mm167 : mt 167 = (yX1_walk, cX1_walk, 4, (Option.some Jvm.ClassFile.FieldType.int), none, 21) := rfl
theorem pa167 : ParN yX1_walk 3 := ⟨by decide, by decide, by decide +kernel⟩
theorem mm168 : mt 168 = (yX1_changed, cX1_changed, 10, (Option.some Jvm.ClassFile.FieldType.int), none, 13) := rfl
theorem pa168 : ParN yX1_changed 2 := ⟨by decide, by decide, by decide +kernel⟩
theorem mm169 : mt 169 = (yX1_spent, cX1_spent, 5, (Option.some Jvm.ClassFile.FieldType.int), none, 13) := rfl
theorem pa169 : ParN yX1_spent 2 := ⟨by decide, by decide, by decide +kernel⟩
theorem mm170 : mt 170 = (yX2_init, cX2_init, 1, none, none, 18) := rfl
theorem pa170 : ParN yX2_init 0 := ⟨by decide, by decide, by decide +kernel⟩
theorem mm171 : mt 171 = (yX2_like, cX2_like, 3, (Option.some (Jvm.ClassFile.FieldType.object "LimbBenches$State")), none, 21) := rfl
theorem pa171 : ParN yX2_like 0 := ⟨by decide, by decide, by decide +kernel⟩
theorem mm172 : mt 172 = (yJ0_init, cJ0_init, 1, none, none, 8) := rfl
theorem pa172 : ParN yJ0_init 0 := ⟨by decide, by decide, by decide +kernel⟩
theorem mm173 : mt 173 = (yJ1_init, cJ1_init, 1, none, none, 9) := rfl
theorem pa173 : ParN yJ1_init 0 := ⟨by decide, by decide, by decide +kernel⟩
theorem mm174 : mt 174 = (yJ2_init, cJ2_init, 2, none, none, 17) := rfl
theorem pa174 : ParN yJ2_init 1 := ⟨by decide, by decide, by decide +kernel⟩
theorem mm175 : mt 175 = (yJ2_size, cJ2_size, 1, (Option.some Jvm.ClassFile.FieldType.int), none, 8) := rfl
theorem pa175 : ParN yJ2_size 0 := ⟨by decide, by decide, by decide +kernel⟩
theorem mm176 : mt 176 = (yJ2_get, cJ2_get, 2, (Option.some (Jvm.ClassFile.FieldType.object "java/lang/Object")), none, 10) := rfl
theorem pa176 : ParN yJ2_get 1 := ⟨by decide, by decide, by decide +kernel⟩
theorem mm177 : mt 177 = (yJ2_elementData, cJ2_elementData, 2, (Option.some (Jvm.ClassFile.FieldType.object "java/lang/Object")), none, 8) := rfl
theorem pa177 : ParN yJ2_elementData 1 := ⟨by decide, by decide, by decide +kernel⟩
theorem mm178 : mt 178 = (yJ2_clear, cJ2_clear, 4, none, none, 8) := rfl
theorem pa178 : ParN yJ2_clear 0 := ⟨by decide, by decide, by decide +kernel⟩
theorem mm179 : mt 179 = (yJ2_add, cJ2_add, 2, (Option.some Jvm.ClassFile.FieldType.boolean), none, 20) := rfl
theorem pa179 : ParN yJ2_add 1 := ⟨by decide, by decide, by decide +kernel⟩
theorem mm180 : mt 180 = (yJ2_add_2, cJ2_add_2, 4, none, none, 19) := rfl
theorem pa180 : ParN yJ2_add_2 3 := ⟨by decide, by decide, by decide +kernel⟩
theorem mm181 : mt 181 = (yJ2_grow, cJ2_grow, 1, (Option.some (Jvm.ClassFile.FieldType.array (Jvm.ClassFile.FieldType.object "java/lang/Object"))), none, 18) := rfl
theorem pa181 : ParN yJ2_grow 0 := ⟨by decide, by decide, by decide +kernel⟩
theorem mm182 : mt 182 = (yJ2_grow_2, cJ2_grow_2, 4, (Option.some (Jvm.ClassFile.FieldType.array (Jvm.ClassFile.FieldType.object "java/lang/Object"))), none, 17) := rfl
theorem pa182 : ParN yJ2_grow_2 1 := ⟨by decide, by decide, by decide +kernel⟩
theorem mm183 : mt 183 = (yJ2_set, cJ2_set, 4, (Option.some (Jvm.ClassFile.FieldType.object "java/lang/Object")), none, 10) := rfl
theorem pa183 : ParN yJ2_set 2 := ⟨by decide, by decide, by decide +kernel⟩
theorem mm184 : mt 184 = (yJ2_isEmpty, cJ2_isEmpty, 1, (Option.some Jvm.ClassFile.FieldType.boolean), none, 8) := rfl
theorem pa184 : ParN yJ2_isEmpty 0 := ⟨by decide, by decide, by decide +kernel⟩
theorem mm185 : mt 185 = (yJ3_init, cJ3_init, 1, none, none, 8) := rfl
theorem pa185 : ParN yJ3_init 0 := ⟨by decide, by decide, by decide +kernel⟩
theorem mm186 : mt 186 = (yJ3_init_2, cJ3_init_2, 2, none, none, 8) := rfl
theorem pa186 : ParN yJ3_init_2 1 := ⟨by decide, by decide, by decide +kernel⟩
theorem mm187 : mt 187 = (yJ3_init_3, cJ3_init_3, 5, none, none, 8) := rfl
theorem pa187 : ParN yJ3_init_3 4 := ⟨by decide, by decide, by decide +kernel⟩
theorem mm188 : mt 188 = (yJ4_init, cJ4_init, 2, none, none, 9) := rfl
theorem pa188 : ParN yJ4_init 1 := ⟨by decide, by decide, by decide +kernel⟩
theorem mm189 : mt 189 = (yJ4_init_2, cJ4_init_2, 1, none, none, 9) := rfl
theorem pa189 : ParN yJ4_init_2 0 := ⟨by decide, by decide, by decide +kernel⟩
theorem mm190 : mt 190 = (yJ4_init_3, cJ4_init_3, 5, none, none, 9) := rfl
theorem pa190 : ParN yJ4_init_3 4 := ⟨by decide, by decide, by decide +kernel⟩
theorem mm191 : mt 191 = (yJ5_init, cJ5_init, 2, none, none, 10) := rfl
theorem pa191 : ParN yJ5_init 1 := ⟨by decide, by decide, by decide +kernel⟩
theorem mm192 : mt 192 = (yJ5_init_2, cJ5_init_2, 1, none, none, 10) := rfl
theorem pa192 : ParN yJ5_init_2 0 := ⟨by decide, by decide, by decide +kernel⟩
theorem mm193 : mt 193 = (yJ6_init, cJ6_init, 2, none, none, 11) := rfl
theorem pa193 : ParN yJ6_init 1 := ⟨by decide, by decide, by decide +kernel⟩
theorem mm194 : mt 194 = (yJ6_init_2, cJ6_init_2, 1, none, none, 11) := rfl
theorem pa194 : ParN yJ6_init_2 0 := ⟨by decide, by decide, by decide +kernel⟩
theorem mm195 : mt 195 = (yJ7_init, cJ7_init, 2, none, none, 10) := rfl
theorem pa195 : ParN yJ7_init 1 := ⟨by decide, by decide, by decide +kernel⟩
theorem mm196 : mt 196 = (yJ7_append, cJ7_append, 3, (Option.some (Jvm.ClassFile.FieldType.object "java/lang/AbstractStringBuilder")), none, 16) := rfl
theorem pa196 : ParN yJ7_append 1 := ⟨by decide, by decide, by decide +kernel⟩
theorem mm197 : mt 197 = (yJ7_appendNull, cJ7_appendNull, 3, (Option.some (Jvm.ClassFile.FieldType.object "java/lang/AbstractStringBuilder")), none, 16) := rfl
theorem pa197 : ParN yJ7_appendNull 0 := ⟨by decide, by decide, by decide +kernel⟩
theorem mm198 : mt 198 = (yJ7_ensureCapacityInternal, cJ7_ensureCapacityInternal, 3, none, none, 16) := rfl
theorem pa198 : ParN yJ7_ensureCapacityInternal 1 := ⟨by decide, by decide, by decide +kernel⟩
theorem mm199 : mt 199 = (yJ7_newCapacity, cJ7_newCapacity, 6, (Option.some Jvm.ClassFile.FieldType.int), none, 16) := rfl
theorem pa199 : ParN yJ7_newCapacity 1 := ⟨by decide, by decide, by decide +kernel⟩
theorem mm200 : mt 200 = (yJ7_isLatin1, cJ7_isLatin1, 1, (Option.some Jvm.ClassFile.FieldType.boolean), none, 8) := rfl
theorem pa200 : ParN yJ7_isLatin1 0 := ⟨by decide, by decide, by decide +kernel⟩
theorem mm201 : mt 201 = (yJ7_putStringAt, cJ7_putStringAt, 3, none, none, 15) := rfl
theorem pa201 : ParN yJ7_putStringAt 2 := ⟨by decide, by decide, by decide +kernel⟩
theorem mm202 : mt 202 = (yJ7_inflateIfNeededFor, cJ7_inflateIfNeededFor, 2, none, none, 14) := rfl
theorem pa202 : ParN yJ7_inflateIfNeededFor 1 := ⟨by decide, by decide, by decide +kernel⟩
theorem mm203 : mt 203 = (yJ7_inflate, cJ7_inflate, 2, none, none, 13) := rfl
theorem pa203 : ParN yJ7_inflate 0 := ⟨by decide, by decide, by decide +kernel⟩
theorem mm204 : mt 204 = (yJ7_append_2, cJ7_append_2, 4, (Option.some (Jvm.ClassFile.FieldType.object "java/lang/AbstractStringBuilder")), none, 16) := rfl
theorem pa204 : ParN yJ7_append_2 1 := ⟨by decide, by decide, by decide +kernel⟩
theorem mm205 : mt 205 = (yJ7_getValue, cJ7_getValue, 1, (Option.some (Jvm.ClassFile.FieldType.array Jvm.ClassFile.FieldType.byte)), none, 8) := rfl
theorem pa205 : ParN yJ7_getValue 0 := ⟨by decide, by decide, by decide +kernel⟩
theorem mm206 : mt 206 = (yJ7_length, cJ7_length, 1, (Option.some Jvm.ClassFile.FieldType.int), none, 8) := rfl
theorem pa206 : ParN yJ7_length 0 := ⟨by decide, by decide, by decide +kernel⟩
theorem mm207 : mt 207 = (yJ7_append_3, cJ7_append_3, 2, (Option.some (Jvm.ClassFile.FieldType.object "java/lang/AbstractStringBuilder")), none, 17) := rfl
theorem pa207 : ParN yJ7_append_3 1 := ⟨by decide, by decide, by decide +kernel⟩
theorem mm208 : mt 208 = (yJ8_init, cJ8_init, 1, none, none, 11) := rfl
theorem pa208 : ParN yJ8_init 0 := ⟨by decide, by decide, by decide +kernel⟩
theorem mm209 : mt 209 = (yJ8_append, cJ8_append, 2, (Option.some (Jvm.ClassFile.FieldType.object "java/lang/StringBuilder")), none, 16) := rfl
theorem pa209 : ParN yJ8_append 1 := ⟨by decide, by decide, by decide +kernel⟩
theorem mm210 : mt 210 = (yJ8_append_2, cJ8_append_2, 2, (Option.some (Jvm.ClassFile.FieldType.object "java/lang/StringBuilder")), none, 16) := rfl
theorem pa210 : ParN yJ8_append_2 1 := ⟨by decide, by decide, by decide +kernel⟩
theorem mm211 : mt 211 = (yJ8_toString, cJ8_toString, 1, (Option.some (Jvm.ClassFile.FieldType.object "java/lang/String")), none, 16) := rfl
theorem pa211 : ParN yJ8_toString 0 := ⟨by decide, by decide, by decide +kernel⟩
theorem mm212 : mt 212 = (yJ8_length, cJ8_length, 1, (Option.some Jvm.ClassFile.FieldType.int), none, 9) := rfl
theorem pa212 : ParN yJ8_length 0 := ⟨by decide, by decide, by decide +kernel⟩
theorem mm213 : mt 213 = (yJ8_append_3, cJ8_append_3, 2, (Option.some (Jvm.ClassFile.FieldType.object "java/lang/StringBuilder")), none, 18) := rfl
theorem pa213 : ParN yJ8_append_3 1 := ⟨by decide, by decide, by decide +kernel⟩
theorem mm214 : mt 214 = (yJ9_checkBoundsBeginEnd, cJ9_checkBoundsBeginEnd, 3, none, none, 9) := rfl
theorem pa214 : ParN yJ9_checkBoundsBeginEnd 3 := ⟨by decide, by decide, by decide +kernel⟩
theorem mm215 : mt 215 = (yJ9_length, cJ9_length, 1, (Option.some Jvm.ClassFile.FieldType.int), none, 9) := rfl
theorem pa215 : ParN yJ9_length 0 := ⟨by decide, by decide, by decide +kernel⟩
theorem mm216 : mt 216 = (yJ9_coder, cJ9_coder, 1, (Option.some Jvm.ClassFile.FieldType.byte), none, 8) := rfl
theorem pa216 : ParN yJ9_coder 0 := ⟨by decide, by decide, by decide +kernel⟩
theorem mm217 : mt 217 = (yJ9_checkBoundsOffCount, cJ9_checkBoundsOffCount, 3, (Option.some Jvm.ClassFile.FieldType.int), none, 9) := rfl
theorem pa217 : ParN yJ9_checkBoundsOffCount 3 := ⟨by decide, by decide, by decide +kernel⟩
theorem mm218 : mt 218 = (yJ9_getBytes, cJ9_getBytes, 4, none, none, 13) := rfl
theorem pa218 : ParN yJ9_getBytes 3 := ⟨by decide, by decide, by decide +kernel⟩
theorem mm219 : mt 219 = (yJ9_init, cJ9_init, 2, none, none, 16) := rfl
theorem pa219 : ParN yJ9_init 1 := ⟨by decide, by decide, by decide +kernel⟩
theorem mm220 : mt 220 = (yJ9_init_2, cJ9_init_2, 5, none, none, 16) := rfl
theorem pa220 : ParN yJ9_init_2 2 := ⟨by decide, by decide, by decide +kernel⟩
theorem mm221 : mt 221 = (yJ9_checkIndex, cJ9_checkIndex, 2, none, none, 9) := rfl
theorem pa221 : ParN yJ9_checkIndex 2 := ⟨by decide, by decide, by decide +kernel⟩
theorem mm222 : mt 222 = (yJ9_hashCode, cJ9_hashCode, 2, (Option.some Jvm.ClassFile.FieldType.int), none, 19) := rfl
theorem pa222 : ParN yJ9_hashCode 0 := ⟨by decide, by decide, by decide +kernel⟩
theorem mm223 : mt 223 = (yJ9_isLatin1, cJ9_isLatin1, 1, (Option.some Jvm.ClassFile.FieldType.boolean), none, 8) := rfl
theorem pa223 : ParN yJ9_isLatin1 0 := ⟨by decide, by decide, by decide +kernel⟩
theorem mm224 : mt 224 = (yJ9_equals, cJ9_equals, 3, (Option.some Jvm.ClassFile.FieldType.boolean), none, 9) := rfl
theorem pa224 : ParN yJ9_equals 1 := ⟨by decide, by decide, by decide +kernel⟩
theorem mm225 : mt 225 = (yJ9_charAt, cJ9_charAt, 2, (Option.some Jvm.ClassFile.FieldType.char), none, 12) := rfl
theorem pa225 : ParN yJ9_charAt 1 := ⟨by decide, by decide, by decide +kernel⟩
theorem mm226 : mt 226 = (yJ10_newBytesFor, cJ10_newBytesFor, 1, (Option.some (Jvm.ClassFile.FieldType.array Jvm.ClassFile.FieldType.byte)), none, 9) := rfl
theorem pa226 : ParN yJ10_newBytesFor 1 := ⟨by decide, by decide, by decide +kernel⟩
theorem mm227 : mt 227 = (yJ10_newBytesLength, cJ10_newBytesLength, 1, (Option.some Jvm.ClassFile.FieldType.int), none, 8) := rfl
theorem pa227 : ParN yJ10_newBytesLength 1 := ⟨by decide, by decide, by decide +kernel⟩
theorem mm228 : mt 228 = (yJ10_putCharsAt, cJ10_putCharsAt, 7, (Option.some Jvm.ClassFile.FieldType.int), none, 11) := rfl
theorem pa228 : ParN yJ10_putCharsAt 6 := ⟨by decide, by decide, by decide +kernel⟩
theorem mm229 : mt 229 = (yJ10_checkBoundsBeginEnd, cJ10_checkBoundsBeginEnd, 3, none, none, 10) := rfl
theorem pa229 : ParN yJ10_checkBoundsBeginEnd 3 := ⟨by decide, by decide, by decide +kernel⟩
theorem mm230 : mt 230 = (yJ10_length, cJ10_length, 1, (Option.some Jvm.ClassFile.FieldType.int), none, 8) := rfl
theorem pa230 : ParN yJ10_length 1 := ⟨by decide, by decide, by decide +kernel⟩
theorem mm231 : mt 231 = (yJ10_putChar, cJ10_putChar, 3, none, none, 9) := rfl
theorem pa231 : ParN yJ10_putChar 3 := ⟨by decide, by decide, by decide +kernel⟩
theorem mm232 : mt 232 = (yJ10_inflate, cJ10_inflate, 6, none, none, 11) := rfl
theorem pa232 : ParN yJ10_inflate 5 := ⟨by decide, by decide, by decide +kernel⟩
theorem mm233 : mt 233 = (yJ10_checkBoundsOffCount, cJ10_checkBoundsOffCount, 3, none, none, 10) := rfl
theorem pa233 : ParN yJ10_checkBoundsOffCount 3 := ⟨by decide, by decide, by decide +kernel⟩
theorem mm234 : mt 234 = (yJ10_getChars, cJ10_getChars, 5, (Option.some Jvm.ClassFile.FieldType.int), none, 11) := rfl
theorem pa234 : ParN yJ10_getChars 4 := ⟨by decide, by decide, by decide +kernel⟩
theorem mm235 : mt 235 = (yJ10_getChars_2, cJ10_getChars_2, 7, (Option.some Jvm.ClassFile.FieldType.int), none, 10) := rfl
theorem pa235 : ParN yJ10_getChars_2 3 := ⟨by decide, by decide, by decide +kernel⟩
theorem mm236 : mt 236 = (yJ10_compress, cJ10_compress, 6, (Option.some (Jvm.ClassFile.FieldType.array Jvm.ClassFile.FieldType.byte)), none, 16) := rfl
theorem pa236 : ParN yJ10_compress 3 := ⟨by decide, by decide, by decide +kernel⟩
theorem mm237 : mt 237 = (yJ10_compress_2, cJ10_compress_2, 7, (Option.some Jvm.ClassFile.FieldType.int), none, 11) := rfl
theorem pa237 : ParN yJ10_compress_2 5 := ⟨by decide, by decide, by decide +kernel⟩
theorem mm238 : mt 238 = (yJ10_getChar, cJ10_getChar, 2, (Option.some Jvm.ClassFile.FieldType.char), none, 9) := rfl
theorem pa238 : ParN yJ10_getChar 2 := ⟨by decide, by decide, by decide +kernel⟩
theorem mm239 : mt 239 = (yJ10_coderFromArrayLen, cJ10_coderFromArrayLen, 2, (Option.some Jvm.ClassFile.FieldType.byte), none, 8) := rfl
theorem pa239 : ParN yJ10_coderFromArrayLen 2 := ⟨by decide, by decide, by decide +kernel⟩
theorem mm240 : mt 240 = (yJ10_putCharSB, cJ10_putCharSB, 3, none, none, 11) := rfl
theorem pa240 : ParN yJ10_putCharSB 3 := ⟨by decide, by decide, by decide +kernel⟩
theorem mm241 : mt 241 = (yJ10_checkIndex, cJ10_checkIndex, 2, none, none, 10) := rfl
theorem pa241 : ParN yJ10_checkIndex 2 := ⟨by decide, by decide, by decide +kernel⟩
theorem mm242 : mt 242 = (yJ10_hashCode, cJ10_hashCode, 1, (Option.some Jvm.ClassFile.FieldType.int), none, 18) := rfl
theorem pa242 : ParN yJ10_hashCode 1 := ⟨by decide, by decide, by decide +kernel⟩
theorem mm243 : mt 243 = (yJ10_charAt, cJ10_charAt, 2, (Option.some Jvm.ClassFile.FieldType.char), none, 11) := rfl
theorem pa243 : ParN yJ10_charAt 2 := ⟨by decide, by decide, by decide +kernel⟩
theorem mm244 : mt 244 = (yJ11_newLength, cJ11_newLength, 4, (Option.some Jvm.ClassFile.FieldType.int), none, 16) := rfl
theorem pa244 : ParN yJ11_newLength 3 := ⟨by decide, by decide, by decide +kernel⟩
theorem mm245 : mt 245 = (yJ11_hugeLength, cJ11_hugeLength, 3, (Option.some Jvm.ClassFile.FieldType.int), none, 16) := rfl
theorem pa245 : ParN yJ11_hugeLength 2 := ⟨by decide, by decide, by decide +kernel⟩
theorem mm246 : mt 246 = (yJ11_vectorizedHashCode, cJ11_vectorizedHashCode, 5, (Option.some Jvm.ClassFile.FieldType.int), none, 17) := rfl
theorem pa246 : ParN yJ11_vectorizedHashCode 5 := ⟨by decide, by decide, by decide +kernel⟩
theorem mm247 : mt 247 = (yJ11_signedHashCode, cJ11_signedHashCode, 6, (Option.some Jvm.ClassFile.FieldType.int), none, 8) := rfl
theorem pa247 : ParN yJ11_signedHashCode 4 := ⟨by decide, by decide, by decide +kernel⟩
theorem mm248 : mt 248 = (yJ11_utf16hashCode, cJ11_utf16hashCode, 6, (Option.some Jvm.ClassFile.FieldType.int), none, 8) := rfl
theorem pa248 : ParN yJ11_utf16hashCode 4 := ⟨by decide, by decide, by decide +kernel⟩
theorem mm249 : mt 249 = (yJ11_hashCode, cJ11_hashCode, 6, (Option.some Jvm.ClassFile.FieldType.int), none, 8) := rfl
theorem pa249 : ParN yJ11_hashCode 4 := ⟨by decide, by decide, by decide +kernel⟩
theorem mm250 : mt 250 = (yJ11_hashCode_2, cJ11_hashCode_2, 6, (Option.some Jvm.ClassFile.FieldType.int), none, 8) := rfl
theorem pa250 : ParN yJ11_hashCode_2 4 := ⟨by decide, by decide, by decide +kernel⟩
theorem mm251 : mt 251 = (yJ11_hashCode_3, cJ11_hashCode_3, 6, (Option.some Jvm.ClassFile.FieldType.int), none, 8) := rfl
theorem pa251 : ParN yJ11_hashCode_3 4 := ⟨by decide, by decide, by decide +kernel⟩
theorem mm252 : mt 252 = (yJ11_hashCode_4, cJ11_hashCode_4, 6, (Option.some Jvm.ClassFile.FieldType.int), none, 8) := rfl
theorem pa252 : ParN yJ11_hashCode_4 4 := ⟨by decide, by decide, by decide +kernel⟩
theorem mm253 : mt 253 = (yJ12_max, cJ12_max, 2, (Option.some Jvm.ClassFile.FieldType.int), none, 8) := rfl
theorem pa253 : ParN yJ12_max 2 := ⟨by decide, by decide, by decide +kernel⟩
theorem mm254 : mt 254 = (yJ12_min, cJ12_min, 2, (Option.some Jvm.ClassFile.FieldType.int), none, 8) := rfl
theorem pa254 : ParN yJ12_min 2 := ⟨by decide, by decide, by decide +kernel⟩
theorem mm255 : mt 255 = (yJ12_abs, cJ12_abs, 1, (Option.some Jvm.ClassFile.FieldType.int), none, 8) := rfl
theorem pa255 : ParN yJ12_abs 1 := ⟨by decide, by decide, by decide +kernel⟩
theorem mm256 : mt 256 = (yJ12_abs_2, cJ12_abs_2, 2, (Option.some Jvm.ClassFile.FieldType.long), none, 8) := rfl
theorem pa256 : ParN yJ12_abs_2 1 := ⟨by decide, by decide, by decide +kernel⟩
theorem mm257 : mt 257 = (yJ13_copyOf, cJ13_copyOf, 3, (Option.some (Jvm.ClassFile.FieldType.array Jvm.ClassFile.FieldType.byte)), none, 8) := rfl
theorem pa257 : ParN yJ13_copyOf 2 := ⟨by decide, by decide, by decide +kernel⟩
theorem mm258 : mt 258 = (yJ13_copyOfRange, cJ13_copyOfRange, 3, (Option.some (Jvm.ClassFile.FieldType.array Jvm.ClassFile.FieldType.byte)), none, 16) := rfl
theorem pa258 : ParN yJ13_copyOfRange 3 := ⟨by decide, by decide, by decide +kernel⟩
theorem mm259 : mt 259 = (yJ13_copyOfRangeByte, cJ13_copyOfRangeByte, 5, (Option.some (Jvm.ClassFile.FieldType.array Jvm.ClassFile.FieldType.byte)), none, 16) := rfl
theorem pa259 : ParN yJ13_copyOfRangeByte 3 := ⟨by decide, by decide, by decide +kernel⟩
theorem mm260 : mt 260 = (yJ13_checkLength, cJ13_checkLength, 2, none, none, 16) := rfl
theorem pa260 : ParN yJ13_checkLength 2 := ⟨by decide, by decide, by decide +kernel⟩
theorem mm261 : mt 261 = (yJ13_copyOf_2, cJ13_copyOf_2, 2, (Option.some (Jvm.ClassFile.FieldType.array (Jvm.ClassFile.FieldType.object "java/lang/Object"))), none, 9) := rfl
theorem pa261 : ParN yJ13_copyOf_2 2 := ⟨by decide, by decide, by decide +kernel⟩
theorem mm262 : mt 262 = (yJ13_copyOf_3, cJ13_copyOf_3, 4, (Option.some (Jvm.ClassFile.FieldType.array (Jvm.ClassFile.FieldType.object "java/lang/Object"))), none, 8) := rfl
theorem pa262 : ParN yJ13_copyOf_3 3 := ⟨by decide, by decide, by decide +kernel⟩
theorem mm263 : mt 263 = (yJ14_checkFromToIndex, cJ14_checkFromToIndex, 4, (Option.some Jvm.ClassFile.FieldType.int), none, 8) := rfl
theorem pa263 : ParN yJ14_checkFromToIndex 4 := ⟨by decide, by decide, by decide +kernel⟩
theorem mm264 : mt 264 = (yJ14_checkFromIndexSize, cJ14_checkFromIndexSize, 4, (Option.some Jvm.ClassFile.FieldType.int), none, 8) := rfl
theorem pa264 : ParN yJ14_checkFromIndexSize 4 := ⟨by decide, by decide, by decide +kernel⟩
theorem mm265 : mt 265 = (yJ14_checkIndex, cJ14_checkIndex, 3, (Option.some Jvm.ClassFile.FieldType.int), none, 8) := rfl
theorem pa265 : ParN yJ14_checkIndex 3 := ⟨by decide, by decide, by decide +kernel⟩
theorem mm266 : mt 266 = (yJ15_inflate, cJ15_inflate, 5, none, none, 12) := rfl
theorem pa266 : ParN yJ15_inflate 5 := ⟨by decide, by decide, by decide +kernel⟩
theorem mm267 : mt 267 = (yJ15_canEncode, cJ15_canEncode, 1, (Option.some Jvm.ClassFile.FieldType.boolean), none, 8) := rfl
theorem pa267 : ParN yJ15_canEncode 1 := ⟨by decide, by decide, by decide +kernel⟩
theorem mm268 : mt 268 = (yJ15_hashCode, cJ15_hashCode, 1, (Option.some Jvm.ClassFile.FieldType.int), none, 18) := rfl
theorem pa268 : ParN yJ15_hashCode 1 := ⟨by decide, by decide, by decide +kernel⟩
theorem mm269 : mt 269 = (yJ15_equals, cJ15_equals, 3, (Option.some Jvm.ClassFile.FieldType.boolean), none, 8) := rfl
theorem pa269 : ParN yJ15_equals 2 := ⟨by decide, by decide, by decide +kernel⟩
theorem mm270 : mt 270 = (yJ15_charAt, cJ15_charAt, 2, (Option.some Jvm.ClassFile.FieldType.char), none, 10) := rfl
theorem pa270 : ParN yJ15_charAt 2 := ⟨by decide, by decide, by decide +kernel⟩
theorem mm271 : mt 271 = (yJ16_init, cJ16_init, 1, none, none, 8) := rfl
theorem pa271 : ParN yJ16_init 0 := ⟨by decide, by decide, by decide +kernel⟩
theorem mm272 : mt 272 = (yJ17_stringSize, cJ17_stringSize, 4, (Option.some Jvm.ClassFile.FieldType.int), none, 8) := rfl
theorem pa272 : ParN yJ17_stringSize 1 := ⟨by decide, by decide, by decide +kernel⟩
theorem mm273 : mt 273 = (yJ17_getChars, cJ17_getChars, 7, (Option.some Jvm.ClassFile.FieldType.int), none, 8) := rfl
theorem pa273 : ParN yJ17_getChars 3 := ⟨by decide, by decide, by decide +kernel⟩
theorem mm274 : mt 274 = (yJ17_bitCount, cJ17_bitCount, 1, (Option.some Jvm.ClassFile.FieldType.int), none, 8) := rfl
theorem pa274 : ParN yJ17_bitCount 1 := ⟨by decide, by decide, by decide +kernel⟩
theorem mm275 : mt 275 = (yJ17_numberOfTrailingZeros, cJ17_numberOfTrailingZeros, 2, (Option.some Jvm.ClassFile.FieldType.int), none, 8) := rfl
theorem pa275 : ParN yJ17_numberOfTrailingZeros 1 := ⟨by decide, by decide, by decide +kernel⟩
theorem mm276 : mt 276 = (yJ17_valueOf, cJ17_valueOf, 1, (Option.some (Jvm.ClassFile.FieldType.object "java/lang/Integer")), none, 10) := rfl
theorem pa276 : ParN yJ17_valueOf 1 := ⟨by decide, by decide, by decide +kernel⟩
theorem mm277 : mt 277 = (yJ17_init, cJ17_init, 2, none, none, 9) := rfl
theorem pa277 : ParN yJ17_init 1 := ⟨by decide, by decide, by decide +kernel⟩
theorem mm278 : mt 278 = (yJ17_intValue, cJ17_intValue, 1, (Option.some Jvm.ClassFile.FieldType.int), none, 8) := rfl
theorem pa278 : ParN yJ17_intValue 0 := ⟨by decide, by decide, by decide +kernel⟩
theorem mm279 : mt 279 = (yJ17_compare, cJ17_compare, 2, (Option.some Jvm.ClassFile.FieldType.int), none, 8) := rfl
theorem pa279 : ParN yJ17_compare 2 := ⟨by decide, by decide, by decide +kernel⟩
theorem mm280 : mt 280 = (yX3_init, cX3_init, 2, none, none, 8) := rfl
theorem pa280 : ParN yX3_init 0 := ⟨by decide, by decide, by decide +kernel⟩
theorem mm281 : mt 281 = (yX3_thrown, cX3_thrown, 1, (Option.some Jvm.ClassFile.FieldType.int), none, 8) := rfl
theorem pa281 : ParN yX3_thrown 0 := ⟨by decide, by decide, by decide +kernel⟩
theorem mm282 : mt 282 = (yX3_feed, cX3_feed, 8, (Option.some Jvm.ClassFile.FieldType.int), none, 8) := rfl
theorem pa282 : ParN yX3_feed 5 := ⟨by decide, by decide, by decide +kernel⟩
theorem mm283 : mt 283 = (yX3_rules, cX3_rules, 4, (Option.some Jvm.ClassFile.FieldType.int), none, 17) := rfl
theorem pa283 : ParN yX3_rules 2 := ⟨by decide, by decide, by decide +kernel⟩
theorem mm284 : mt 284 = (yX3_in, cX3_in, 3, (Option.some Jvm.ClassFile.FieldType.boolean), none, 8) := rfl
theorem pa284 : ParN yX3_in 3 := ⟨by decide, by decide, by decide +kernel⟩
theorem mm285 : mt 285 = (yX3_bad, cX3_bad, 3, (Option.some Jvm.ClassFile.FieldType.boolean), none, 8) := rfl
theorem pa285 : ParN yX3_bad 2 := ⟨by decide, by decide, by decide +kernel⟩
theorem mm286 : mt 286 = (yX3_walksText, cX3_walksText, 2, none, none, 16) := rfl
theorem pa286 : ParN yX3_walksText 0 := ⟨by decide, by decide, by decide +kernel⟩
theorem mm287 : mt 287 = (yX3_blanks, cX3_blanks, 1, none, none, 9) := rfl
theorem pa287 : ParN yX3_blanks 0 := ⟨by decide, by decide, by decide +kernel⟩
theorem mm288 : mt 288 = (yX3_byteAt, cX3_byteAt, 2, (Option.some Jvm.ClassFile.FieldType.int), none, 8) := rfl
theorem pa288 : ParN yX3_byteAt 1 := ⟨by decide, by decide, by decide +kernel⟩
theorem mm289 : mt 289 = (yX3_clauseHere, cX3_clauseHere, 6, none, none, 15) := rfl
theorem pa289 : ParN yX3_clauseHere 0 := ⟨by decide, by decide, by decide +kernel⟩
theorem mm290 : mt 290 = (yX3_kindHere, cX3_kindHere, 1, (Option.some Jvm.ClassFile.FieldType.int), none, 12) := rfl
theorem pa290 : ParN yX3_kindHere 0 := ⟨by decide, by decide, by decide +kernel⟩
theorem mm291 : mt 291 = (yX3_isWord, cX3_isWord, 7, (Option.some Jvm.ClassFile.FieldType.boolean), none, 11) := rfl
theorem pa291 : ParN yX3_isWord 6 := ⟨by decide, by decide, by decide +kernel⟩
theorem mm292 : mt 292 = (yX3_wordHere, cX3_wordHere, 3, (Option.some Jvm.ClassFile.FieldType.int), none, 10) := rfl
theorem pa292 : ParN yX3_wordHere 0 := ⟨by decide, by decide, by decide +kernel⟩
theorem mm293 : mt 293 = (yX3_word, cX3_word, 7, (Option.some Jvm.ClassFile.FieldType.int), none, 8) := rfl
theorem pa293 : ParN yX3_word 6 := ⟨by decide, by decide, by decide +kernel⟩
theorem mm294 : mt 294 = (yX3_wrong, cX3_wrong, 3, none, none, 8) := rfl
theorem pa294 : ParN yX3_wrong 2 := ⟨by decide, by decide, by decide +kernel⟩
theorem mm295 : mt 295 = (yX3_skipWord, cX3_skipWord, 1, none, none, 9) := rfl
theorem pa295 : ParN yX3_skipWord 0 := ⟨by decide, by decide, by decide +kernel⟩
theorem mm296 : mt 296 = (yX3_number, cX3_number, 6, (Option.some Jvm.ClassFile.FieldType.int), none, 10) := rfl
theorem pa296 : ParN yX3_number 3 := ⟨by decide, by decide, by decide +kernel⟩
theorem mm297 : mt 297 = (yX3_isDigit, cX3_isDigit, 1, (Option.some Jvm.ClassFile.FieldType.boolean), none, 8) := rfl
theorem pa297 : ParN yX3_isDigit 1 := ⟨by decide, by decide, by decide +kernel⟩
theorem mm298 : mt 298 = (yX3_sum, cX3_sum, 4, (Option.some Jvm.ClassFile.FieldType.int), none, 13) := rfl
theorem pa298 : ParN yX3_sum 0 := ⟨by decide, by decide, by decide +kernel⟩
theorem mm299 : mt 299 = (yX3_product, cX3_product, 4, (Option.some Jvm.ClassFile.FieldType.int), none, 13) := rfl
theorem pa299 : ParN yX3_product 0 := ⟨by decide, by decide, by decide +kernel⟩
theorem mm300 : mt 300 = (yX3_unit, cX3_unit, 6, (Option.some Jvm.ClassFile.FieldType.int), none, 13) := rfl
theorem pa300 : ParN yX3_unit 0 := ⟨by decide, by decide, by decide +kernel⟩
theorem mm301 : mt 301 = (yX3_nameHere, cX3_nameHere, 1, (Option.some Jvm.ClassFile.FieldType.int), none, 12) := rfl
theorem pa301 : ParN yX3_nameHere 0 := ⟨by decide, by decide, by decide +kernel⟩
theorem mm302 : mt 302 = (yX3_opensText, cX3_opensText, 2, none, none, 9) := rfl
theorem pa302 : ParN yX3_opensText 1 := ⟨by decide, by decide, by decide +kernel⟩
theorem mm303 : mt 303 = (yX3_sign, cX3_sign, 2, none, none, 10) := rfl
theorem pa303 : ParN yX3_sign 1 := ⟨by decide, by decide, by decide +kernel⟩
theorem mm304 : mt 304 = (yX3_ors, cX3_ors, 3, (Option.some Jvm.ClassFile.FieldType.boolean), none, 14) := rfl
theorem pa304 : ParN yX3_ors 0 := ⟨by decide, by decide, by decide +kernel⟩
theorem mm305 : mt 305 = (yX3_ands, cX3_ands, 3, (Option.some Jvm.ClassFile.FieldType.boolean), none, 14) := rfl
theorem pa305 : ParN yX3_ands 0 := ⟨by decide, by decide, by decide +kernel⟩
theorem mm306 : mt 306 = (yX3_test, cX3_test, 4, (Option.some Jvm.ClassFile.FieldType.boolean), none, 14) := rfl
theorem pa306 : ParN yX3_test 0 := ⟨by decide, by decide, by decide +kernel⟩
theorem mm307 : mt 307 = (yX3_tells, cX3_tells, 5, none, none, 9) := rfl
theorem pa307 : ParN yX3_tells 4 := ⟨by decide, by decide, by decide +kernel⟩
theorem mm308 : mt 308 = (yX3_within, cX3_within, 3, (Option.some Jvm.ClassFile.FieldType.int), none, 8) := rfl
theorem pa308 : ParN yX3_within 3 := ⟨by decide, by decide, by decide +kernel⟩
theorem mm309 : mt 309 = (yX3_counts, cX3_counts, 2, (Option.some Jvm.ClassFile.FieldType.int), none, 9) := rfl
theorem pa309 : ParN yX3_counts 1 := ⟨by decide, by decide, by decide +kernel⟩
theorem mm310 : mt 310 = (yX3_countsOn, cX3_countsOn, 4, (Option.some Jvm.ClassFile.FieldType.int), none, 8) := rfl
theorem pa310 : ParN yX3_countsOn 1 := ⟨by decide, by decide, by decide +kernel⟩
theorem mm311 : mt 311 = (yX3_fault, cX3_fault, 1, (Option.some Jvm.ClassFile.FieldType.int), none, 8) := rfl
theorem pa311 : ParN yX3_fault 0 := ⟨by decide, by decide, by decide +kernel⟩
theorem mm312 : mt 312 = (yX3_model, cX3_model, 8, (Option.some Jvm.ClassFile.FieldType.int), none, 9) := rfl
theorem pa312 : ParN yX3_model 4 := ⟨by decide, by decide, by decide +kernel⟩
theorem mm313 : mt 313 = (yX3_days, cX3_days, 2, (Option.some Jvm.ClassFile.FieldType.int), none, 9) := rfl
theorem pa313 : ParN yX3_days 1 := ⟨by decide, by decide, by decide +kernel⟩
theorem mm314 : mt 314 = (yX3_person, cX3_person, 8, (Option.some Jvm.ClassFile.FieldType.int), none, 9) := rfl
theorem pa314 : ParN yX3_person 5 := ⟨by decide, by decide, by decide +kernel⟩
theorem mm315 : mt 315 = (yX3_stump, cX3_stump, 5, (Option.some Jvm.ClassFile.FieldType.int), none, 10) := rfl
theorem pa315 : ParN yX3_stump 3 := ⟨by decide, by decide, by decide +kernel⟩
theorem mm316 : mt 316 = (yX3_isPerson, cX3_isPerson, 2, (Option.some Jvm.ClassFile.FieldType.boolean), none, 9) := rfl
theorem pa316 : ParN yX3_isPerson 1 := ⟨by decide, by decide, by decide +kernel⟩
theorem mm317 : mt 317 = (yX3_sizeOf, cX3_sizeOf, 3, (Option.some Jvm.ClassFile.FieldType.int), none, 8) := rfl
theorem pa317 : ParN yX3_sizeOf 2 := ⟨by decide, by decide, by decide +kernel⟩
theorem mm318 : mt 318 = (yX3_change, cX3_change, 6, (Option.some Jvm.ClassFile.FieldType.int), none, 10) := rfl
theorem pa318 : ParN yX3_change 3 := ⟨by decide, by decide, by decide +kernel⟩
theorem mm319 : mt 319 = (yX3_size, cX3_size, 3, (Option.some Jvm.ClassFile.FieldType.int), none, 10) := rfl
theorem pa319 : ParN yX3_size 2 := ⟨by decide, by decide, by decide +kernel⟩
theorem mm320 : mt 320 = (yX3_told, cX3_told, 4, (Option.some Jvm.ClassFile.FieldType.int), none, 18) := rfl
theorem pa320 : ParN yX3_told 3 := ⟨by decide, by decide, by decide +kernel⟩
theorem mm321 : mt 321 = (yX3_asksOn, cX3_asksOn, 4, none, none, 17) := rfl
theorem pa321 : ParN yX3_asksOn 2 := ⟨by decide, by decide, by decide +kernel⟩
theorem mm322 : mt 322 = (yX3_barred, cX3_barred, 4, (Option.some Jvm.ClassFile.FieldType.boolean), none, 19) := rfl
theorem pa322 : ParN yX3_barred 3 := ⟨by decide, by decide, by decide +kernel⟩
theorem mm323 : mt 323 = (yX3_isModel, cX3_isModel, 2, (Option.some Jvm.ClassFile.FieldType.boolean), none, 9) := rfl
theorem pa323 : ParN yX3_isModel 1 := ⟨by decide, by decide, by decide +kernel⟩
theorem mm324 : mt 324 = (yX3_asks, cX3_asks, 2, none, none, 18) := rfl
theorem pa324 : ParN yX3_asks 1 := ⟨by decide, by decide, by decide +kernel⟩
theorem mm325 : mt 325 = (yX3_fit, cX3_fit, 5, (Option.some Jvm.ClassFile.FieldType.int), none, 20) := rfl
theorem pa325 : ParN yX3_fit 3 := ⟨by decide, by decide, by decide +kernel⟩
theorem mm326 : mt 326 = (yX3_badFit, cX3_badFit, 4, (Option.some Jvm.ClassFile.FieldType.boolean), none, 10) := rfl
theorem pa326 : ParN yX3_badFit 3 := ⟨by decide, by decide, by decide +kernel⟩
theorem mm327 : mt 327 = (yX3_hinders, cX3_hinders, 3, (Option.some Jvm.ClassFile.FieldType.int), none, 19) := rfl
theorem pa327 : ParN yX3_hinders 2 := ⟨by decide, by decide, by decide +kernel⟩
theorem mm328 : mt 328 = (yX3_isBarredThere, cX3_isBarredThere, 4, (Option.some Jvm.ClassFile.FieldType.boolean), none, 9) := rfl
theorem pa328 : ParN yX3_isBarredThere 2 := ⟨by decide, by decide, by decide +kernel⟩
theorem mm329 : mt 329 = (yX3_has, cX3_has, 3, (Option.some Jvm.ClassFile.FieldType.boolean), none, 8) := rfl
theorem pa329 : ParN yX3_has 2 := ⟨by decide, by decide, by decide +kernel⟩
theorem mm330 : mt 330 = (yX3_fittingOf, cX3_fittingOf, 3, (Option.some (Jvm.ClassFile.FieldType.array Jvm.ClassFile.FieldType.int)), none, 8) := rfl
theorem pa330 : ParN yX3_fittingOf 2 := ⟨by decide, by decide, by decide +kernel⟩
theorem mm331 : mt 331 = (yX3_fitsIt, cX3_fitsIt, 4, (Option.some Jvm.ClassFile.FieldType.int), none, 10) := rfl
theorem pa331 : ParN yX3_fitsIt 3 := ⟨by decide, by decide, by decide +kernel⟩
theorem mm332 : mt 332 = (yX3_puts, cX3_puts, 6, none, none, 9) := rfl
theorem pa332 : ParN yX3_puts 4 := ⟨by decide, by decide, by decide +kernel⟩
theorem mm333 : mt 333 = (yX3_take, cX3_take, 5, (Option.some Jvm.ClassFile.FieldType.int), none, 20) := rfl
theorem pa333 : ParN yX3_take 3 := ⟨by decide, by decide, by decide +kernel⟩
theorem mm334 : mt 334 = (yX3_part, cX3_part, 4, (Option.some Jvm.ClassFile.FieldType.int), none, 19) := rfl
theorem pa334 : ParN yX3_part 3 := ⟨by decide, by decide, by decide +kernel⟩
theorem mm335 : mt 335 = (yX3_wornOf, cX3_wornOf, 3, (Option.some Jvm.ClassFile.FieldType.int), none, 9) := rfl
theorem pa335 : ParN yX3_wornOf 2 := ⟨by decide, by decide, by decide +kernel⟩
theorem mm336 : mt 336 = (yX3_rate, cX3_rate, 2, (Option.some Jvm.ClassFile.FieldType.int), none, 8) := rfl
theorem pa336 : ParN yX3_rate 1 := ⟨by decide, by decide, by decide +kernel⟩
theorem mm337 : mt 337 = (yX3_wornBy, cX3_wornBy, 4, (Option.some Jvm.ClassFile.FieldType.int), none, 8) := rfl
theorem pa337 : ParN yX3_wornBy 3 := ⟨by decide, by decide, by decide +kernel⟩
theorem mm338 : mt 338 = (yX3_dueBy, cX3_dueBy, 5, (Option.some Jvm.ClassFile.FieldType.int), none, 9) := rfl
theorem pa338 : ParN yX3_dueBy 3 := ⟨by decide, by decide, by decide +kernel⟩
theorem mm339 : mt 339 = (yX3_beside, cX3_beside, 5, (Option.some Jvm.ClassFile.FieldType.int), none, 19) := rfl
theorem pa339 : ParN yX3_beside 2 := ⟨by decide, by decide, by decide +kernel⟩
theorem mm340 : mt 340 = (yX3_fits, cX3_fits, 6, (Option.some Jvm.ClassFile.FieldType.int), none, 10) := rfl
theorem pa340 : ParN yX3_fits 3 := ⟨by decide, by decide, by decide +kernel⟩
theorem mm341 : mt 341 = (yX3_reuse, cX3_reuse, 7, (Option.some Jvm.ClassFile.FieldType.int), none, 20) := rfl
theorem pa341 : ParN yX3_reuse 3 := ⟨by decide, by decide, by decide +kernel⟩
theorem mm342 : mt 342 = (yX3_next, cX3_next, 4, (Option.some Jvm.ClassFile.FieldType.int), none, 10) := rfl
theorem pa342 : ParN yX3_next 2 := ⟨by decide, by decide, by decide +kernel⟩
theorem mm343 : mt 343 = (yX3_isBeyond, cX3_isBeyond, 3, (Option.some Jvm.ClassFile.FieldType.boolean), none, 8) := rfl
theorem pa343 : ParN yX3_isBeyond 2 := ⟨by decide, by decide, by decide +kernel⟩
theorem mm344 : mt 344 = (yX3_lacks, cX3_lacks, 3, (Option.some Jvm.ClassFile.FieldType.int), none, 19) := rfl
theorem pa344 : ParN yX3_lacks 2 := ⟨by decide, by decide, by decide +kernel⟩
theorem mm345 : mt 345 = (yX3_lacking, cX3_lacking, 4, (Option.some Jvm.ClassFile.FieldType.int), none, 9) := rfl
theorem pa345 : ParN yX3_lacking 1 := ⟨by decide, by decide, by decide +kernel⟩
theorem mm346 : mt 346 = (yX3_waited, cX3_waited, 5, (Option.some Jvm.ClassFile.FieldType.int), none, 9) := rfl
theorem pa346 : ParN yX3_waited 2 := ⟨by decide, by decide, by decide +kernel⟩
theorem mm347 : mt 347 = (yX3_more, cX3_more, 2, (Option.some Jvm.ClassFile.FieldType.int), none, 8) := rfl
theorem pa347 : ParN yX3_more 2 := ⟨by decide, by decide, by decide +kernel⟩
theorem mm348 : mt 348 = (yX3_beyond, cX3_beyond, 3, (Option.some Jvm.ClassFile.FieldType.int), none, 20) := rfl
theorem pa348 : ParN yX3_beyond 0 := ⟨by decide, by decide, by decide +kernel⟩
theorem mm349 : mt 349 = (yX3_longer, cX3_longer, 3, (Option.some Jvm.ClassFile.FieldType.int), none, 19) := rfl
theorem pa349 : ParN yX3_longer 1 := ⟨by decide, by decide, by decide +kernel⟩
theorem mm350 : mt 350 = (yX3_served, cX3_served, 6, (Option.some Jvm.ClassFile.FieldType.int), none, 20) := rfl
theorem pa350 : ParN yX3_served 1 := ⟨by decide, by decide, by decide +kernel⟩
theorem mm351 : mt 351 = (yX3_choice, cX3_choice, 3, (Option.some Jvm.ClassFile.FieldType.int), none, 20) := rfl
theorem pa351 : ParN yX3_choice 2 := ⟨by decide, by decide, by decide +kernel⟩
theorem mm352 : mt 352 = (yX3_findChoice, cX3_findChoice, 2, (Option.some Jvm.ClassFile.FieldType.boolean), none, 19) := rfl
theorem pa352 : ParN yX3_findChoice 1 := ⟨by decide, by decide, by decide +kernel⟩
theorem mm353 : mt 353 = (yX3_chooses, cX3_chooses, 6, none, none, 8) := rfl
theorem pa353 : ParN yX3_chooses 2 := ⟨by decide, by decide, by decide +kernel⟩
theorem mm354 : mt 354 = (yX3_choose, cX3_choose, 3, (Option.some Jvm.ClassFile.FieldType.int), none, 20) := rfl
theorem pa354 : ParN yX3_choose 2 := ⟨by decide, by decide, by decide +kernel⟩
theorem mm355 : mt 355 = (yX3_clause, cX3_clause, 3, (Option.some Jvm.ClassFile.FieldType.int), none, 19) := rfl
theorem pa355 : ParN yX3_clause 2 := ⟨by decide, by decide, by decide +kernel⟩
theorem mm356 : mt 356 = (yX3_job, cX3_job, 5, (Option.some Jvm.ClassFile.FieldType.int), none, 10) := rfl
theorem pa356 : ParN yX3_job 4 := ⟨by decide, by decide, by decide +kernel⟩
theorem mm357 : mt 357 = (yX3_benches, cX3_benches, 3, (Option.some Jvm.ClassFile.FieldType.int), none, 9) := rfl
theorem pa357 : ParN yX3_benches 1 := ⟨by decide, by decide, by decide +kernel⟩
theorem mm358 : mt 358 = (yX3_cost, cX3_cost, 5, (Option.some Jvm.ClassFile.FieldType.int), none, 10) := rfl
theorem pa358 : ParN yX3_cost 1 := ⟨by decide, by decide, by decide +kernel⟩
theorem mm359 : mt 359 = (yX3_runs, cX3_runs, 10, (Option.some Jvm.ClassFile.FieldType.int), none, 9) := rfl
theorem pa359 : ParN yX3_runs 2 := ⟨by decide, by decide, by decide +kernel⟩
theorem mm360 : mt 360 = (yX3_best, cX3_best, 3, (Option.some Jvm.ClassFile.FieldType.int), none, 12) := rfl
theorem pa360 : ParN yX3_best 0 := ⟨by decide, by decide, by decide +kernel⟩
theorem mm361 : mt 361 = (yX3_findBest, cX3_findBest, 1, none, none, 11) := rfl
theorem pa361 : ParN yX3_findBest 0 := ⟨by decide, by decide, by decide +kernel⟩
theorem mm362 : mt 362 = (yX3_orders, cX3_orders, 5, none, none, 10) := rfl
theorem pa362 : ParN yX3_orders 2 := ⟨by decide, by decide, by decide +kernel⟩
theorem mm363 : mt 363 = (yX3_delay, cX3_delay, 4, (Option.some Jvm.ClassFile.FieldType.int), none, 12) := rfl
theorem pa363 : ParN yX3_delay 2 := ⟨by decide, by decide, by decide +kernel⟩
theorem mm364 : mt 364 = (yX3_isJob, cX3_isJob, 2, (Option.some Jvm.ClassFile.FieldType.boolean), none, 9) := rfl
theorem pa364 : ParN yX3_isJob 1 := ⟨by decide, by decide, by decide +kernel⟩
theorem mm365 : mt 365 = (yX3_done, cX3_done, 2, (Option.some Jvm.ClassFile.FieldType.int), none, 12) := rfl
theorem pa365 : ParN yX3_done 1 := ⟨by decide, by decide, by decide +kernel⟩
theorem mm366 : mt 366 = (yX3_maker, cX3_maker, 2, (Option.some Jvm.ClassFile.FieldType.int), none, 9) := rfl
theorem pa366 : ParN yX3_maker 1 := ⟨by decide, by decide, by decide +kernel⟩
theorem mm367 : mt 367 = (yX3_order, cX3_order, 3, (Option.some Jvm.ClassFile.FieldType.int), none, 10) := rfl
theorem pa367 : ParN yX3_order 2 := ⟨by decide, by decide, by decide +kernel⟩
theorem mm368 : mt 368 = (yX3_isMaker, cX3_isMaker, 2, (Option.some Jvm.ClassFile.FieldType.boolean), none, 9) := rfl
theorem pa368 : ParN yX3_isMaker 1 := ⟨by decide, by decide, by decide +kernel⟩
theorem mm369 : mt 369 = (yX3_arrive, cX3_arrive, 2, (Option.some Jvm.ClassFile.FieldType.int), none, 10) := rfl
theorem pa369 : ParN yX3_arrive 1 := ⟨by decide, by decide, by decide +kernel⟩
theorem mm370 : mt 370 = (yX3_isThing, cX3_isThing, 2, (Option.some Jvm.ClassFile.FieldType.boolean), none, 9) := rfl
theorem pa370 : ParN yX3_isThing 1 := ⟨by decide, by decide, by decide +kernel⟩
theorem mm371 : mt 371 = (yX3_lose, cX3_lose, 2, (Option.some Jvm.ClassFile.FieldType.int), none, 10) := rfl
theorem pa371 : ParN yX3_lose 1 := ⟨by decide, by decide, by decide +kernel⟩
theorem mm372 : mt 372 = (yX3_forecast, cX3_forecast, 3, (Option.some Jvm.ClassFile.FieldType.int), none, 10) := rfl
theorem pa372 : ParN yX3_forecast 2 := ⟨by decide, by decide, by decide +kernel⟩
theorem mm373 : mt 373 = (yX3_lateness, cX3_lateness, 6, (Option.some Jvm.ClassFile.FieldType.int), none, 8) := rfl
theorem pa373 : ParN yX3_lateness 2 := ⟨by decide, by decide, by decide +kernel⟩
theorem mm374 : mt 374 = (yX3_late, cX3_late, 5, (Option.some Jvm.ClassFile.FieldType.int), none, 10) := rfl
theorem pa374 : ParN yX3_late 2 := ⟨by decide, by decide, by decide +kernel⟩
theorem mm375 : mt 375 = (yX3_stock, cX3_stock, 2, (Option.some Jvm.ClassFile.FieldType.int), none, 10) := rfl
theorem pa375 : ParN yX3_stock 1 := ⟨by decide, by decide, by decide +kernel⟩
theorem mm376 : mt 376 = (yX3_spare, cX3_spare, 2, (Option.some Jvm.ClassFile.FieldType.int), none, 10) := rfl
theorem pa376 : ParN yX3_spare 1 := ⟨by decide, by decide, by decide +kernel⟩
theorem mm377 : mt 377 = (yX3_lent, cX3_lent, 6, (Option.some Jvm.ClassFile.FieldType.int), none, 10) := rfl
theorem pa377 : ParN yX3_lent 1 := ⟨by decide, by decide, by decide +kernel⟩
theorem mm378 : mt 378 = (yX3_findLoans, cX3_findLoans, 5, none, none, 9) := rfl
theorem pa378 : ParN yX3_findLoans 0 := ⟨by decide, by decide, by decide +kernel⟩
theorem mm379 : mt 379 = (yX3_worthTo, cX3_worthTo, 3, (Option.some Jvm.ClassFile.FieldType.int), none, 8) := rfl
theorem pa379 : ParN yX3_worthTo 2 := ⟨by decide, by decide, by decide +kernel⟩
theorem mm380 : mt 380 = (yX3_lending, cX3_lending, 1, (Option.some Jvm.ClassFile.FieldType.int), none, 10) := rfl
theorem pa380 : ParN yX3_lending 0 := ⟨by decide, by decide, by decide +kernel⟩
theorem mm381 : mt 381 = (yX3_recall, cX3_recall, 7, (Option.some Jvm.ClassFile.FieldType.int), none, 10) := rfl
theorem pa381 : ParN yX3_recall 3 := ⟨by decide, by decide, by decide +kernel⟩
theorem mm382 : mt 382 = (yX3_recalled, cX3_recalled, 3, (Option.some Jvm.ClassFile.FieldType.int), none, 20) := rfl
theorem pa382 : ParN yX3_recalled 0 := ⟨by decide, by decide, by decide +kernel⟩
theorem mm383 : mt 383 = (yX3_called, cX3_called, 6, (Option.some Jvm.ClassFile.FieldType.int), none, 19) := rfl
theorem pa383 : ParN yX3_called 1 := ⟨by decide, by decide, by decide +kernel⟩
theorem mm384 : mt 384 = (yX3_seen, cX3_seen, 6, (Option.some Jvm.ClassFile.FieldType.int), none, 20) := rfl
theorem pa384 : ParN yX3_seen 2 := ⟨by decide, by decide, by decide +kernel⟩
theorem mm385 : mt 385 = (yX3_measure, cX3_measure, 5, (Option.some Jvm.ClassFile.FieldType.int), none, 10) := rfl
theorem pa385 : ParN yX3_measure 3 := ⟨by decide, by decide, by decide +kernel⟩
theorem mm386 : mt 386 = (yX3_latest, cX3_latest, 4, (Option.some Jvm.ClassFile.FieldType.int), none, 8) := rfl
theorem pa386 : ParN yX3_latest 1 := ⟨by decide, by decide, by decide +kernel⟩
theorem mm387 : mt 387 = (yX3_growth, cX3_growth, 3, (Option.some Jvm.ClassFile.FieldType.int), none, 11) := rfl
theorem pa387 : ParN yX3_growth 2 := ⟨by decide, by decide, by decide +kernel⟩
theorem mm388 : mt 388 = (yX3_growths, cX3_growths, 2, (Option.some Jvm.ClassFile.FieldType.int), none, 9) := rfl
theorem pa388 : ParN yX3_growths 1 := ⟨by decide, by decide, by decide +kernel⟩
theorem mm389 : mt 389 = (yX3_growthOf, cX3_growthOf, 8, (Option.some Jvm.ClassFile.FieldType.int), none, 8) := rfl
theorem pa389 : ParN yX3_growthOf 2 := ⟨by decide, by decide, by decide +kernel⟩
theorem mm390 : mt 390 = (yX3_growthBy, cX3_growthBy, 7, (Option.some Jvm.ClassFile.FieldType.int), none, 10) := rfl
theorem pa390 : ParN yX3_growthBy 2 := ⟨by decide, by decide, by decide +kernel⟩
theorem mm391 : mt 391 = (yX3_nextBy, cX3_nextBy, 4, (Option.some Jvm.ClassFile.FieldType.int), none, 11) := rfl
theorem pa391 : ParN yX3_nextBy 3 := ⟨by decide, by decide, by decide +kernel⟩
theorem mm392 : mt 392 = (yX3_nextWith, cX3_nextWith, 6, (Option.some Jvm.ClassFile.FieldType.int), none, 9) := rfl
theorem pa392 : ParN yX3_nextWith 3 := ⟨by decide, by decide, by decide +kernel⟩
theorem mm393 : mt 393 = (yX3_chance, cX3_chance, 8, (Option.some Jvm.ClassFile.FieldType.int), none, 10) := rfl
theorem pa393 : ParN yX3_chance 3 := ⟨by decide, by decide, by decide +kernel⟩
theorem mm394 : mt 394 = (yX3_fitter, cX3_fitter, 3, (Option.some Jvm.ClassFile.FieldType.int), none, 10) := rfl
theorem pa394 : ParN yX3_fitter 1 := ⟨by decide, by decide, by decide +kernel⟩
theorem mm395 : mt 395 = (yX3_isFitter, cX3_isFitter, 1, (Option.some Jvm.ClassFile.FieldType.boolean), none, 9) := rfl
theorem pa395 : ParN yX3_isFitter 1 := ⟨by decide, by decide, by decide +kernel⟩
theorem mm396 : mt 396 = (yX3_blister, cX3_blister, 4, (Option.some Jvm.ClassFile.FieldType.int), none, 10) := rfl
theorem pa396 : ParN yX3_blister 1 := ⟨by decide, by decide, by decide +kernel⟩
theorem mm397 : mt 397 = (yX3_skill, cX3_skill, 4, (Option.some Jvm.ClassFile.FieldType.int), none, 10) := rfl
theorem pa397 : ParN yX3_skill 3 := ⟨by decide, by decide, by decide +kernel⟩
theorem mm398 : mt 398 = (yX3_skillOf, cX3_skillOf, 8, (Option.some Jvm.ClassFile.FieldType.int), none, 8) := rfl
theorem pa398 : ParN yX3_skillOf 3 := ⟨by decide, by decide, by decide +kernel⟩
theorem mm399 : mt 399 = (yX3_better, cX3_better, 6, (Option.some Jvm.ClassFile.FieldType.int), none, 10) := rfl
theorem pa399 : ParN yX3_better 3 := ⟨by decide, by decide, by decide +kernel⟩
theorem mm400 : mt 400 = (yX3_trial, cX3_trial, 3, (Option.some Jvm.ClassFile.FieldType.int), none, 9) := rfl
theorem pa400 : ParN yX3_trial 2 := ⟨by decide, by decide, by decide +kernel⟩
theorem mm401 : mt 401 = (yX3_gain, cX3_gain, 1, (Option.some Jvm.ClassFile.FieldType.int), none, 9) := rfl
theorem pa401 : ParN yX3_gain 0 := ⟨by decide, by decide, by decide +kernel⟩
theorem mm402 : mt 402 = (yX3_gainBy, cX3_gainBy, 4, (Option.some Jvm.ClassFile.FieldType.int), none, 8) := rfl
theorem pa402 : ParN yX3_gainBy 1 := ⟨by decide, by decide, by decide +kernel⟩
theorem mm403 : mt 403 = (yX3_ways, cX3_ways, 3, (Option.some Jvm.ClassFile.FieldType.int), none, 9) := rfl
theorem pa403 : ParN yX3_ways 0 := ⟨by decide, by decide, by decide +kernel⟩
theorem mm404 : mt 404 = (yX3_anew, cX3_anew, 2, (Option.some Jvm.ClassFile.FieldType.int), none, 8) := rfl
theorem pa404 : ParN yX3_anew 0 := ⟨by decide, by decide, by decide +kernel⟩
theorem mm405 : mt 405 = (yX3_cause, cX3_cause, 3, (Option.some Jvm.ClassFile.FieldType.int), none, 9) := rfl
theorem pa405 : ParN yX3_cause 2 := ⟨by decide, by decide, by decide +kernel⟩
theorem mm406 : mt 406 = (yX3_see, cX3_see, 3, (Option.some Jvm.ClassFile.FieldType.int), none, 10) := rfl
theorem pa406 : ParN yX3_see 2 := ⟨by decide, by decide, by decide +kernel⟩
theorem mm407 : mt 407 = (yX3_opens, cX3_opens, 3, (Option.some Jvm.ClassFile.FieldType.int), none, 9) := rfl
theorem pa407 : ParN yX3_opens 0 := ⟨by decide, by decide, by decide +kernel⟩
theorem mm408 : mt 408 = (yX3_isOpen, cX3_isOpen, 2, (Option.some Jvm.ClassFile.FieldType.boolean), none, 8) := rfl
theorem pa408 : ParN yX3_isOpen 1 := ⟨by decide, by decide, by decide +kernel⟩
theorem mm409 : mt 409 = (yX3_sure, cX3_sure, 3, (Option.some Jvm.ClassFile.FieldType.int), none, 10) := rfl
theorem pa409 : ParN yX3_sure 0 := ⟨by decide, by decide, by decide +kernel⟩
theorem mm410 : mt 410 = (yX3_look, cX3_look, 7, (Option.some Jvm.ClassFile.FieldType.int), none, 9) := rfl
theorem pa410 : ParN yX3_look 0 := ⟨by decide, by decide, by decide +kernel⟩
theorem mm411 : mt 411 = (yX3_walk, cX3_walk, 4, (Option.some Jvm.ClassFile.FieldType.int), none, 10) := rfl
theorem pa411 : ParN yX3_walk 3 := ⟨by decide, by decide, by decide +kernel⟩
theorem mm412 : mt 412 = (yX3_changed, cX3_changed, 10, (Option.some Jvm.ClassFile.FieldType.int), none, 10) := rfl
theorem pa412 : ParN yX3_changed 2 := ⟨by decide, by decide, by decide +kernel⟩
theorem mm413 : mt 413 = (yX3_spent, cX3_spent, 5, (Option.some Jvm.ClassFile.FieldType.int), none, 10) := rfl
theorem pa413 : ParN yX3_spent 2 := ⟨by decide, by decide, by decide +kernel⟩
theorem mm414 : mt 414 = (yX3_image, cX3_image, 1, (Option.some Jvm.ClassFile.FieldType.int), none, 12) := rfl
theorem pa414 : ParN yX3_image 0 := ⟨by decide, by decide, by decide +kernel⟩
theorem mm415 : mt 415 = (yX3_movesAll, cX3_movesAll, 3, none, none, 11) := rfl
theorem pa415 : ParN yX3_movesAll 2 := ⟨by decide, by decide, by decide +kernel⟩
theorem mm416 : mt 416 = (yX3_moves, cX3_moves, 4, (Option.some Jvm.ClassFile.FieldType.int), none, 8) := rfl
theorem pa416 : ParN yX3_moves 3 := ⟨by decide, by decide, by decide +kernel⟩
theorem mm417 : mt 417 = (yX3_movesRow, cX3_movesRow, 5, none, none, 9) := rfl
theorem pa417 : ParN yX3_movesRow 3 := ⟨by decide, by decide, by decide +kernel⟩
theorem mm418 : mt 418 = (yX3_movesRows, cX3_movesRows, 5, none, none, 10) := rfl
theorem pa418 : ParN yX3_movesRows 3 := ⟨by decide, by decide, by decide +kernel⟩
theorem mm419 : mt 419 = (yX3_restore, cX3_restore, 1, (Option.some Jvm.ClassFile.FieldType.int), none, 12) := rfl
theorem pa419 : ParN yX3_restore 0 := ⟨by decide, by decide, by decide +kernel⟩
theorem mm420 : mt 420 = (yX3_count, cX3_count, 2, (Option.some Jvm.ClassFile.FieldType.int), none, 9) := rfl
theorem pa420 : ParN yX3_count 1 := ⟨by decide, by decide, by decide +kernel⟩
theorem mm421 : mt 421 = (yX3_ones, cX3_ones, 3, (Option.some Jvm.ClassFile.FieldType.int), none, 8) := rfl
theorem pa421 : ParN yX3_ones 1 := ⟨by decide, by decide, by decide +kernel⟩
theorem mm422 : mt 422 = (yX4_init, cX4_init, 3, none, none, 8) := rfl
theorem pa422 : ParN yX4_init 2 := ⟨by decide, by decide, by decide +kernel⟩
theorem mm423 : mt 423 = (yX5_init, cX5_init, 3, none, none, 8) := rfl
theorem pa423 : ParN yX5_init 2 := ⟨by decide, by decide, by decide +kernel⟩
theorem mm424 : mt 424 = (yX5_reads, cX5_reads, 3, (Option.some (Jvm.ClassFile.FieldType.object "java/util/ArrayList")), none, 23) := rfl
theorem pa424 : ParN yX5_reads 0 := ⟨by decide, by decide, by decide +kernel⟩
theorem mm425 : mt 425 = (yX5_sign, cX5_sign, 1, (Option.some Jvm.ClassFile.FieldType.int), none, 8) := rfl
theorem pa425 : ParN yX5_sign 0 := ⟨by decide, by decide, by decide +kernel⟩
theorem mm426 : mt 426 = (yX5_clause, cX5_clause, 8, (Option.some (Jvm.ClassFile.FieldType.object "LimbBenches$Clause")), none, 22) := rfl
theorem pa426 : ParN yX5_clause 1 := ⟨by decide, by decide, by decide +kernel⟩
theorem mm427 : mt 427 = (yX5_word, cX5_word, 3, (Option.some (Jvm.ClassFile.FieldType.object "java/lang/String")), none, 19) := rfl
theorem pa427 : ParN yX5_word 0 := ⟨by decide, by decide, by decide +kernel⟩
theorem mm428 : mt 428 = (yX5_wrong, cX5_wrong, 1, (Option.some (Jvm.ClassFile.FieldType.object "LimbBenches$Wrong")), none, 11) := rfl
theorem pa428 : ParN yX5_wrong 0 := ⟨by decide, by decide, by decide +kernel⟩
theorem mm429 : mt 429 = (yX5_number, cX5_number, 5, (Option.some Jvm.ClassFile.FieldType.int), none, 12) := rfl
theorem pa429 : ParN yX5_number 2 := ⟨by decide, by decide, by decide +kernel⟩
theorem mm430 : mt 430 = (yX5_isDigit, cX5_isDigit, 2, (Option.some Jvm.ClassFile.FieldType.boolean), none, 9) := rfl
theorem pa430 : ParN yX5_isDigit 0 := ⟨by decide, by decide, by decide +kernel⟩
theorem mm431 : mt 431 = (yX5_expr, cX5_expr, 3, (Option.some (Jvm.ClassFile.FieldType.object "LimbBenches$Expr")), none, 21) := rfl
theorem pa431 : ParN yX5_expr 0 := ⟨by decide, by decide, by decide +kernel⟩
theorem mm432 : mt 432 = (yX5_product, cX5_product, 3, (Option.some (Jvm.ClassFile.FieldType.object "LimbBenches$Expr")), none, 21) := rfl
theorem pa432 : ParN yX5_product 0 := ⟨by decide, by decide, by decide +kernel⟩
theorem mm433 : mt 433 = (yX5_unit, cX5_unit, 4, (Option.some (Jvm.ClassFile.FieldType.object "LimbBenches$Expr")), none, 21) := rfl
theorem pa433 : ParN yX5_unit 0 := ⟨by decide, by decide, by decide +kernel⟩
theorem mm434 : mt 434 = (yX5_opens, cX5_opens, 1, none, none, 12) := rfl
theorem pa434 : ParN yX5_opens 0 := ⟨by decide, by decide, by decide +kernel⟩
theorem mm435 : mt 435 = (yX5_opens_2, cX5_opens_2, 2, none, none, 11) := rfl
theorem pa435 : ParN yX5_opens_2 1 := ⟨by decide, by decide, by decide +kernel⟩
theorem mm436 : mt 436 = (yX5_closes, cX5_closes, 2, none, none, 13) := rfl
theorem pa436 : ParN yX5_closes 1 := ⟨by decide, by decide, by decide +kernel⟩
theorem mm437 : mt 437 = (yX5_need, cX5_need, 2, none, none, 12) := rfl
theorem pa437 : ParN yX5_need 1 := ⟨by decide, by decide, by decide +kernel⟩
theorem mm438 : mt 438 = (yX5_nameOf, cX5_nameOf, 3, (Option.some Jvm.ClassFile.FieldType.int), none, 20) := rfl
theorem pa438 : ParN yX5_nameOf 1 := ⟨by decide, by decide, by decide +kernel⟩
theorem mm439 : mt 439 = (yX5_takes, cX5_takes, 2, (Option.some Jvm.ClassFile.FieldType.boolean), none, 20) := rfl
theorem pa439 : ParN yX5_takes 1 := ⟨by decide, by decide, by decide +kernel⟩
theorem mm440 : mt 440 = (yX5_cond, cX5_cond, 2, (Option.some (Jvm.ClassFile.FieldType.object "LimbBenches$Cond")), none, 22) := rfl
theorem pa440 : ParN yX5_cond 0 := ⟨by decide, by decide, by decide +kernel⟩
theorem mm441 : mt 441 = (yX5_all, cX5_all, 2, (Option.some (Jvm.ClassFile.FieldType.object "LimbBenches$Cond")), none, 22) := rfl
theorem pa441 : ParN yX5_all 0 := ⟨by decide, by decide, by decide +kernel⟩
theorem mm442 : mt 442 = (yX5_one, cX5_one, 3, (Option.some (Jvm.ClassFile.FieldType.object "LimbBenches$Cond")), none, 22) := rfl
theorem pa442 : ParN yX5_one 0 := ⟨by decide, by decide, by decide +kernel⟩
theorem mm443 : mt 443 = (yX6_init, cX6_init, 3, none, none, 10) := rfl
theorem pa443 : ParN yX6_init 2 := ⟨by decide, by decide, by decide +kernel⟩
theorem mm444 : mt 444 = (yX7_tells, cX7_tells, 3, (Option.some Jvm.ClassFile.FieldType.boolean), none, 8) := rfl
theorem pa444 : ParN yX7_tells 2 := ⟨by decide, by decide, by decide +kernel⟩
theorem mm445 : mt 445 = (yX7_holds, cX7_holds, 2, (Option.some Jvm.ClassFile.FieldType.boolean), none, 12) := rfl
theorem pa445 : ParN yX7_holds 1 := ⟨by decide, by decide, by decide +kernel⟩
theorem mm446 : mt 446 = (yX7_value, cX7_value, 2, (Option.some Jvm.ClassFile.FieldType.int), none, 8) := rfl
theorem pa446 : ParN yX7_value 1 := ⟨by decide, by decide, by decide +kernel⟩
theorem mm447 : mt 447 = (yX7_needs, cX7_needs, 1, (Option.some Jvm.ClassFile.FieldType.int), none, 8) := rfl
theorem pa447 : ParN yX7_needs 0 := ⟨by decide, by decide, by decide +kernel⟩
theorem mm448 : mt 448 = (yX7_recalls, cX7_recalls, 3, (Option.some Jvm.ClassFile.FieldType.boolean), none, 8) := rfl
theorem pa448 : ParN yX7_recalls 2 := ⟨by decide, by decide, by decide +kernel⟩
theorem mm449 : mt 449 = (yX7_init, cX7_init, 1, none, none, 8) := rfl
theorem pa449 : ParN yX7_init 0 := ⟨by decide, by decide, by decide +kernel⟩
theorem mm450 : mt 450 = (yX7_bars, cX7_bars, 4, (Option.some Jvm.ClassFile.FieldType.boolean), none, 8) := rfl
theorem pa450 : ParN yX7_bars 3 := ⟨by decide, by decide, by decide +kernel⟩
theorem mm451 : mt 451 = (yX8_init, cX8_init, 3, none, none, 9) := rfl
theorem pa451 : ParN yX8_init 2 := ⟨by decide, by decide, by decide +kernel⟩
theorem mm452 : mt 452 = (yX8_bars, cX8_bars, 4, (Option.some Jvm.ClassFile.FieldType.boolean), none, 13) := rfl
theorem pa452 : ParN yX8_bars 3 := ⟨by decide, by decide, by decide +kernel⟩
theorem mm453 : mt 453 = (yX9_tells, cX9_tells, 3, (Option.some Jvm.ClassFile.FieldType.boolean), none, 8) := rfl
theorem pa453 : ParN yX9_tells 2 := ⟨by decide, by decide, by decide +kernel⟩
theorem mm454 : mt 454 = (yX9_value, cX9_value, 2, (Option.some Jvm.ClassFile.FieldType.int), none, 10) := rfl
theorem pa454 : ParN yX9_value 1 := ⟨by decide, by decide, by decide +kernel⟩
theorem mm455 : mt 455 = (yX9_init, cX9_init, 4, none, none, 9) := rfl
theorem pa455 : ParN yX9_init 3 := ⟨by decide, by decide, by decide +kernel⟩
theorem mm456 : mt 456 = (yX10_of, cX10_of, 2, (Option.some Jvm.ClassFile.FieldType.int), none, 8) := rfl
theorem pa456 : ParN yX10_of 1 := ⟨by decide, by decide, by decide +kernel⟩
theorem mm457 : mt 457 = (yX10_init, cX10_init, 2, none, none, 8) := rfl
theorem pa457 : ParN yX10_init 1 := ⟨by decide, by decide, by decide +kernel⟩
theorem mm458 : mt 458 = (yX11_of, cX11_of, 4, (Option.some Jvm.ClassFile.FieldType.int), none, 9) := rfl
theorem pa458 : ParN yX11_of 1 := ⟨by decide, by decide, by decide +kernel⟩
theorem mm459 : mt 459 = (yX11_init, cX11_init, 4, none, none, 8) := rfl
theorem pa459 : ParN yX11_init 3 := ⟨by decide, by decide, by decide +kernel⟩
theorem mm460 : mt 460 = (yX12_of, cX12_of, 2, (Option.some Jvm.ClassFile.FieldType.int), none, 8) := rfl
theorem pa460 : ParN yX12_of 1 := ⟨by decide, by decide, by decide +kernel⟩
theorem mm461 : mt 461 = (yX12_init, cX12_init, 2, none, none, 8) := rfl
theorem pa461 : ParN yX12_init 1 := ⟨by decide, by decide, by decide +kernel⟩
theorem mm462 : mt 462 = (yX13_recalls, cX13_recalls, 3, (Option.some Jvm.ClassFile.FieldType.boolean), none, 13) := rfl
theorem pa462 : ParN yX13_recalls 2 := ⟨by decide, by decide, by decide +kernel⟩
theorem mm463 : mt 463 = (yX13_init, cX13_init, 4, none, none, 9) := rfl
theorem pa463 : ParN yX13_init 3 := ⟨by decide, by decide, by decide +kernel⟩
theorem mm464 : mt 464 = (yX14_needs, cX14_needs, 1, (Option.some Jvm.ClassFile.FieldType.int), none, 8) := rfl
theorem pa464 : ParN yX14_needs 0 := ⟨by decide, by decide, by decide +kernel⟩
theorem mm465 : mt 465 = (yX14_init, cX14_init, 2, none, none, 9) := rfl
theorem pa465 : ParN yX14_init 1 := ⟨by decide, by decide, by decide +kernel⟩
theorem mm466 : mt 466 = (yX15_init, cX15_init, 1, none, none, 8) := rfl
theorem pa466 : ParN yX15_init 0 := ⟨by decide, by decide, by decide +kernel⟩
theorem mm467 : mt 467 = (yX16_holds, cX16_holds, 2, (Option.some Jvm.ClassFile.FieldType.boolean), none, 11) := rfl
theorem pa467 : ParN yX16_holds 1 := ⟨by decide, by decide, by decide +kernel⟩
theorem mm468 : mt 468 = (yX16_init, cX16_init, 2, none, none, 9) := rfl
theorem pa468 : ParN yX16_init 1 := ⟨by decide, by decide, by decide +kernel⟩
theorem mm469 : mt 469 = (yX17_holds, cX17_holds, 4, (Option.some Jvm.ClassFile.FieldType.boolean), none, 10) := rfl
theorem pa469 : ParN yX17_holds 1 := ⟨by decide, by decide, by decide +kernel⟩
theorem mm470 : mt 470 = (yX17_init, cX17_init, 4, none, none, 9) := rfl
theorem pa470 : ParN yX17_init 3 := ⟨by decide, by decide, by decide +kernel⟩
theorem mm471 : mt 471 = (yX18_holds, cX18_holds, 4, (Option.some Jvm.ClassFile.FieldType.boolean), none, 11) := rfl
theorem pa471 : ParN yX18_holds 1 := ⟨by decide, by decide, by decide +kernel⟩
theorem mm472 : mt 472 = (yX18_init, cX18_init, 4, none, none, 9) := rfl
theorem pa472 : ParN yX18_init 3 := ⟨by decide, by decide, by decide +kernel⟩
theorem mm473 : mt 473 = (yJ18_checkIndex, cJ18_checkIndex, 2, (Option.some Jvm.ClassFile.FieldType.int), none, 9) := rfl
theorem pa473 : ParN yJ18_checkIndex 2 := ⟨by decide, by decide, by decide +kernel⟩
theorem mm474 : mt 474 = (yX19_init, cX19_init, 7, none, none, 8) := rfl
theorem pa474 : ParN yX19_init 4 := ⟨by decide, by decide, by decide +kernel⟩
theorem mm475 : mt 475 = (yJ19_init, cJ19_init, 1, none, none, 11) := rfl
theorem pa475 : ParN yJ19_init 0 := ⟨by decide, by decide, by decide +kernel⟩
theorem mm476 : mt 476 = (yX20_worn, cX20_worn, 3, (Option.some Jvm.ClassFile.FieldType.int), none, 9) := rfl
theorem pa476 : ParN yX20_worn 2 := ⟨by decide, by decide, by decide +kernel⟩
theorem mm477 : mt 477 = (yX20_pace, cX20_pace, 1, (Option.some Jvm.ClassFile.FieldType.int), none, 8) := rfl
theorem pa477 : ParN yX20_pace 0 := ⟨by decide, by decide, by decide +kernel⟩
theorem mm478 : mt 478 = (yX20_worn_2, cX20_worn_2, 4, (Option.some Jvm.ClassFile.FieldType.int), none, 8) := rfl
theorem pa478 : ParN yX20_worn_2 3 := ⟨by decide, by decide, by decide +kernel⟩
theorem mm479 : mt 479 = (yX20_like, cX20_like, 3, (Option.some (Jvm.ClassFile.FieldType.object "LimbBenches$Person")), none, 9) := rfl
theorem pa479 : ParN yX20_like 0 := ⟨by decide, by decide, by decide +kernel⟩
theorem mm480 : mt 480 = (yX20_init, cX20_init, 8, none, none, 8) := rfl
theorem pa480 : ParN yX20_init 6 := ⟨by decide, by decide, by decide +kernel⟩
theorem mm481 : mt 481 = (yX20_size, cX20_size, 2, (Option.some Jvm.ClassFile.FieldType.int), none, 8) := rfl
theorem pa481 : ParN yX20_size 1 := ⟨by decide, by decide, by decide +kernel⟩
theorem mm482 : mt 482 = (yJ20_init, cJ20_init, 1, none, none, 11) := rfl
theorem pa482 : ParN yJ20_init 0 := ⟨by decide, by decide, by decide +kernel⟩
theorem mm483 : mt 483 = (yJ21_init, cJ21_init, 2, none, none, 11) := rfl
theorem pa483 : ParN yJ21_init 1 := ⟨by decide, by decide, by decide +kernel⟩
theorem mm484 : mt 484 = (yJ21_init_2, cJ21_init_2, 1, none, none, 11) := rfl
theorem pa484 : ParN yJ21_init_2 0 := ⟨by decide, by decide, by decide +kernel⟩
theorem mm485 : mt 485 = (yJ22_init, cJ22_init, 2, none, none, 12) := rfl
theorem pa485 : ParN yJ22_init 1 := ⟨by decide, by decide, by decide +kernel⟩
theorem mm486 : mt 486 = (yX21_init, cX21_init, 7, none, none, 8) := rfl
theorem pa486 : ParN yX21_init 6 := ⟨by decide, by decide, by decide +kernel⟩
theorem mm487 : mt 487 = (yX22_init, cX22_init, 4, none, none, 8) := rfl
theorem pa487 : ParN yX22_init 3 := ⟨by decide, by decide, by decide +kernel⟩
theorem mm488 : mt 488 = (yX23_init, cX23_init, 5, none, none, 8) := rfl
theorem pa488 : ParN yX23_init 4 := ⟨by decide, by decide, by decide +kernel⟩
theorem mm489 : mt 489 = (yX24_like, cX24_like, 2, (Option.some (Jvm.ClassFile.FieldType.object "LimbBenches$Maker")), none, 9) := rfl
theorem pa489 : ParN yX24_like 0 := ⟨by decide, by decide, by decide +kernel⟩
theorem mm490 : mt 490 = (yX24_init, cX24_init, 2, none, none, 8) := rfl
theorem pa490 : ParN yX24_init 1 := ⟨by decide, by decide, by decide +kernel⟩
theorem mm491 : mt 491 = (yX24_late, cX24_late, 2, none, none, 8) := rfl
theorem pa491 : ParN yX24_late 1 := ⟨by decide, by decide, by decide +kernel⟩
theorem mm492 : mt 492 = (yX25_init, cX25_init, 5, none, none, 8) := rfl
theorem pa492 : ParN yX25_init 4 := ⟨by decide, by decide, by decide +kernel⟩
theorem mm493 : mt 493 = (yX25_ended, cX25_ended, 1, (Option.some (Jvm.ClassFile.FieldType.object "LimbBenches$Ordered")), none, 9) := rfl
theorem pa493 : ParN yX25_ended 0 := ⟨by decide, by decide, by decide +kernel⟩
theorem mm494 : mt 494 = (yX26_init, cX26_init, 4, none, none, 8) := rfl
theorem pa494 : ParN yX26_init 3 := ⟨by decide, by decide, by decide +kernel⟩
theorem mm495 : mt 495 = (yX27_init, cX27_init, 3, none, none, 8) := rfl
theorem pa495 : ParN yX27_init 2 := ⟨by decide, by decide, by decide +kernel⟩
theorem mm496 : mt 496 = (yX28_init, cX28_init, 3, none, none, 8) := rfl
theorem pa496 : ParN yX28_init 2 := ⟨by decide, by decide, by decide +kernel⟩
theorem mm497 : mt 497 = (yX29_init, cX29_init, 4, none, none, 8) := rfl
theorem pa497 : ParN yX29_init 3 := ⟨by decide, by decide, by decide +kernel⟩
theorem mm498 : mt 498 = (yJ23_init, cJ23_init, 1, none, none, 8) := rfl
theorem pa498 : ParN yJ23_init 0 := ⟨by decide, by decide, by decide +kernel⟩
theorem mm499 : mt 499 = (yJ24_getUTF16Char, cJ24_getUTF16Char, 3, (Option.some Jvm.ClassFile.FieldType.char), none, 10) := rfl
theorem pa499 : ParN yJ24_getUTF16Char 2 := ⟨by decide, by decide, by decide +kernel⟩
theorem mm500 : mt 500 = ((⟨"LimbBenchesLaw", "law", "([I)Z"⟩ : MethodName), cL_law, 7, (some .boolean), none, 26) := rfl
theorem pn_J0 : plainName RJ0 = true := by decide +kernel
theorem pn_J1 : plainName RJ1 = true := by decide +kernel
theorem pn_J10 : plainName RJ10 = true := by decide +kernel
theorem pn_J11 : plainName RJ11 = true := by decide +kernel
theorem pn_J13 : plainName RJ13 = true := by decide +kernel
theorem pn_J14 : plainName RJ14 = true := by decide +kernel
theorem pn_J15 : plainName RJ15 = true := by decide +kernel
theorem pn_J16 : plainName RJ16 = true := by decide +kernel
theorem pn_J17 : plainName RJ17 = true := by decide +kernel
theorem pn_J18 : plainName RJ18 = true := by decide +kernel
theorem pn_J19 : plainName RJ19 = true := by decide +kernel
theorem pn_J2 : plainName RJ2 = true := by decide +kernel
theorem pn_J20 : plainName RJ20 = true := by decide +kernel
theorem pn_J21 : plainName RJ21 = true := by decide +kernel
theorem pn_J22 : plainName RJ22 = true := by decide +kernel
theorem pn_J24 : plainName RJ24 = true := by decide +kernel
theorem pn_J3 : plainName RJ3 = true := by decide +kernel
theorem pn_J4 : plainName RJ4 = true := by decide +kernel
theorem pn_J5 : plainName RJ5 = true := by decide +kernel
theorem pn_J6 : plainName RJ6 = true := by decide +kernel
theorem pn_J7 : plainName RJ7 = true := by decide +kernel
theorem pn_J8 : plainName RJ8 = true := by decide +kernel
theorem pn_J9 : plainName RJ9 = true := by decide +kernel
theorem pn_X0 : plainName RX0 = true := by decide +kernel
theorem pn_X1 : plainName RX1 = true := by decide +kernel
theorem pn_X10 : plainName RX10 = true := by decide +kernel
theorem pn_X11 : plainName RX11 = true := by decide +kernel
theorem pn_X12 : plainName RX12 = true := by decide +kernel
theorem pn_X13 : plainName RX13 = true := by decide +kernel
theorem pn_X14 : plainName RX14 = true := by decide +kernel
theorem pn_X15 : plainName RX15 = true := by decide +kernel
theorem pn_X16 : plainName RX16 = true := by decide +kernel
theorem pn_X17 : plainName RX17 = true := by decide +kernel
theorem pn_X18 : plainName RX18 = true := by decide +kernel
theorem pn_X19 : plainName RX19 = true := by decide +kernel
theorem pn_X2 : plainName RX2 = true := by decide +kernel
theorem pn_X20 : plainName RX20 = true := by decide +kernel
theorem pn_X21 : plainName RX21 = true := by decide +kernel
theorem pn_X22 : plainName RX22 = true := by decide +kernel
theorem pn_X23 : plainName RX23 = true := by decide +kernel
theorem pn_X24 : plainName RX24 = true := by decide +kernel
theorem pn_X25 : plainName RX25 = true := by decide +kernel
theorem pn_X26 : plainName RX26 = true := by decide +kernel
theorem pn_X27 : plainName RX27 = true := by decide +kernel
theorem pn_X28 : plainName RX28 = true := by decide +kernel
theorem pn_X29 : plainName RX29 = true := by decide +kernel
theorem pn_X3 : plainName RX3 = true := by decide +kernel
theorem pn_X4 : plainName RX4 = true := by decide +kernel
theorem pn_X5 : plainName RX5 = true := by decide +kernel
theorem pn_X6 : plainName RX6 = true := by decide +kernel
theorem pn_X7 : plainName RX7 = true := by decide +kernel
theorem pn_X8 : plainName RX8 = true := by decide +kernel
theorem pn_X9 : plainName RX9 = true := by decide +kernel
theorem pd_X1_0 : parseFieldDescriptor (TX1 0).2.2.1 = some (.object "LimbBenches$State") := by decide +kernel
theorem pd_X1_1 : parseFieldDescriptor (TX1 1).2.2.1 = some (.object "java/util/ArrayList") := by decide +kernel
theorem pd_X1_2 : parseFieldDescriptor (TX1 2).2.2.1 = some (.object "java/util/ArrayList") := by decide +kernel
theorem pd_X1_3 : parseFieldDescriptor (TX1 3).2.2.1 = some (.object "java/util/ArrayList") := by decide +kernel
theorem pd_X1_4 : parseFieldDescriptor (TX1 4).2.2.1 = some .int := by decide +kernel
theorem pd_X1_5 : parseFieldDescriptor (TX1 5).2.2.1 = some .int := by decide +kernel
theorem pd_X1_6 : parseFieldDescriptor (TX1 6).2.2.1 = some .int := by decide +kernel
theorem pd_X1_7 : parseFieldDescriptor (TX1 7).2.2.1 = some (.array .byte) := by decide +kernel
theorem pd_X1_8 : parseFieldDescriptor (TX1 8).2.2.1 = some (.array (.object "LimbBenches$State")) := by decide +kernel
theorem pd_X1_9 : parseFieldDescriptor (TX1 9).2.2.1 = some (.array .int) := by decide +kernel
theorem pd_X1_10 : parseFieldDescriptor (TX1 10).2.2.1 = some (.array .int) := by decide +kernel
theorem pd_X1_11 : parseFieldDescriptor (TX1 11).2.2.1 = some (.array .int) := by decide +kernel
theorem pd_X1_12 : parseFieldDescriptor (TX1 12).2.2.1 = some .int := by decide +kernel
theorem pd_X1_13 : parseFieldDescriptor (TX1 13).2.2.1 = some .int := by decide +kernel
theorem pd_X1_14 : parseFieldDescriptor (TX1 14).2.2.1 = some .boolean := by decide +kernel
theorem pd_X1_15 : parseFieldDescriptor (TX1 15).2.2.1 = some (.array .int) := by decide +kernel
theorem pd_X1_16 : parseFieldDescriptor (TX1 16).2.2.1 = some (.array .int) := by decide +kernel
theorem pd_X1_17 : parseFieldDescriptor (TX1 17).2.2.1 = some .int := by decide +kernel
theorem pd_X1_18 : parseFieldDescriptor (TX1 18).2.2.1 = some .int := by decide +kernel
theorem pd_X1_19 : parseFieldDescriptor (TX1 19).2.2.1 = some .int := by decide +kernel
theorem pd_X1_20 : parseFieldDescriptor (TX1 20).2.2.1 = some (.array .int) := by decide +kernel
theorem pd_X1_21 : parseFieldDescriptor (TX1 21).2.2.1 = some (.array .int) := by decide +kernel
theorem pd_X1_22 : parseFieldDescriptor (TX1 22).2.2.1 = some .int := by decide +kernel
theorem pd_X8_1 : parseFieldDescriptor (TX8 1).2.2.1 = some .int := by decide +kernel
theorem pd_X8_2 : parseFieldDescriptor (TX8 2).2.2.1 = some .int := by decide +kernel
theorem pd_X18_0 : parseFieldDescriptor (TX18 0).2.2.1 = some .boolean := by decide +kernel
theorem pd_X18_1 : parseFieldDescriptor (TX18 1).2.2.1 = some (.object "LimbBenches$Cond") := by decide +kernel
theorem pd_X18_2 : parseFieldDescriptor (TX18 2).2.2.1 = some (.object "LimbBenches$Cond") := by decide +kernel
theorem pd_X28_0 : parseFieldDescriptor (TX28 0).2.2.1 = some .int := by decide +kernel
theorem pd_X28_1 : parseFieldDescriptor (TX28 1).2.2.1 = some .int := by decide +kernel
theorem pd_X17_0 : parseFieldDescriptor (TX17 0).2.2.1 = some .char := by decide +kernel
theorem pd_X17_1 : parseFieldDescriptor (TX17 1).2.2.1 = some (.object "LimbBenches$Expr") := by decide +kernel
theorem pd_X17_2 : parseFieldDescriptor (TX17 2).2.2.1 = some (.object "LimbBenches$Expr") := by decide +kernel
theorem pd_X22_0 : parseFieldDescriptor (TX22 0).2.2.1 = some .int := by decide +kernel
theorem pd_X22_1 : parseFieldDescriptor (TX22 1).2.2.1 = some .int := by decide +kernel
theorem pd_X22_2 : parseFieldDescriptor (TX22 2).2.2.1 = some .int := by decide +kernel
theorem pd_X23_0 : parseFieldDescriptor (TX23 0).2.2.1 = some .int := by decide +kernel
theorem pd_X23_1 : parseFieldDescriptor (TX23 1).2.2.1 = some .int := by decide +kernel
theorem pd_X23_2 : parseFieldDescriptor (TX23 2).2.2.1 = some .int := by decide +kernel
theorem pd_X23_3 : parseFieldDescriptor (TX23 3).2.2.1 = some .int := by decide +kernel
theorem pd_X24_0 : parseFieldDescriptor (TX24 0).2.2.1 = some .int := by decide +kernel
theorem pd_X24_1 : parseFieldDescriptor (TX24 1).2.2.1 = some .int := by decide +kernel
theorem pd_X24_2 : parseFieldDescriptor (TX24 2).2.2.1 = some .int := by decide +kernel
theorem pd_X24_3 : parseFieldDescriptor (TX24 3).2.2.1 = some .int := by decide +kernel
theorem pd_X24_4 : parseFieldDescriptor (TX24 4).2.2.1 = some .int := by decide +kernel
theorem pd_X24_5 : parseFieldDescriptor (TX24 5).2.2.1 = some .int := by decide +kernel
theorem pd_X26_0 : parseFieldDescriptor (TX26 0).2.2.1 = some .int := by decide +kernel
theorem pd_X26_1 : parseFieldDescriptor (TX26 1).2.2.1 = some .int := by decide +kernel
theorem pd_X26_2 : parseFieldDescriptor (TX26 2).2.2.1 = some .int := by decide +kernel
theorem pd_X19_0 : parseFieldDescriptor (TX19 0).2.2.1 = some .int := by decide +kernel
theorem pd_X19_1 : parseFieldDescriptor (TX19 1).2.2.1 = some .int := by decide +kernel
theorem pd_X19_2 : parseFieldDescriptor (TX19 2).2.2.1 = some .int := by decide +kernel
theorem pd_X19_3 : parseFieldDescriptor (TX19 3).2.2.1 = some (.array .int) := by decide +kernel
theorem pd_X12_0 : parseFieldDescriptor (TX12 0).2.2.1 = some .int := by decide +kernel
theorem pd_X14_1 : parseFieldDescriptor (TX14 1).2.2.1 = some .int := by decide +kernel
theorem pd_X16_0 : parseFieldDescriptor (TX16 0).2.2.1 = some (.object "LimbBenches$Cond") := by decide +kernel
theorem pd_X10_0 : parseFieldDescriptor (TX10 0).2.2.1 = some .int := by decide +kernel
theorem pd_X25_0 : parseFieldDescriptor (TX25 0).2.2.1 = some .int := by decide +kernel
theorem pd_X25_1 : parseFieldDescriptor (TX25 1).2.2.1 = some .int := by decide +kernel
theorem pd_X25_2 : parseFieldDescriptor (TX25 2).2.2.1 = some .int := by decide +kernel
theorem pd_X25_3 : parseFieldDescriptor (TX25 3).2.2.1 = some .boolean := by decide +kernel
theorem pd_X27_0 : parseFieldDescriptor (TX27 0).2.2.1 = some .int := by decide +kernel
theorem pd_X27_1 : parseFieldDescriptor (TX27 1).2.2.1 = some .int := by decide +kernel
theorem pd_X21_0 : parseFieldDescriptor (TX21 0).2.2.1 = some .int := by decide +kernel
theorem pd_X21_1 : parseFieldDescriptor (TX21 1).2.2.1 = some .int := by decide +kernel
theorem pd_X21_2 : parseFieldDescriptor (TX21 2).2.2.1 = some .int := by decide +kernel
theorem pd_X21_3 : parseFieldDescriptor (TX21 3).2.2.1 = some .int := by decide +kernel
theorem pd_X21_4 : parseFieldDescriptor (TX21 4).2.2.1 = some .int := by decide +kernel
theorem pd_X21_5 : parseFieldDescriptor (TX21 5).2.2.1 = some .int := by decide +kernel
theorem pd_X20_0 : parseFieldDescriptor (TX20 0).2.2.1 = some .int := by decide +kernel
theorem pd_X20_1 : parseFieldDescriptor (TX20 1).2.2.1 = some .int := by decide +kernel
theorem pd_X20_2 : parseFieldDescriptor (TX20 2).2.2.1 = some .int := by decide +kernel
theorem pd_X20_3 : parseFieldDescriptor (TX20 3).2.2.1 = some .int := by decide +kernel
theorem pd_X20_4 : parseFieldDescriptor (TX20 4).2.2.1 = some .int := by decide +kernel
theorem pd_X20_5 : parseFieldDescriptor (TX20 5).2.2.1 = some .int := by decide +kernel
theorem pd_X20_6 : parseFieldDescriptor (TX20 6).2.2.1 = some .int := by decide +kernel
theorem pd_X20_7 : parseFieldDescriptor (TX20 7).2.2.1 = some .int := by decide +kernel
theorem pd_X20_8 : parseFieldDescriptor (TX20 8).2.2.1 = some (.array (.object "LimbBenches$Part")) := by decide +kernel
theorem pd_X20_9 : parseFieldDescriptor (TX20 9).2.2.1 = some (.array .int) := by decide +kernel
theorem pd_X20_10 : parseFieldDescriptor (TX20 10).2.2.1 = some (.array .int) := by decide +kernel
theorem pd_X20_11 : parseFieldDescriptor (TX20 11).2.2.1 = some (.array .int) := by decide +kernel
theorem pd_X5_0 : parseFieldDescriptor (TX5 0).2.2.1 = some (.array .byte) := by decide +kernel
theorem pd_X5_1 : parseFieldDescriptor (TX5 1).2.2.1 = some .int := by decide +kernel
theorem pd_X5_2 : parseFieldDescriptor (TX5 2).2.2.1 = some .int := by decide +kernel
theorem pd_X5_3 : parseFieldDescriptor (TX5 3).2.2.1 = some .int := by decide +kernel
theorem pd_X13_1 : parseFieldDescriptor (TX13 1).2.2.1 = some .int := by decide +kernel
theorem pd_X13_2 : parseFieldDescriptor (TX13 2).2.2.1 = some .int := by decide +kernel
theorem pd_X13_3 : parseFieldDescriptor (TX13 3).2.2.1 = some .int := by decide +kernel
theorem pd_X4_0 : parseFieldDescriptor (TX4 0).2.2.1 = some .int := by decide +kernel
theorem pd_X4_1 : parseFieldDescriptor (TX4 1).2.2.1 = some (.object "java/util/ArrayList") := by decide +kernel
theorem pd_X2_0 : parseFieldDescriptor (TX2 0).2.2.1 = some (.object "java/util/ArrayList") := by decide +kernel
theorem pd_X2_1 : parseFieldDescriptor (TX2 1).2.2.1 = some (.object "java/util/ArrayList") := by decide +kernel
theorem pd_X2_2 : parseFieldDescriptor (TX2 2).2.2.1 = some (.object "java/util/ArrayList") := by decide +kernel
theorem pd_X2_3 : parseFieldDescriptor (TX2 3).2.2.1 = some (.object "java/util/ArrayList") := by decide +kernel
theorem pd_X2_4 : parseFieldDescriptor (TX2 4).2.2.1 = some (.object "java/util/ArrayList") := by decide +kernel
theorem pd_X2_5 : parseFieldDescriptor (TX2 5).2.2.1 = some (.object "java/util/ArrayList") := by decide +kernel
theorem pd_X2_6 : parseFieldDescriptor (TX2 6).2.2.1 = some (.object "java/util/ArrayList") := by decide +kernel
theorem pd_X2_7 : parseFieldDescriptor (TX2 7).2.2.1 = some (.object "java/util/ArrayList") := by decide +kernel
theorem pd_X2_8 : parseFieldDescriptor (TX2 8).2.2.1 = some (.object "java/util/ArrayList") := by decide +kernel
theorem pd_X2_9 : parseFieldDescriptor (TX2 9).2.2.1 = some (.object "java/util/ArrayList") := by decide +kernel
theorem pd_X2_10 : parseFieldDescriptor (TX2 10).2.2.1 = some (.array .int) := by decide +kernel
theorem pd_X2_11 : parseFieldDescriptor (TX2 11).2.2.1 = some (.array .int) := by decide +kernel
theorem pd_X2_12 : parseFieldDescriptor (TX2 12).2.2.1 = some .int := by decide +kernel
theorem pd_X2_13 : parseFieldDescriptor (TX2 13).2.2.1 = some .int := by decide +kernel
theorem pd_X2_14 : parseFieldDescriptor (TX2 14).2.2.1 = some .int := by decide +kernel
theorem pd_X2_15 : parseFieldDescriptor (TX2 15).2.2.1 = some .int := by decide +kernel
theorem pd_X2_16 : parseFieldDescriptor (TX2 16).2.2.1 = some .int := by decide +kernel
theorem pd_X2_17 : parseFieldDescriptor (TX2 17).2.2.1 = some .int := by decide +kernel
theorem pd_X2_18 : parseFieldDescriptor (TX2 18).2.2.1 = some .int := by decide +kernel
theorem pd_X9_1 : parseFieldDescriptor (TX9 1).2.2.1 = some .char := by decide +kernel
theorem pd_X9_2 : parseFieldDescriptor (TX9 2).2.2.1 = some .int := by decide +kernel
theorem pd_X9_3 : parseFieldDescriptor (TX9 3).2.2.1 = some (.object "LimbBenches$Expr") := by decide +kernel
theorem pd_X11_0 : parseFieldDescriptor (TX11 0).2.2.1 = some .char := by decide +kernel
theorem pd_X11_1 : parseFieldDescriptor (TX11 1).2.2.1 = some (.object "LimbBenches$Expr") := by decide +kernel
theorem pd_X11_2 : parseFieldDescriptor (TX11 2).2.2.1 = some (.object "LimbBenches$Expr") := by decide +kernel
theorem pd_X29_0 : parseFieldDescriptor (TX29 0).2.2.1 = some .int := by decide +kernel
theorem pd_X29_1 : parseFieldDescriptor (TX29 1).2.2.1 = some .int := by decide +kernel
theorem pd_X29_2 : parseFieldDescriptor (TX29 2).2.2.1 = some .int := by decide +kernel
theorem pd_X6_0 : parseFieldDescriptor (TX6 0).2.2.1 = some (.object "java/lang/Throwable") := by decide +kernel
theorem pd_X6_1 : parseFieldDescriptor (TX6 1).2.2.1 = some (.array (.object "java/lang/StackTraceElement")) := by decide +kernel
theorem pd_X6_2 : parseFieldDescriptor (TX6 2).2.2.1 = some (.object "java/util/List") := by decide +kernel
theorem pd_X6_3 : parseFieldDescriptor (TX6 3).2.2.1 = some (.object "java/lang/String") := by decide +kernel
theorem pd_X6_6 : parseFieldDescriptor (TX6 6).2.2.1 = some .int := by decide +kernel
theorem pd_X6_7 : parseFieldDescriptor (TX6 7).2.2.1 = some .int := by decide +kernel
theorem pd_X3_0 : parseFieldDescriptor (TX3 0).2.2.1 = some .int := by decide +kernel
theorem pd_X3_1 : parseFieldDescriptor (TX3 1).2.2.1 = some .int := by decide +kernel
theorem pd_X3_2 : parseFieldDescriptor (TX3 2).2.2.1 = some .int := by decide +kernel
theorem pd_X3_3 : parseFieldDescriptor (TX3 3).2.2.1 = some .int := by decide +kernel
theorem pd_X3_4 : parseFieldDescriptor (TX3 4).2.2.1 = some .int := by decide +kernel
theorem pd_X3_5 : parseFieldDescriptor (TX3 5).2.2.1 = some .int := by decide +kernel
theorem pd_X3_6 : parseFieldDescriptor (TX3 6).2.2.1 = some .int := by decide +kernel
theorem pd_X3_7 : parseFieldDescriptor (TX3 7).2.2.1 = some .int := by decide +kernel
theorem pd_X3_8 : parseFieldDescriptor (TX3 8).2.2.1 = some .int := by decide +kernel
theorem pd_X3_9 : parseFieldDescriptor (TX3 9).2.2.1 = some .boolean := by decide +kernel
theorem pd_X3_10 : parseFieldDescriptor (TX3 10).2.2.1 = some (.array .int) := by decide +kernel
theorem pd_X3_11 : parseFieldDescriptor (TX3 11).2.2.1 = some (.array (.array .int)) := by decide +kernel
theorem pd_X3_12 : parseFieldDescriptor (TX3 12).2.2.1 = some (.array .int) := by decide +kernel
theorem pd_X3_13 : parseFieldDescriptor (TX3 13).2.2.1 = some (.array .int) := by decide +kernel
theorem pd_X3_14 : parseFieldDescriptor (TX3 14).2.2.1 = some .int := by decide +kernel
theorem pd_X3_15 : parseFieldDescriptor (TX3 15).2.2.1 = some .int := by decide +kernel
theorem pd_X3_16 : parseFieldDescriptor (TX3 16).2.2.1 = some (.array .int) := by decide +kernel
theorem pd_X3_17 : parseFieldDescriptor (TX3 17).2.2.1 = some (.array .int) := by decide +kernel
theorem pd_X3_18 : parseFieldDescriptor (TX3 18).2.2.1 = some (.array .int) := by decide +kernel
theorem pd_X3_19 : parseFieldDescriptor (TX3 19).2.2.1 = some (.array .int) := by decide +kernel
theorem pd_X3_20 : parseFieldDescriptor (TX3 20).2.2.1 = some .int := by decide +kernel
theorem pd_X3_21 : parseFieldDescriptor (TX3 21).2.2.1 = some .int := by decide +kernel
theorem pd_X3_22 : parseFieldDescriptor (TX3 22).2.2.1 = some .int := by decide +kernel
theorem pd_X3_23 : parseFieldDescriptor (TX3 23).2.2.1 = some .int := by decide +kernel
theorem pd_X3_24 : parseFieldDescriptor (TX3 24).2.2.1 = some .int := by decide +kernel
theorem pd_X3_25 : parseFieldDescriptor (TX3 25).2.2.1 = some .int := by decide +kernel
theorem pd_X3_26 : parseFieldDescriptor (TX3 26).2.2.1 = some (.array (.array .int)) := by decide +kernel
theorem pd_X3_27 : parseFieldDescriptor (TX3 27).2.2.1 = some .int := by decide +kernel
theorem pd_X3_28 : parseFieldDescriptor (TX3 28).2.2.1 = some .int := by decide +kernel
theorem pd_X3_29 : parseFieldDescriptor (TX3 29).2.2.1 = some .int := by decide +kernel
theorem pd_X3_30 : parseFieldDescriptor (TX3 30).2.2.1 = some .int := by decide +kernel
theorem pd_X3_31 : parseFieldDescriptor (TX3 31).2.2.1 = some .int := by decide +kernel
theorem pd_X3_32 : parseFieldDescriptor (TX3 32).2.2.1 = some .int := by decide +kernel
theorem pd_X3_33 : parseFieldDescriptor (TX3 33).2.2.1 = some .int := by decide +kernel
theorem pd_X3_34 : parseFieldDescriptor (TX3 34).2.2.1 = some .int := by decide +kernel
theorem pd_X3_35 : parseFieldDescriptor (TX3 35).2.2.1 = some .int := by decide +kernel
theorem pd_X3_36 : parseFieldDescriptor (TX3 36).2.2.1 = some .int := by decide +kernel
theorem pd_X3_37 : parseFieldDescriptor (TX3 37).2.2.1 = some .int := by decide +kernel
theorem pd_X3_38 : parseFieldDescriptor (TX3 38).2.2.1 = some .int := by decide +kernel
theorem pd_X3_39 : parseFieldDescriptor (TX3 39).2.2.1 = some .int := by decide +kernel
theorem pd_X3_40 : parseFieldDescriptor (TX3 40).2.2.1 = some .int := by decide +kernel
theorem pd_X3_41 : parseFieldDescriptor (TX3 41).2.2.1 = some .int := by decide +kernel
theorem pd_X3_42 : parseFieldDescriptor (TX3 42).2.2.1 = some .int := by decide +kernel
theorem pd_X3_43 : parseFieldDescriptor (TX3 43).2.2.1 = some .int := by decide +kernel
theorem pd_X3_44 : parseFieldDescriptor (TX3 44).2.2.1 = some .int := by decide +kernel
theorem pd_X3_45 : parseFieldDescriptor (TX3 45).2.2.1 = some (.array (.array .int)) := by decide +kernel
theorem pd_X3_46 : parseFieldDescriptor (TX3 46).2.2.1 = some (.array (.array .int)) := by decide +kernel
theorem pd_X3_47 : parseFieldDescriptor (TX3 47).2.2.1 = some (.array .int) := by decide +kernel
theorem pd_X3_48 : parseFieldDescriptor (TX3 48).2.2.1 = some (.array .int) := by decide +kernel
theorem pd_X3_49 : parseFieldDescriptor (TX3 49).2.2.1 = some (.array (.array .int)) := by decide +kernel
theorem pd_X3_50 : parseFieldDescriptor (TX3 50).2.2.1 = some (.array (.array .int)) := by decide +kernel
theorem pd_X3_51 : parseFieldDescriptor (TX3 51).2.2.1 = some (.array .int) := by decide +kernel
theorem pd_X3_52 : parseFieldDescriptor (TX3 52).2.2.1 = some (.array .int) := by decide +kernel
theorem pd_X3_53 : parseFieldDescriptor (TX3 53).2.2.1 = some (.array (.array .int)) := by decide +kernel
theorem pd_X3_54 : parseFieldDescriptor (TX3 54).2.2.1 = some (.array (.array .int)) := by decide +kernel
theorem pd_X3_55 : parseFieldDescriptor (TX3 55).2.2.1 = some (.array (.array .int)) := by decide +kernel
theorem pd_X3_56 : parseFieldDescriptor (TX3 56).2.2.1 = some (.array (.array .int)) := by decide +kernel
theorem pd_X3_57 : parseFieldDescriptor (TX3 57).2.2.1 = some (.array (.array .int)) := by decide +kernel
theorem pd_X3_58 : parseFieldDescriptor (TX3 58).2.2.1 = some (.array (.array .int)) := by decide +kernel
theorem pd_X3_59 : parseFieldDescriptor (TX3 59).2.2.1 = some (.array .int) := by decide +kernel
theorem pd_X3_60 : parseFieldDescriptor (TX3 60).2.2.1 = some (.array .int) := by decide +kernel
theorem pd_X3_61 : parseFieldDescriptor (TX3 61).2.2.1 = some (.array .int) := by decide +kernel
theorem pd_X3_62 : parseFieldDescriptor (TX3 62).2.2.1 = some .int := by decide +kernel
theorem pd_X3_63 : parseFieldDescriptor (TX3 63).2.2.1 = some (.array .int) := by decide +kernel
theorem pd_X3_64 : parseFieldDescriptor (TX3 64).2.2.1 = some (.array .int) := by decide +kernel
theorem pd_X3_65 : parseFieldDescriptor (TX3 65).2.2.1 = some .int := by decide +kernel
theorem pd_X3_66 : parseFieldDescriptor (TX3 66).2.2.1 = some .int := by decide +kernel
theorem pd_X3_67 : parseFieldDescriptor (TX3 67).2.2.1 = some (.array (.array .int)) := by decide +kernel
theorem pd_X3_68 : parseFieldDescriptor (TX3 68).2.2.1 = some (.array (.array .int)) := by decide +kernel
theorem pd_X3_69 : parseFieldDescriptor (TX3 69).2.2.1 = some .int := by decide +kernel
theorem pd_X3_70 : parseFieldDescriptor (TX3 70).2.2.1 = some .int := by decide +kernel
theorem pd_J17_0 : parseFieldDescriptor (TJ17 0).2.2.1 = some .int := by decide +kernel
theorem pd_J9_0 : parseFieldDescriptor (TJ9 0).2.2.1 = some (.array .byte) := by decide +kernel
theorem pd_J9_1 : parseFieldDescriptor (TJ9 1).2.2.1 = some .byte := by decide +kernel
theorem pd_J9_2 : parseFieldDescriptor (TJ9 2).2.2.1 = some .int := by decide +kernel
theorem pd_J9_3 : parseFieldDescriptor (TJ9 3).2.2.1 = some .boolean := by decide +kernel
theorem pd_J8_0 : parseFieldDescriptor (TJ8 0).2.2.1 = some (.array .byte) := by decide +kernel
theorem pd_J8_1 : parseFieldDescriptor (TJ8 1).2.2.1 = some .byte := by decide +kernel
theorem pd_J8_3 : parseFieldDescriptor (TJ8 3).2.2.1 = some .int := by decide +kernel
theorem pd_J2_0 : parseFieldDescriptor (TJ2 0).2.2.1 = some .int := by decide +kernel
theorem pd_J2_1 : parseFieldDescriptor (TJ2 1).2.2.1 = some (.array (.object "java/lang/Object")) := by decide +kernel
theorem pd_J2_2 : parseFieldDescriptor (TJ2 2).2.2.1 = some .int := by decide +kernel
theorem pax_0 : ParN (⟨"LimbBenches$Expr", "of", "([I)I"⟩ : MethodName) 1 := ⟨by decide, by decide, by decide +kernel⟩
theorem es3_ok : ∀ t ∈ es3, EOK "java/lang/Object" t := (List.forall_mem_cons.mpr ⟨⟨7, _, Or.inl rfl, (Nat.le_of_ble_eq_true rfl), vc_7, Or.inr (List.mem_filter.mpr ⟨q3209, rfl⟩)⟩, (List.forall_mem_cons.mpr ⟨⟨8, _, Or.inl rfl, (Nat.le_of_ble_eq_true rfl), vc_8, Or.inr (List.mem_filter.mpr ⟨q3210, rfl⟩)⟩, (List.forall_mem_cons.mpr ⟨⟨12, _, Or.inl rfl, (Nat.le_of_ble_eq_true rfl), vc_12, Or.inr (List.mem_filter.mpr ⟨q3214, rfl⟩)⟩, (List.forall_mem_cons.mpr ⟨⟨13, _, Or.inl rfl, (Nat.le_of_ble_eq_true rfl), vc_13, Or.inr (List.mem_filter.mpr ⟨q3215, rfl⟩)⟩, (List.forall_mem_cons.mpr ⟨⟨4, _, Or.inl rfl, (Nat.le_of_ble_eq_true rfl), vc_4, Or.inr (List.mem_filter.mpr ⟨q3205, rfl⟩)⟩, (List.forall_mem_cons.mpr ⟨⟨17, _, Or.inl rfl, (Nat.le_of_ble_eq_true rfl), vc_17, Or.inr (List.mem_filter.mpr ⟨q3219, rfl⟩)⟩, (List.forall_mem_cons.mpr ⟨⟨18, _, Or.inl rfl, (Nat.le_of_ble_eq_true rfl), vc_18, Or.inr (List.mem_filter.mpr ⟨q3221, rfl⟩)⟩, (List.forall_mem_cons.mpr ⟨⟨21, _, Or.inl rfl, (Nat.le_of_ble_eq_true rfl), vc_21, Or.inr (List.mem_filter.mpr ⟨q3226, rfl⟩)⟩, (List.forall_mem_cons.mpr ⟨⟨27, _, Or.inl rfl, (Nat.le_of_ble_eq_true rfl), vc_27, Or.inr (List.mem_filter.mpr ⟨q3233, rfl⟩)⟩, (List.forall_mem_cons.mpr ⟨⟨26, _, Or.inl rfl, (Nat.le_of_ble_eq_true rfl), vc_26, Or.inr (List.mem_filter.mpr ⟨q3232, rfl⟩)⟩, (List.forall_mem_cons.mpr ⟨⟨20, _, Or.inl rfl, (Nat.le_of_ble_eq_true rfl), vc_20, Or.inr (List.mem_filter.mpr ⟨q3225, rfl⟩)⟩, (List.forall_mem_cons.mpr ⟨⟨22, _, Or.inl rfl, (Nat.le_of_ble_eq_true rfl), vc_22, Or.inr (List.mem_filter.mpr ⟨q3227, rfl⟩)⟩, (List.forall_mem_cons.mpr ⟨⟨23, _, Or.inl rfl, (Nat.le_of_ble_eq_true rfl), vc_23, Or.inr (List.mem_filter.mpr ⟨q3228, rfl⟩)⟩, (List.forall_mem_cons.mpr ⟨⟨24, _, Or.inl rfl, (Nat.le_of_ble_eq_true rfl), vc_24, Or.inr (List.mem_filter.mpr ⟨q3229, rfl⟩)⟩, (List.forall_mem_cons.mpr ⟨⟨25, _, Or.inl rfl, (Nat.le_of_ble_eq_true rfl), vc_25, Or.inr (List.mem_filter.mpr ⟨q3231, rfl⟩)⟩, (List.forall_mem_cons.mpr ⟨⟨30, _, Or.inl rfl, (Nat.le_of_ble_eq_true rfl), vc_30, Or.inr (List.mem_filter.mpr ⟨q3230, rfl⟩)⟩, (List.forall_mem_cons.mpr ⟨⟨30, _, Or.inr rfl, (Nat.le_of_ble_eq_true rfl), vc_30, Or.inr (List.mem_filter.mpr ⟨q3230, rfl⟩)⟩, (fun t ht => nomatch ht)⟩)⟩)⟩)⟩)⟩)⟩)⟩)⟩)⟩)⟩)⟩)⟩)⟩)⟩)⟩)⟩)⟩)
theorem es4_ok : ∀ t ∈ es4, EOK "LimbBenches$Part" t := (List.forall_mem_cons.mpr ⟨⟨19, _, Or.inl rfl, (Nat.le_of_ble_eq_true rfl), vc_19, Or.inl rfl⟩, (fun t ht => nomatch ht)⟩)
theorem es5_ok : ∀ t ∈ es5, EOK "LimbBenches$State" t := (List.forall_mem_cons.mpr ⟨⟨1, _, Or.inl rfl, (Nat.le_of_ble_eq_true rfl), vc_1, Or.inl rfl⟩, (fun t ht => nomatch ht)⟩)
def ztB (w : Cond) : Bool := decide (w ∈ lw_tbl) && (goodWord w || (w.onTables && nwOK w))
theorem ztB_ok {L : List Cond} (h : L.all ztB = true) : ∀ w ∈ L, w ∈ lw_all ∨ (w.onTables = true ∧ w ∈ nwL) := by
  intro w hw
  have h1 := List.all_eq_true.mp h w hw
  simp only [ztB, Bool.and_eq_true, Bool.or_eq_true, decide_eq_true_eq] at h1
  rcases h1.2 with h2 | h2
  · exact Or.inl (List.mem_filter.mpr ⟨h1.1, h2⟩)
  · exact Or.inr ⟨h2.1, List.mem_filter.mpr ⟨h1.1, h2.2⟩⟩
theorem zt_X1_70_J6_f : Bundle.fit "java/lang/IllegalArgumentException" = true := by decide +kernel
theorem zt_X1_70_J6_n : ∀ n ∈ (["java/lang/RuntimeException", "java/lang/Exception"] : List String), Bundle.fit n = true := by decide +kernel
theorem zt_X1_70_J6_a : ∀ w ∈ vx_at0 "LimbBenches" 70 "java/lang/IllegalArgumentException" ["java/lang/RuntimeException", "java/lang/Exception"], w ∈ lw_all ∨ (w.onTables = true ∧ w ∈ nwL) := ztB_ok (by decide +kernel)
theorem zt_X1_70_J6_g : ∀ w ∈ Cond.classLink "LimbBenches" 68 "java/lang/IllegalArgumentException" :: Cond.initialized "java/lang/IllegalArgumentException" :: vx_at0 "LimbBenches" 70 "java/lang/IllegalArgumentException" ["java/lang/RuntimeException", "java/lang/Exception"], vx_ot w = true := List.all_eq_true.mp (by decide +kernel)
theorem zt_X1_80_J20_f : Bundle.fit "java/util/NoSuchElementException" = true := by decide +kernel
theorem zt_X1_80_J20_n : ∀ n ∈ (["java/lang/RuntimeException", "java/lang/Exception"] : List String), Bundle.fit n = true := by decide +kernel
theorem zt_X1_80_J20_a : ∀ w ∈ vx_at0 "LimbBenches" 80 "java/util/NoSuchElementException" ["java/lang/RuntimeException", "java/lang/Exception"], w ∈ lw_all ∨ (w.onTables = true ∧ w ∈ nwL) := ztB_ok (by decide +kernel)
theorem zt_X1_80_J20_g : ∀ w ∈ Cond.classLink "LimbBenches" 78 "java/util/NoSuchElementException" :: Cond.initialized "java/util/NoSuchElementException" :: vx_at0 "LimbBenches" 80 "java/util/NoSuchElementException" ["java/lang/RuntimeException", "java/lang/Exception"], vx_ot w = true := List.all_eq_true.mp (by decide +kernel)
theorem zt_X1_92_J21_f : Bundle.fit "java/lang/IndexOutOfBoundsException" = true := by decide +kernel
theorem zt_X1_92_J21_n : ∀ n ∈ (["java/lang/RuntimeException", "java/lang/Exception"] : List String), Bundle.fit n = true := by decide +kernel
theorem zt_X1_92_J21_a : ∀ w ∈ vx_at0 "LimbBenches" 92 "java/lang/IndexOutOfBoundsException" ["java/lang/RuntimeException", "java/lang/Exception"], w ∈ lw_all ∨ (w.onTables = true ∧ w ∈ nwL) := ztB_ok (by decide +kernel)
theorem zt_X1_92_J21_g : ∀ w ∈ Cond.classLink "LimbBenches" 90 "java/lang/IndexOutOfBoundsException" :: Cond.initialized "java/lang/IndexOutOfBoundsException" :: vx_at0 "LimbBenches" 92 "java/lang/IndexOutOfBoundsException" ["java/lang/RuntimeException", "java/lang/Exception"], vx_ot w = true := List.all_eq_true.mp (by decide +kernel)
theorem zt_X1_154_J19_f : Bundle.fit "java/lang/IllegalStateException" = true := by decide +kernel
theorem zt_X1_154_J19_n : ∀ n ∈ (["java/lang/RuntimeException", "java/lang/Exception"] : List String), Bundle.fit n = true := by decide +kernel
theorem zt_X1_154_J19_a : ∀ w ∈ vx_at0 "LimbBenches" 154 "java/lang/IllegalStateException" ["java/lang/RuntimeException", "java/lang/Exception"], w ∈ lw_all ∨ (w.onTables = true ∧ w ∈ nwL) := ztB_ok (by decide +kernel)
theorem zt_X1_154_J19_g : ∀ w ∈ Cond.classLink "LimbBenches" 152 "java/lang/IllegalStateException" :: Cond.initialized "java/lang/IllegalStateException" :: vx_at0 "LimbBenches" 154 "java/lang/IllegalStateException" ["java/lang/RuntimeException", "java/lang/Exception"], vx_ot w = true := List.all_eq_true.mp (by decide +kernel)
