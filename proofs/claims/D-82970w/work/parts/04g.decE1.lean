set_option maxRecDepth 100000
theorem dX15_closes_465 : decode cX15_closes 465 = .ok (.bipush 9, 2) := by decide +kernel
theorem dX15_closes_467 : decode cX15_closes 467 = .ok (.aload_n 0, 1) := by decide +kernel
theorem dX15_closes_468 : decode cX15_closes 468 = .ok (.getfield 25, 3) := by decide +kernel
theorem dX15_closes_471 : decode cX15_closes 471 = .ok (.aload_n 0, 1) := by decide +kernel
theorem dX15_closes_472 : decode cX15_closes 472 = .ok (.getfield 41, 3) := by decide +kernel
theorem dX15_closes_475 : decode cX15_closes 475 = .ok (.aload_n 0, 1) := by decide +kernel
theorem dX15_closes_476 : decode cX15_closes 476 = .ok (.getfield 417, 3) := by decide +kernel
theorem dX15_closes_479 : decode cX15_closes 479 = .ok (.iaload, 1) := by decide +kernel
theorem dX15_closes_480 : decode cX15_closes 480 = .ok (.iaload, 1) := by decide +kernel
theorem dX15_closes_481 : decode cX15_closes 481 = .ok (.iconst 0, 1) := by decide +kernel
theorem dX15_closes_482 : decode cX15_closes 482 = .ok (.iload 5, 2) := by decide +kernel
theorem dX15_closes_484 : decode cX15_closes 484 = .ok (.invokevirtual 423, 3) := by decide +kernel
theorem dX15_closes_487 : decode cX15_closes 487 = .ok (.istore 6, 2) := by decide +kernel
theorem dX15_closes_489 : decode cX15_closes 489 = .ok (.goto 26, 3) := by decide +kernel
theorem dX15_closes_492 : decode cX15_closes 492 = .ok (.aload_n 0, 1) := by decide +kernel
theorem dX15_closes_493 : decode cX15_closes 493 = .ok (.iload_n 3, 1) := by decide +kernel
theorem dX15_closes_494 : decode cX15_closes 494 = .ok (.bipush 8, 2) := by decide +kernel
theorem dX15_closes_496 : decode cX15_closes 496 = .ok (.if_icmp .ne 8, 3) := by decide +kernel
theorem dX15_closes_499 : decode cX15_closes 499 = .ok (.bipush 10, 2) := by decide +kernel
theorem dX15_closes_501 : decode cX15_closes 501 = .ok (.goto 5, 3) := by decide +kernel
theorem dX15_closes_504 : decode cX15_closes 504 = .ok (.bipush 11, 2) := by decide +kernel
theorem dX15_closes_506 : decode cX15_closes 506 = .ok (.iconst 0, 1) := by decide +kernel
theorem dX15_closes_507 : decode cX15_closes 507 = .ok (.iconst 0, 1) := by decide +kernel
theorem dX15_closes_508 : decode cX15_closes 508 = .ok (.iload 5, 2) := by decide +kernel
theorem dX15_closes_510 : decode cX15_closes 510 = .ok (.invokevirtual 423, 3) := by decide +kernel
theorem dX15_closes_513 : decode cX15_closes 513 = .ok (.istore 6, 2) := by decide +kernel
theorem dX15_closes_515 : decode cX15_closes 515 = .ok (.aload_n 0, 1) := by decide +kernel
theorem dX15_closes_516 : decode cX15_closes 516 = .ok (.iload_n 1, 1) := by decide +kernel
theorem dX15_closes_517 : decode cX15_closes 517 = .ok (.invokevirtual 451, 3) := by decide +kernel
theorem dX15_closes_520 : decode cX15_closes 520 = .ok (.iconst 1, 1) := by decide +kernel
theorem dX15_closes_521 : decode cX15_closes 521 = .ok (.ireturn, 1) := by decide +kernel
theorem dX15_reduceAll_0 : decode cX15_reduceAll 0 = .ok (.aload_n 0, 1) := by decide +kernel
theorem dX15_reduceAll_1 : decode cX15_reduceAll 1 = .ok (.iload_n 1, 1) := by decide +kernel
theorem dX15_reduceAll_2 : decode cX15_reduceAll 2 = .ok (.iconst 0, 1) := by decide +kernel
theorem dX15_reduceAll_3 : decode cX15_reduceAll 3 = .ok (.invokevirtual 427, 3) := by decide +kernel
theorem dX15_reduceAll_6 : decode cX15_reduceAll 6 = .ok (.aload_n 0, 1) := by decide +kernel
theorem dX15_reduceAll_7 : decode cX15_reduceAll 7 = .ok (.getfield 417, 3) := by decide +kernel
theorem dX15_reduceAll_10 : decode cX15_reduceAll 10 = .ok (.iload_n 1, 1) := by decide +kernel
theorem dX15_reduceAll_11 : decode cX15_reduceAll 11 = .ok (.if_icmp .le 65, 3) := by decide +kernel
theorem dX15_reduceAll_14 : decode cX15_reduceAll 14 = .ok (.aload_n 0, 1) := by decide +kernel
theorem dX15_reduceAll_15 : decode cX15_reduceAll 15 = .ok (.getfield 38, 3) := by decide +kernel
theorem dX15_reduceAll_18 : decode cX15_reduceAll 18 = .ok (.aload_n 0, 1) := by decide +kernel
theorem dX15_reduceAll_19 : decode cX15_reduceAll 19 = .ok (.getfield 417, 3) := by decide +kernel
theorem dX15_reduceAll_22 : decode cX15_reduceAll 22 = .ok (.iconst 1, 1) := by decide +kernel
theorem dX15_reduceAll_23 : decode cX15_reduceAll 23 = .ok (.isub, 1) := by decide +kernel
theorem dX15_reduceAll_24 : decode cX15_reduceAll 24 = .ok (.iaload, 1) := by decide +kernel
theorem dX15_reduceAll_25 : decode cX15_reduceAll 25 = .ok (.iconst 4, 1) := by decide +kernel
theorem dX15_reduceAll_26 : decode cX15_reduceAll 26 = .ok (.if_icmp .ne 50, 3) := by decide +kernel
theorem dX15_reduceAll_29 : decode cX15_reduceAll 29 = .ok (.aload_n 0, 1) := by decide +kernel
theorem dX15_reduceAll_30 : decode cX15_reduceAll 30 = .ok (.dup, 1) := by decide +kernel
theorem dX15_reduceAll_31 : decode cX15_reduceAll 31 = .ok (.getfield 417, 3) := by decide +kernel
theorem dX15_reduceAll_34 : decode cX15_reduceAll 34 = .ok (.iconst 1, 1) := by decide +kernel
theorem dX15_reduceAll_35 : decode cX15_reduceAll 35 = .ok (.isub, 1) := by decide +kernel
theorem dX15_reduceAll_36 : decode cX15_reduceAll 36 = .ok (.putfield 417, 3) := by decide +kernel
theorem dX15_reduceAll_39 : decode cX15_reduceAll 39 = .ok (.aload_n 0, 1) := by decide +kernel
theorem dX15_reduceAll_40 : decode cX15_reduceAll 40 = .ok (.dup, 1) := by decide +kernel
theorem dX15_reduceAll_41 : decode cX15_reduceAll 41 = .ok (.getfield 414, 3) := by decide +kernel
theorem dX15_reduceAll_44 : decode cX15_reduceAll 44 = .ok (.iconst 1, 1) := by decide +kernel
theorem dX15_reduceAll_45 : decode cX15_reduceAll 45 = .ok (.isub, 1) := by decide +kernel
theorem dX15_reduceAll_46 : decode cX15_reduceAll 46 = .ok (.putfield 414, 3) := by decide +kernel
theorem dX15_reduceAll_49 : decode cX15_reduceAll 49 = .ok (.aload_n 0, 1) := by decide +kernel
theorem dX15_reduceAll_50 : decode cX15_reduceAll 50 = .ok (.bipush 14, 2) := by decide +kernel
theorem dX15_reduceAll_52 : decode cX15_reduceAll 52 = .ok (.iconst 0, 1) := by decide +kernel
theorem dX15_reduceAll_53 : decode cX15_reduceAll 53 = .ok (.iconst 0, 1) := by decide +kernel
theorem dX15_reduceAll_54 : decode cX15_reduceAll 54 = .ok (.aload_n 0, 1) := by decide +kernel
theorem dX15_reduceAll_55 : decode cX15_reduceAll 55 = .ok (.getfield 44, 3) := by decide +kernel
theorem dX15_reduceAll_58 : decode cX15_reduceAll 58 = .ok (.aload_n 0, 1) := by decide +kernel
theorem dX15_reduceAll_59 : decode cX15_reduceAll 59 = .ok (.getfield 417, 3) := by decide +kernel
theorem dX15_reduceAll_62 : decode cX15_reduceAll 62 = .ok (.iaload, 1) := by decide +kernel
theorem dX15_reduceAll_63 : decode cX15_reduceAll 63 = .ok (.invokevirtual 423, 3) := by decide +kernel
theorem dX15_reduceAll_66 : decode cX15_reduceAll 66 = .ok (.istore_n 2, 1) := by decide +kernel
theorem dX15_reduceAll_67 : decode cX15_reduceAll 67 = .ok (.aload_n 0, 1) := by decide +kernel
theorem dX15_reduceAll_68 : decode cX15_reduceAll 68 = .ok (.iload_n 1, 1) := by decide +kernel
theorem dX15_reduceAll_69 : decode cX15_reduceAll 69 = .ok (.iconst 0, 1) := by decide +kernel
theorem dX15_reduceAll_70 : decode cX15_reduceAll 70 = .ok (.invokevirtual 427, 3) := by decide +kernel
theorem dX15_reduceAll_73 : decode cX15_reduceAll 73 = .ok (.goto (-67), 3) := by decide +kernel
theorem dX15_reduceAll_76 : decode cX15_reduceAll 76 = .ok (.return_, 1) := by decide +kernel
theorem dX15_openBlock_0 : decode cX15_openBlock 0 = .ok (.aload_n 0, 1) := by decide +kernel
theorem dX15_openBlock_1 : decode cX15_openBlock 1 = .ok (.invokevirtual 383, 3) := by decide +kernel
theorem dX15_openBlock_4 : decode cX15_openBlock 4 = .ok (.aload_n 0, 1) := by decide +kernel
theorem dX15_openBlock_5 : decode cX15_openBlock 5 = .ok (.bipush 123, 2) := by decide +kernel
theorem dX15_openBlock_7 : decode cX15_openBlock 7 = .ok (.invokevirtual 408, 3) := by decide +kernel
theorem dX15_openBlock_10 : decode cX15_openBlock 10 = .ok (.ifCond .ne 13, 3) := by decide +kernel
theorem dX15_openBlock_13 : decode cX15_openBlock 13 = .ok (.aload_n 0, 1) := by decide +kernel
theorem dX15_openBlock_14 : decode cX15_openBlock 14 = .ok (.iconst 1, 1) := by decide +kernel
theorem dX15_openBlock_15 : decode cX15_openBlock 15 = .ok (.aload_n 0, 1) := by decide +kernel
theorem dX15_openBlock_16 : decode cX15_openBlock 16 = .ok (.getfield 326, 3) := by decide +kernel
theorem dX15_openBlock_19 : decode cX15_openBlock 19 = .ok (.invokevirtual 390, 3) := by decide +kernel
theorem dX15_openBlock_22 : decode cX15_openBlock 22 = .ok (.return_, 1) := by decide +kernel
theorem dX15_openBlock_23 : decode cX15_openBlock 23 = .ok (.aload_n 0, 1) := by decide +kernel
theorem dX15_openBlock_24 : decode cX15_openBlock 24 = .ok (.aload_n 0, 1) := by decide +kernel
theorem dX15_openBlock_25 : decode cX15_openBlock 25 = .ok (.getfield 326, 3) := by decide +kernel
theorem dX15_openBlock_28 : decode cX15_openBlock 28 = .ok (.invokevirtual 430, 3) := by decide +kernel
theorem dX15_openBlock_31 : decode cX15_openBlock 31 = .ok (.aload_n 0, 1) := by decide +kernel
theorem dX15_openBlock_32 : decode cX15_openBlock 32 = .ok (.dup, 1) := by decide +kernel
theorem dX15_openBlock_33 : decode cX15_openBlock 33 = .ok (.getfield 326, 3) := by decide +kernel
theorem dX15_openBlock_36 : decode cX15_openBlock 36 = .ok (.iconst 1, 1) := by decide +kernel
theorem dX15_openBlock_37 : decode cX15_openBlock 37 = .ok (.iadd, 1) := by decide +kernel
theorem dX15_openBlock_38 : decode cX15_openBlock 38 = .ok (.putfield 326, 3) := by decide +kernel
theorem dX15_openBlock_41 : decode cX15_openBlock 41 = .ok (.aload_n 0, 1) := by decide +kernel
theorem dX15_openBlock_42 : decode cX15_openBlock 42 = .ok (.getfield 50, 3) := by decide +kernel
theorem dX15_openBlock_45 : decode cX15_openBlock 45 = .ok (.aload_n 0, 1) := by decide +kernel
theorem dX15_openBlock_46 : decode cX15_openBlock 46 = .ok (.getfield 501, 3) := by decide +kernel
theorem dX15_openBlock_49 : decode cX15_openBlock 49 = .ok (.iload_n 1, 1) := by decide +kernel
theorem dX15_openBlock_50 : decode cX15_openBlock 50 = .ok (.iastore, 1) := by decide +kernel
theorem dX15_openBlock_51 : decode cX15_openBlock 51 = .ok (.aload_n 0, 1) := by decide +kernel
theorem dX15_openBlock_52 : decode cX15_openBlock 52 = .ok (.getfield 53, 3) := by decide +kernel
theorem dX15_openBlock_55 : decode cX15_openBlock 55 = .ok (.aload_n 0, 1) := by decide +kernel
theorem dX15_openBlock_56 : decode cX15_openBlock 56 = .ok (.getfield 501, 3) := by decide +kernel
theorem dX15_openBlock_59 : decode cX15_openBlock 59 = .ok (.iload_n 2, 1) := by decide +kernel
theorem dX15_openBlock_60 : decode cX15_openBlock 60 = .ok (.iastore, 1) := by decide +kernel
theorem dX15_openBlock_61 : decode cX15_openBlock 61 = .ok (.aload_n 0, 1) := by decide +kernel
theorem dX15_openBlock_62 : decode cX15_openBlock 62 = .ok (.dup, 1) := by decide +kernel
theorem dX15_openBlock_63 : decode cX15_openBlock 63 = .ok (.getfield 501, 3) := by decide +kernel
theorem dX15_openBlock_66 : decode cX15_openBlock 66 = .ok (.iconst 1, 1) := by decide +kernel
theorem dX15_openBlock_67 : decode cX15_openBlock 67 = .ok (.iadd, 1) := by decide +kernel
theorem dX15_openBlock_68 : decode cX15_openBlock 68 = .ok (.putfield 501, 3) := by decide +kernel
theorem dX15_openBlock_71 : decode cX15_openBlock 71 = .ok (.return_, 1) := by decide +kernel
theorem dX15_endIf_0 : decode cX15_endIf 0 = .ok (.aload_n 0, 1) := by decide +kernel
theorem dX15_endIf_1 : decode cX15_endIf 1 = .ok (.bipush 37, 2) := by decide +kernel
theorem dX15_endIf_3 : decode cX15_endIf 3 = .ok (.iload_n 1, 1) := by decide +kernel
theorem dX15_endIf_4 : decode cX15_endIf 4 = .ok (.iconst 0, 1) := by decide +kernel
theorem dX15_endIf_5 : decode cX15_endIf 5 = .ok (.aload_n 0, 1) := by decide +kernel
theorem dX15_endIf_6 : decode cX15_endIf 6 = .ok (.getfield 31, 3) := by decide +kernel
theorem dX15_endIf_9 : decode cX15_endIf 9 = .ok (.iload_n 1, 1) := by decide +kernel
theorem dX15_endIf_10 : decode cX15_endIf 10 = .ok (.iaload, 1) := by decide +kernel
theorem dX15_endIf_11 : decode cX15_endIf 11 = .ok (.invokevirtual 423, 3) := by decide +kernel
theorem dX15_endIf_14 : decode cX15_endIf 14 = .ok (.istore_n 2, 1) := by decide +kernel
theorem dX15_endIf_15 : decode cX15_endIf 15 = .ok (.aload_n 0, 1) := by decide +kernel
theorem dX15_endIf_16 : decode cX15_endIf 16 = .ok (.getfield 28, 3) := by decide +kernel
theorem dX15_endIf_19 : decode cX15_endIf 19 = .ok (.iload_n 1, 1) := by decide +kernel
theorem dX15_endIf_20 : decode cX15_endIf 20 = .ok (.iaload, 1) := by decide +kernel
theorem dX15_endIf_21 : decode cX15_endIf 21 = .ok (.ifCond .ne 13, 3) := by decide +kernel
theorem dX15_endIf_24 : decode cX15_endIf 24 = .ok (.aload_n 0, 1) := by decide +kernel
theorem dX15_endIf_25 : decode cX15_endIf 25 = .ok (.getfield 28, 3) := by decide +kernel
theorem dX15_endIf_28 : decode cX15_endIf 28 = .ok (.iload_n 1, 1) := by decide +kernel
theorem dX15_endIf_29 : decode cX15_endIf 29 = .ok (.iload_n 2, 1) := by decide +kernel
theorem dX15_endIf_30 : decode cX15_endIf 30 = .ok (.iastore, 1) := by decide +kernel
theorem dX15_endIf_31 : decode cX15_endIf 31 = .ok (.goto 15, 3) := by decide +kernel
theorem dX15_endIf_34 : decode cX15_endIf 34 = .ok (.aload_n 0, 1) := by decide +kernel
theorem dX15_endIf_35 : decode cX15_endIf 35 = .ok (.getfield 28, 3) := by decide +kernel
theorem dX15_endIf_38 : decode cX15_endIf 38 = .ok (.aload_n 0, 1) := by decide +kernel
theorem dX15_endIf_39 : decode cX15_endIf 39 = .ok (.getfield 28, 3) := by decide +kernel
theorem dX15_endIf_42 : decode cX15_endIf 42 = .ok (.iload_n 1, 1) := by decide +kernel
theorem dX15_endIf_43 : decode cX15_endIf 43 = .ok (.iaload, 1) := by decide +kernel
theorem dX15_endIf_44 : decode cX15_endIf 44 = .ok (.iload_n 2, 1) := by decide +kernel
theorem dX15_endIf_45 : decode cX15_endIf 45 = .ok (.iastore, 1) := by decide +kernel
theorem dX15_endIf_46 : decode cX15_endIf 46 = .ok (.aload_n 0, 1) := by decide +kernel
theorem dX15_endIf_47 : decode cX15_endIf 47 = .ok (.bipush 21, 2) := by decide +kernel
theorem dX15_endIf_49 : decode cX15_endIf 49 = .ok (.iconst 0, 1) := by decide +kernel
theorem dX15_endIf_50 : decode cX15_endIf 50 = .ok (.iconst 0, 1) := by decide +kernel
theorem dX15_endIf_51 : decode cX15_endIf 51 = .ok (.aload_n 0, 1) := by decide +kernel
theorem dX15_endIf_52 : decode cX15_endIf 52 = .ok (.getfield 31, 3) := by decide +kernel
theorem dX15_endIf_55 : decode cX15_endIf 55 = .ok (.iload_n 1, 1) := by decide +kernel
theorem dX15_endIf_56 : decode cX15_endIf 56 = .ok (.iaload, 1) := by decide +kernel
theorem dX15_endIf_57 : decode cX15_endIf 57 = .ok (.invokevirtual 423, 3) := by decide +kernel
theorem dX15_endIf_60 : decode cX15_endIf 60 = .ok (.istore_n 2, 1) := by decide +kernel
theorem dX15_endIf_61 : decode cX15_endIf 61 = .ok (.return_, 1) := by decide +kernel
theorem dX15_varStatement_0 : decode cX15_varStatement 0 = .ok (.aload_n 0, 1) := by decide +kernel
theorem dX15_varStatement_1 : decode cX15_varStatement 1 = .ok (.bipush 20, 2) := by decide +kernel
theorem dX15_varStatement_3 : decode cX15_varStatement 3 = .ok (.iconst 0, 1) := by decide +kernel
theorem dX15_varStatement_4 : decode cX15_varStatement 4 = .ok (.iconst 0, 1) := by decide +kernel
theorem dX15_varStatement_5 : decode cX15_varStatement 5 = .ok (.iload_n 1, 1) := by decide +kernel
theorem dX15_varStatement_6 : decode cX15_varStatement 6 = .ok (.invokevirtual 423, 3) := by decide +kernel
theorem dX15_varStatement_9 : decode cX15_varStatement 9 = .ok (.istore_n 2, 1) := by decide +kernel
theorem dX15_varStatement_10 : decode cX15_varStatement 10 = .ok (.aload_n 0, 1) := by decide +kernel
theorem dX15_varStatement_11 : decode cX15_varStatement 11 = .ok (.dup, 1) := by decide +kernel
theorem dX15_varStatement_12 : decode cX15_varStatement 12 = .ok (.getfield 326, 3) := by decide +kernel
theorem dX15_varStatement_15 : decode cX15_varStatement 15 = .ok (.iconst 3, 1) := by decide +kernel
theorem dX15_varStatement_16 : decode cX15_varStatement 16 = .ok (.iadd, 1) := by decide +kernel
theorem dX15_varStatement_17 : decode cX15_varStatement 17 = .ok (.putfield 326, 3) := by decide +kernel
theorem dX15_varStatement_20 : decode cX15_varStatement 20 = .ok (.aload_n 0, 1) := by decide +kernel
theorem dX15_varStatement_21 : decode cX15_varStatement 21 = .ok (.invokevirtual 383, 3) := by decide +kernel
theorem dX15_varStatement_24 : decode cX15_varStatement 24 = .ok (.aload_n 0, 1) := by decide +kernel
theorem dX15_varStatement_25 : decode cX15_varStatement 25 = .ok (.getfield 326, 3) := by decide +kernel
theorem dX15_varStatement_28 : decode cX15_varStatement 28 = .ok (.istore_n 3, 1) := by decide +kernel
theorem dX15_varStatement_29 : decode cX15_varStatement 29 = .ok (.aload_n 0, 1) := by decide +kernel
theorem dX15_varStatement_30 : decode cX15_varStatement 30 = .ok (.invokevirtual 445, 3) := by decide +kernel
theorem dX15_varStatement_33 : decode cX15_varStatement 33 = .ok (.istore 4, 2) := by decide +kernel
theorem dX15_varStatement_35 : decode cX15_varStatement 35 = .ok (.aload_n 0, 1) := by decide +kernel
theorem dX15_varStatement_36 : decode cX15_varStatement 36 = .ok (.getfield 323, 3) := by decide +kernel
theorem dX15_varStatement_39 : decode cX15_varStatement 39 = .ok (.ifCond .ne 9, 3) := by decide +kernel
theorem dX15_varStatement_42 : decode cX15_varStatement 42 = .ok (.aload_n 0, 1) := by decide +kernel
theorem dX15_varStatement_43 : decode cX15_varStatement 43 = .ok (.bipush 58, 2) := by decide +kernel
theorem dX15_varStatement_45 : decode cX15_varStatement 45 = .ok (.invokevirtual 442, 3) := by decide +kernel
theorem dX15_varStatement_48 : decode cX15_varStatement 48 = .ok (.aload_n 0, 1) := by decide +kernel
theorem dX15_varStatement_49 : decode cX15_varStatement 49 = .ok (.getfield 323, 3) := by decide +kernel
theorem dX15_varStatement_52 : decode cX15_varStatement 52 = .ok (.ifCond .ne 7, 3) := by decide +kernel
theorem dX15_varStatement_55 : decode cX15_varStatement 55 = .ok (.aload_n 0, 1) := by decide +kernel
theorem dX15_varStatement_56 : decode cX15_varStatement 56 = .ok (.invokevirtual 485, 3) := by decide +kernel
theorem dX15_varStatement_59 : decode cX15_varStatement 59 = .ok (.aload_n 0, 1) := by decide +kernel
theorem dX15_varStatement_60 : decode cX15_varStatement 60 = .ok (.getfield 323, 3) := by decide +kernel
theorem dX15_varStatement_63 : decode cX15_varStatement 63 = .ok (.ifCond .le 4, 3) := by decide +kernel
theorem dX15_varStatement_66 : decode cX15_varStatement 66 = .ok (.return_, 1) := by decide +kernel
theorem dX15_varStatement_67 : decode cX15_varStatement 67 = .ok (.aload_n 0, 1) := by decide +kernel
theorem dX15_varStatement_68 : decode cX15_varStatement 68 = .ok (.getfield 476, 3) := by decide +kernel
theorem dX15_varStatement_71 : decode cX15_varStatement 71 = .ok (.ifCond .ne 7, 3) := by decide +kernel
theorem dX15_varStatement_74 : decode cX15_varStatement 74 = .ok (.iconst 1, 1) := by decide +kernel
theorem dX15_varStatement_75 : decode cX15_varStatement 75 = .ok (.goto 7, 3) := by decide +kernel
theorem dX15_varStatement_78 : decode cX15_varStatement 78 = .ok (.aload_n 0, 1) := by decide +kernel
theorem dX15_varStatement_79 : decode cX15_varStatement 79 = .ok (.getfield 476, 3) := by decide +kernel
theorem dX15_varStatement_82 : decode cX15_varStatement 82 = .ok (.istore 5, 2) := by decide +kernel
theorem dX15_varStatement_84 : decode cX15_varStatement 84 = .ok (.aload_n 0, 1) := by decide +kernel
theorem dX15_varStatement_85 : decode cX15_varStatement 85 = .ok (.getfield 470, 3) := by decide +kernel
theorem dX15_varStatement_88 : decode cX15_varStatement 88 = .ok (.istore 6, 2) := by decide +kernel
theorem dX15_varStatement_90 : decode cX15_varStatement 90 = .ok (.aload_n 0, 1) := by decide +kernel
theorem dX15_varStatement_91 : decode cX15_varStatement 91 = .ok (.getfield 476, 3) := by decide +kernel
theorem dX15_varStatement_94 : decode cX15_varStatement 94 = .ok (.istore 7, 2) := by decide +kernel
theorem dX15_varStatement_96 : decode cX15_varStatement 96 = .ok (.aload_n 0, 1) := by decide +kernel
theorem dX15_varStatement_97 : decode cX15_varStatement 97 = .ok (.getfield 493, 3) := by decide +kernel
theorem dX15_varStatement_100 : decode cX15_varStatement 100 = .ok (.iload 5, 2) := by decide +kernel
theorem dX15_varStatement_102 : decode cX15_varStatement 102 = .ok (.iadd, 1) := by decide +kernel
theorem dX15_varStatement_103 : decode cX15_varStatement 103 = .ok (.sipush 256, 3) := by decide +kernel
theorem dX15_varStatement_106 : decode cX15_varStatement 106 = .ok (.if_icmp .le 10, 3) := by decide +kernel
theorem dX15_varStatement_109 : decode cX15_varStatement 109 = .ok (.aload_n 0, 1) := by decide +kernel
theorem dX15_varStatement_110 : decode cX15_varStatement 110 = .ok (.iconst 2, 1) := by decide +kernel
theorem dX15_varStatement_111 : decode cX15_varStatement 111 = .ok (.iload_n 3, 1) := by decide +kernel
theorem dX15_varStatement_112 : decode cX15_varStatement 112 = .ok (.invokevirtual 390, 3) := by decide +kernel
theorem dX15_varStatement_115 : decode cX15_varStatement 115 = .ok (.return_, 1) := by decide +kernel
theorem dX15_varStatement_116 : decode cX15_varStatement 116 = .ok (.aload_n 0, 1) := by decide +kernel
theorem dX15_varStatement_117 : decode cX15_varStatement 117 = .ok (.bipush 24, 2) := by decide +kernel
theorem dX15_varStatement_119 : decode cX15_varStatement 119 = .ok (.iload 4, 2) := by decide +kernel
theorem dX15_varStatement_121 : decode cX15_varStatement 121 = .ok (.iconst 0, 1) := by decide +kernel
theorem dX15_varStatement_122 : decode cX15_varStatement 122 = .ok (.iload_n 3, 1) := by decide +kernel
theorem dX15_varStatement_123 : decode cX15_varStatement 123 = .ok (.invokevirtual 423, 3) := by decide +kernel
theorem dX15_varStatement_126 : decode cX15_varStatement 126 = .ok (.istore_n 2, 1) := by decide +kernel
theorem dX15_varStatement_127 : decode cX15_varStatement 127 = .ok (.aload_n 0, 1) := by decide +kernel
theorem dX15_varStatement_128 : decode cX15_varStatement 128 = .ok (.invokevirtual 383, 3) := by decide +kernel
theorem dX15_varStatement_131 : decode cX15_varStatement 131 = .ok (.aload_n 0, 1) := by decide +kernel
theorem dX15_varStatement_132 : decode cX15_varStatement 132 = .ok (.bipush 61, 2) := by decide +kernel
theorem dX15_varStatement_134 : decode cX15_varStatement 134 = .ok (.invokevirtual 408, 3) := by decide +kernel
theorem dX15_varStatement_137 : decode cX15_varStatement 137 = .ok (.istore 8, 2) := by decide +kernel
theorem dX15_varStatement_139 : decode cX15_varStatement 139 = .ok (.iload 8, 2) := by decide +kernel
theorem dX15_varStatement_141 : decode cX15_varStatement 141 = .ok (.ifCond .eq 17, 3) := by decide +kernel
theorem dX15_varStatement_144 : decode cX15_varStatement 144 = .ok (.aload_n 0, 1) := by decide +kernel
theorem dX15_varStatement_145 : decode cX15_varStatement 145 = .ok (.dup, 1) := by decide +kernel
theorem dX15_varStatement_146 : decode cX15_varStatement 146 = .ok (.getfield 326, 3) := by decide +kernel
theorem dX15_varStatement_149 : decode cX15_varStatement 149 = .ok (.iconst 1, 1) := by decide +kernel
theorem dX15_varStatement_150 : decode cX15_varStatement 150 = .ok (.iadd, 1) := by decide +kernel
theorem dX15_varStatement_151 : decode cX15_varStatement 151 = .ok (.putfield 326, 3) := by decide +kernel
theorem dX15_varStatement_154 : decode cX15_varStatement 154 = .ok (.aload_n 0, 1) := by decide +kernel
theorem dX15_varStatement_155 : decode cX15_varStatement 155 = .ok (.invokevirtual 496, 3) := by decide +kernel
theorem dX15_varStatement_158 : decode cX15_varStatement 158 = .ok (.aload_n 0, 1) := by decide +kernel
theorem dX15_varStatement_159 : decode cX15_varStatement 159 = .ok (.getfield 323, 3) := by decide +kernel
theorem dX15_varStatement_162 : decode cX15_varStatement 162 = .ok (.ifCond .le 4, 3) := by decide +kernel
theorem dX15_varStatement_165 : decode cX15_varStatement 165 = .ok (.return_, 1) := by decide +kernel
theorem dX15_varStatement_166 : decode cX15_varStatement 166 = .ok (.aload_n 0, 1) := by decide +kernel
theorem dX15_varStatement_167 : decode cX15_varStatement 167 = .ok (.bipush 25, 2) := by decide +kernel
theorem dX15_varStatement_169 : decode cX15_varStatement 169 = .ok (.iload 4, 2) := by decide +kernel
theorem dX15_varStatement_171 : decode cX15_varStatement 171 = .ok (.iload 6, 2) := by decide +kernel
theorem dX15_varStatement_173 : decode cX15_varStatement 173 = .ok (.iload_n 3, 1) := by decide +kernel
theorem dX15_varStatement_174 : decode cX15_varStatement 174 = .ok (.invokevirtual 423, 3) := by decide +kernel
theorem dX15_varStatement_177 : decode cX15_varStatement 177 = .ok (.istore_n 2, 1) := by decide +kernel
theorem dX15_varStatement_178 : decode cX15_varStatement 178 = .ok (.aload_n 0, 1) := by decide +kernel
theorem dX15_varStatement_179 : decode cX15_varStatement 179 = .ok (.getfield 34, 3) := by decide +kernel
theorem dX15_varStatement_182 : decode cX15_varStatement 182 = .ok (.iload_n 2, 1) := by decide +kernel
theorem dX15_varStatement_183 : decode cX15_varStatement 183 = .ok (.iload 8, 2) := by decide +kernel
theorem dX15_varStatement_185 : decode cX15_varStatement 185 = .ok (.ifCond .eq 9, 3) := by decide +kernel
theorem dX15_varStatement_188 : decode cX15_varStatement 188 = .ok (.ldc2_w 499, 3) := by decide +kernel
theorem dX15_varStatement_191 : decode cX15_varStatement 191 = .ok (.goto 4, 3) := by decide +kernel
theorem dX15_varStatement_194 : decode cX15_varStatement 194 = .ok (.lconst 0, 1) := by decide +kernel
theorem dX15_varStatement_195 : decode cX15_varStatement 195 = .ok (.ldc2_w 491, 3) := by decide +kernel
theorem dX15_varStatement_198 : decode cX15_varStatement 198 = .ok (.iload 7, 2) := by decide +kernel
theorem dX15_varStatement_200 : decode cX15_varStatement 200 = .ok (.i2l, 1) := by decide +kernel
theorem dX15_varStatement_201 : decode cX15_varStatement 201 = .ok (.lmul, 1) := by decide +kernel
theorem dX15_varStatement_202 : decode cX15_varStatement 202 = .ok (.ladd, 1) := by decide +kernel
theorem dX15_varStatement_203 : decode cX15_varStatement 203 = .ok (.lastore, 1) := by decide +kernel
theorem dX15_varStatement_204 : decode cX15_varStatement 204 = .ok (.aload_n 0, 1) := by decide +kernel
theorem dX15_varStatement_205 : decode cX15_varStatement 205 = .ok (.getfield 28, 3) := by decide +kernel
theorem dX15_varStatement_208 : decode cX15_varStatement 208 = .ok (.iload_n 2, 1) := by decide +kernel
theorem dX15_varStatement_209 : decode cX15_varStatement 209 = .ok (.iload 6, 2) := by decide +kernel
theorem dX15_varStatement_211 : decode cX15_varStatement 211 = .ok (.iastore, 1) := by decide +kernel
theorem dX15_varStatement_212 : decode cX15_varStatement 212 = .ok (.aload_n 0, 1) := by decide +kernel
theorem dX15_varStatement_213 : decode cX15_varStatement 213 = .ok (.getfield 56, 3) := by decide +kernel
theorem dX15_varStatement_216 : decode cX15_varStatement 216 = .ok (.iload_n 2, 1) := by decide +kernel
theorem dX15_varStatement_217 : decode cX15_varStatement 217 = .ok (.aload_n 0, 1) := by decide +kernel
theorem dX15_varStatement_218 : decode cX15_varStatement 218 = .ok (.getfield 493, 3) := by decide +kernel
theorem dX15_varStatement_221 : decode cX15_varStatement 221 = .ok (.iastore, 1) := by decide +kernel
theorem dX15_varStatement_222 : decode cX15_varStatement 222 = .ok (.aload_n 0, 1) := by decide +kernel
theorem dX15_varStatement_223 : decode cX15_varStatement 223 = .ok (.dup, 1) := by decide +kernel
theorem dX15_varStatement_224 : decode cX15_varStatement 224 = .ok (.getfield 493, 3) := by decide +kernel
theorem dX15_varStatement_227 : decode cX15_varStatement 227 = .ok (.iload 5, 2) := by decide +kernel
theorem dX15_varStatement_229 : decode cX15_varStatement 229 = .ok (.iadd, 1) := by decide +kernel
theorem dX15_varStatement_230 : decode cX15_varStatement 230 = .ok (.putfield 493, 3) := by decide +kernel
theorem dX15_varStatement_233 : decode cX15_varStatement 233 = .ok (.aload_n 0, 1) := by decide +kernel
theorem dX15_varStatement_234 : decode cX15_varStatement 234 = .ok (.bipush 59, 2) := by decide +kernel
theorem dX15_varStatement_236 : decode cX15_varStatement 236 = .ok (.invokevirtual 442, 3) := by decide +kernel
theorem dX15_varStatement_239 : decode cX15_varStatement 239 = .ok (.aload_n 0, 1) := by decide +kernel
theorem dX15_varStatement_240 : decode cX15_varStatement 240 = .ok (.bipush 21, 2) := by decide +kernel
theorem dX15_varStatement_242 : decode cX15_varStatement 242 = .ok (.iconst 0, 1) := by decide +kernel
theorem dX15_varStatement_243 : decode cX15_varStatement 243 = .ok (.iconst 0, 1) := by decide +kernel
theorem dX15_varStatement_244 : decode cX15_varStatement 244 = .ok (.iload_n 1, 1) := by decide +kernel
theorem dX15_varStatement_245 : decode cX15_varStatement 245 = .ok (.invokevirtual 423, 3) := by decide +kernel
theorem dX15_varStatement_248 : decode cX15_varStatement 248 = .ok (.istore_n 2, 1) := by decide +kernel
theorem dX15_varStatement_249 : decode cX15_varStatement 249 = .ok (.return_, 1) := by decide +kernel
theorem dX15_type_0 : decode cX15_type 0 = .ok (.aload_n 0, 1) := by decide +kernel
theorem dX15_type_1 : decode cX15_type 1 = .ok (.invokevirtual 473, 3) := by decide +kernel
theorem dX15_type_4 : decode cX15_type 4 = .ok (.aload_n 0, 1) := by decide +kernel
theorem dX15_type_5 : decode cX15_type 5 = .ok (.iconst 0, 1) := by decide +kernel
theorem dX15_type_6 : decode cX15_type 6 = .ok (.putfield 476, 3) := by decide +kernel
theorem dX15_type_9 : decode cX15_type 9 = .ok (.aload_n 0, 1) := by decide +kernel
theorem dX15_type_10 : decode cX15_type 10 = .ok (.getfield 323, 3) := by decide +kernel
theorem dX15_type_13 : decode cX15_type 13 = .ok (.ifCond .le 4, 3) := by decide +kernel
theorem dX15_type_16 : decode cX15_type 16 = .ok (.return_, 1) := by decide +kernel
theorem dX15_type_17 : decode cX15_type 17 = .ok (.aload_n 0, 1) := by decide +kernel
theorem dX15_type_18 : decode cX15_type 18 = .ok (.invokevirtual 383, 3) := by decide +kernel
theorem dX15_type_21 : decode cX15_type 21 = .ok (.aload_n 0, 1) := by decide +kernel
theorem dX15_type_22 : decode cX15_type 22 = .ok (.bipush 91, 2) := by decide +kernel
theorem dX15_type_24 : decode cX15_type 24 = .ok (.invokevirtual 408, 3) := by decide +kernel
theorem dX15_type_27 : decode cX15_type 27 = .ok (.ifCond .eq 43, 3) := by decide +kernel
theorem dX15_type_30 : decode cX15_type 30 = .ok (.aload_n 0, 1) := by decide +kernel
theorem dX15_type_31 : decode cX15_type 31 = .ok (.dup, 1) := by decide +kernel
theorem dX15_type_32 : decode cX15_type 32 = .ok (.getfield 326, 3) := by decide +kernel
theorem dX15_type_35 : decode cX15_type 35 = .ok (.iconst 1, 1) := by decide +kernel
theorem dX15_type_36 : decode cX15_type 36 = .ok (.iadd, 1) := by decide +kernel
theorem dX15_type_37 : decode cX15_type 37 = .ok (.putfield 326, 3) := by decide +kernel
theorem dX15_type_40 : decode cX15_type 40 = .ok (.aload_n 0, 1) := by decide +kernel
theorem dX15_type_41 : decode cX15_type 41 = .ok (.lconst 1, 1) := by decide +kernel
theorem dX15_type_42 : decode cX15_type 42 = .ok (.ldc2_w 479, 3) := by decide +kernel
theorem dX15_type_45 : decode cX15_type 45 = .ok (.invokevirtual 438, 3) := by decide +kernel
theorem dX15_type_48 : decode cX15_type 48 = .ok (.aload_n 0, 1) := by decide +kernel
theorem dX15_type_49 : decode cX15_type 49 = .ok (.aload_n 0, 1) := by decide +kernel
theorem dX15_type_50 : decode cX15_type 50 = .ok (.getfield 396, 3) := by decide +kernel
theorem dX15_type_53 : decode cX15_type 53 = .ok (.l2i, 1) := by decide +kernel
theorem dX15_type_54 : decode cX15_type 54 = .ok (.putfield 476, 3) := by decide +kernel
theorem dX15_type_57 : decode cX15_type 57 = .ok (.aload_n 0, 1) := by decide +kernel
theorem dX15_type_58 : decode cX15_type 58 = .ok (.getfield 323, 3) := by decide +kernel
theorem dX15_type_61 : decode cX15_type 61 = .ok (.ifCond .ne 9, 3) := by decide +kernel
theorem dX15_type_64 : decode cX15_type 64 = .ok (.aload_n 0, 1) := by decide +kernel
theorem dX15_type_65 : decode cX15_type 65 = .ok (.bipush 93, 2) := by decide +kernel
theorem dX15_type_67 : decode cX15_type 67 = .ok (.invokevirtual 442, 3) := by decide +kernel
theorem dX15_type_70 : decode cX15_type 70 = .ok (.return_, 1) := by decide +kernel
theorem dX15_sortWord_0 : decode cX15_sortWord 0 = .ok (.aload_n 0, 1) := by decide +kernel
theorem dX15_sortWord_1 : decode cX15_sortWord 1 = .ok (.invokevirtual 383, 3) := by decide +kernel
theorem dX15_sortWord_4 : decode cX15_sortWord 4 = .ok (.aload_n 0, 1) := by decide +kernel
theorem dX15_sortWord_5 : decode cX15_sortWord 5 = .ok (.aload_n 0, 1) := by decide +kernel
theorem dX15_sortWord_6 : decode cX15_sortWord 6 = .ok (.ldc_w 377, 3) := by decide +kernel
theorem dX15_sortWord_9 : decode cX15_sortWord 9 = .ok (.invokevirtual 355, 3) := by decide +kernel
theorem dX15_sortWord_12 : decode cX15_sortWord 12 = .ok (.ifCond .eq 7, 3) := by decide +kernel
theorem dX15_sortWord_15 : decode cX15_sortWord 15 = .ok (.iconst 1, 1) := by decide +kernel
theorem dX15_sortWord_16 : decode cX15_sortWord 16 = .ok (.goto 4, 3) := by decide +kernel
theorem dX15_sortWord_19 : decode cX15_sortWord 19 = .ok (.iconst 0, 1) := by decide +kernel
theorem dX15_sortWord_20 : decode cX15_sortWord 20 = .ok (.putfield 470, 3) := by decide +kernel
theorem dX15_sortWord_23 : decode cX15_sortWord 23 = .ok (.aload_n 0, 1) := by decide +kernel
theorem dX15_sortWord_24 : decode cX15_sortWord 24 = .ok (.ldc_w 375, 3) := by decide +kernel
theorem dX15_sortWord_27 : decode cX15_sortWord 27 = .ok (.invokevirtual 355, 3) := by decide +kernel
theorem dX15_sortWord_30 : decode cX15_sortWord 30 = .ok (.ifCond .ne 23, 3) := by decide +kernel
theorem dX15_sortWord_33 : decode cX15_sortWord 33 = .ok (.aload_n 0, 1) := by decide +kernel
theorem dX15_sortWord_34 : decode cX15_sortWord 34 = .ok (.ldc_w 377, 3) := by decide +kernel
theorem dX15_sortWord_37 : decode cX15_sortWord 37 = .ok (.invokevirtual 355, 3) := by decide +kernel
theorem dX15_sortWord_40 : decode cX15_sortWord 40 = .ok (.ifCond .ne 13, 3) := by decide +kernel
theorem dX15_sortWord_43 : decode cX15_sortWord 43 = .ok (.aload_n 0, 1) := by decide +kernel
theorem dX15_sortWord_44 : decode cX15_sortWord 44 = .ok (.iconst 1, 1) := by decide +kernel
theorem dX15_sortWord_45 : decode cX15_sortWord 45 = .ok (.aload_n 0, 1) := by decide +kernel
theorem dX15_sortWord_46 : decode cX15_sortWord 46 = .ok (.getfield 326, 3) := by decide +kernel
theorem dX15_sortWord_49 : decode cX15_sortWord 49 = .ok (.invokevirtual 390, 3) := by decide +kernel
theorem dX15_sortWord_52 : decode cX15_sortWord 52 = .ok (.return_, 1) := by decide +kernel
theorem dX15_sortWord_53 : decode cX15_sortWord 53 = .ok (.aload_n 0, 1) := by decide +kernel
theorem dX15_sortWord_54 : decode cX15_sortWord 54 = .ok (.dup, 1) := by decide +kernel
theorem dX15_sortWord_55 : decode cX15_sortWord 55 = .ok (.getfield 326, 3) := by decide +kernel
theorem dX15_sortWord_58 : decode cX15_sortWord 58 = .ok (.iconst 3, 1) := by decide +kernel
theorem dX15_sortWord_59 : decode cX15_sortWord 59 = .ok (.iadd, 1) := by decide +kernel
theorem dX15_sortWord_60 : decode cX15_sortWord 60 = .ok (.putfield 326, 3) := by decide +kernel
theorem dX15_sortWord_63 : decode cX15_sortWord 63 = .ok (.return_, 1) := by decide +kernel
theorem dX15_forStatement_0 : decode cX15_forStatement 0 = .ok (.aload_n 0, 1) := by decide +kernel
theorem dX15_forStatement_1 : decode cX15_forStatement 1 = .ok (.bipush 20, 2) := by decide +kernel
theorem dX15_forStatement_3 : decode cX15_forStatement 3 = .ok (.iconst 0, 1) := by decide +kernel
theorem dX15_forStatement_4 : decode cX15_forStatement 4 = .ok (.iconst 0, 1) := by decide +kernel
theorem dX15_forStatement_5 : decode cX15_forStatement 5 = .ok (.iload_n 1, 1) := by decide +kernel
theorem dX15_forStatement_6 : decode cX15_forStatement 6 = .ok (.invokevirtual 423, 3) := by decide +kernel
theorem dX15_forStatement_9 : decode cX15_forStatement 9 = .ok (.istore_n 2, 1) := by decide +kernel
theorem dX15_forStatement_10 : decode cX15_forStatement 10 = .ok (.aload_n 0, 1) := by decide +kernel
theorem dX15_forStatement_11 : decode cX15_forStatement 11 = .ok (.dup, 1) := by decide +kernel
theorem dX15_forStatement_12 : decode cX15_forStatement 12 = .ok (.getfield 326, 3) := by decide +kernel
theorem dX15_forStatement_15 : decode cX15_forStatement 15 = .ok (.iconst 3, 1) := by decide +kernel
theorem dX15_forStatement_16 : decode cX15_forStatement 16 = .ok (.iadd, 1) := by decide +kernel
theorem dX15_forStatement_17 : decode cX15_forStatement 17 = .ok (.putfield 326, 3) := by decide +kernel
theorem dX15_forStatement_20 : decode cX15_forStatement 20 = .ok (.aload_n 0, 1) := by decide +kernel
theorem dX15_forStatement_21 : decode cX15_forStatement 21 = .ok (.invokevirtual 383, 3) := by decide +kernel
theorem dX15_forStatement_24 : decode cX15_forStatement 24 = .ok (.aload_n 0, 1) := by decide +kernel
theorem dX15_forStatement_25 : decode cX15_forStatement 25 = .ok (.getfield 326, 3) := by decide +kernel
theorem dX15_forStatement_28 : decode cX15_forStatement 28 = .ok (.istore_n 3, 1) := by decide +kernel
theorem dX15_forStatement_29 : decode cX15_forStatement 29 = .ok (.aload_n 0, 1) := by decide +kernel
theorem dX15_forStatement_30 : decode cX15_forStatement 30 = .ok (.invokevirtual 445, 3) := by decide +kernel
theorem dX15_forStatement_33 : decode cX15_forStatement 33 = .ok (.istore 4, 2) := by decide +kernel
theorem dX15_forStatement_35 : decode cX15_forStatement 35 = .ok (.aload_n 0, 1) := by decide +kernel
theorem dX15_forStatement_36 : decode cX15_forStatement 36 = .ok (.getfield 323, 3) := by decide +kernel
theorem dX15_forStatement_39 : decode cX15_forStatement 39 = .ok (.ifCond .le 4, 3) := by decide +kernel
theorem dX15_forStatement_42 : decode cX15_forStatement 42 = .ok (.return_, 1) := by decide +kernel
theorem dX15_forStatement_43 : decode cX15_forStatement 43 = .ok (.aload_n 0, 1) := by decide +kernel
theorem dX15_forStatement_44 : decode cX15_forStatement 44 = .ok (.bipush 38, 2) := by decide +kernel
theorem dX15_forStatement_46 : decode cX15_forStatement 46 = .ok (.iload 4, 2) := by decide +kernel
theorem dX15_forStatement_48 : decode cX15_forStatement 48 = .ok (.iconst 0, 1) := by decide +kernel
theorem dX15_forStatement_49 : decode cX15_forStatement 49 = .ok (.iload_n 3, 1) := by decide +kernel
theorem dX15_forStatement_50 : decode cX15_forStatement 50 = .ok (.invokevirtual 423, 3) := by decide +kernel
theorem dX15_forStatement_53 : decode cX15_forStatement 53 = .ok (.istore_n 2, 1) := by decide +kernel
theorem dX15_forStatement_54 : decode cX15_forStatement 54 = .ok (.aload_n 0, 1) := by decide +kernel
theorem dX15_forStatement_55 : decode cX15_forStatement 55 = .ok (.bipush 61, 2) := by decide +kernel
theorem dX15_forStatement_57 : decode cX15_forStatement 57 = .ok (.invokevirtual 442, 3) := by decide +kernel
theorem dX15_forStatement_60 : decode cX15_forStatement 60 = .ok (.aload_n 0, 1) := by decide +kernel
theorem dX15_forStatement_61 : decode cX15_forStatement 61 = .ok (.getfield 323, 3) := by decide +kernel
theorem dX15_forStatement_64 : decode cX15_forStatement 64 = .ok (.ifCond .ne 7, 3) := by decide +kernel
theorem dX15_forStatement_67 : decode cX15_forStatement 67 = .ok (.aload_n 0, 1) := by decide +kernel
theorem dX15_forStatement_68 : decode cX15_forStatement 68 = .ok (.invokevirtual 496, 3) := by decide +kernel
theorem dX15_forStatement_71 : decode cX15_forStatement 71 = .ok (.aload_n 0, 1) := by decide +kernel
theorem dX15_forStatement_72 : decode cX15_forStatement 72 = .ok (.getfield 323, 3) := by decide +kernel
theorem dX15_forStatement_75 : decode cX15_forStatement 75 = .ok (.ifCond .ne 20, 3) := by decide +kernel
theorem dX15_forStatement_78 : decode cX15_forStatement 78 = .ok (.aload_n 0, 1) := by decide +kernel
theorem dX15_forStatement_79 : decode cX15_forStatement 79 = .ok (.bipush 41, 2) := by decide +kernel
theorem dX15_forStatement_81 : decode cX15_forStatement 81 = .ok (.iconst 0, 1) := by decide +kernel
theorem dX15_forStatement_82 : decode cX15_forStatement 82 = .ok (.iconst 0, 1) := by decide +kernel
theorem dX15_forStatement_83 : decode cX15_forStatement 83 = .ok (.iload_n 1, 1) := by decide +kernel
theorem dX15_forStatement_84 : decode cX15_forStatement 84 = .ok (.invokevirtual 423, 3) := by decide +kernel
theorem dX15_forStatement_87 : decode cX15_forStatement 87 = .ok (.istore_n 2, 1) := by decide +kernel
theorem dX15_forStatement_88 : decode cX15_forStatement 88 = .ok (.aload_n 0, 1) := by decide +kernel
theorem dX15_forStatement_89 : decode cX15_forStatement 89 = .ok (.ldc_w 367, 3) := by decide +kernel
theorem dX15_forStatement_92 : decode cX15_forStatement 92 = .ok (.invokevirtual 481, 3) := by decide +kernel
theorem dX15_forStatement_95 : decode cX15_forStatement 95 = .ok (.aload_n 0, 1) := by decide +kernel
theorem dX15_forStatement_96 : decode cX15_forStatement 96 = .ok (.getfield 323, 3) := by decide +kernel
theorem dX15_forStatement_99 : decode cX15_forStatement 99 = .ok (.ifCond .ne 7, 3) := by decide +kernel
theorem dX15_forStatement_102 : decode cX15_forStatement 102 = .ok (.aload_n 0, 1) := by decide +kernel
theorem dX15_forStatement_103 : decode cX15_forStatement 103 = .ok (.invokevirtual 496, 3) := by decide +kernel
theorem dX15_forStatement_106 : decode cX15_forStatement 106 = .ok (.aload_n 0, 1) := by decide +kernel
theorem dX15_forStatement_107 : decode cX15_forStatement 107 = .ok (.getfield 323, 3) := by decide +kernel
theorem dX15_forStatement_110 : decode cX15_forStatement 110 = .ok (.ifCond .ne 28, 3) := by decide +kernel
theorem dX15_forStatement_113 : decode cX15_forStatement 113 = .ok (.aload_n 0, 1) := by decide +kernel
theorem dX15_forStatement_114 : decode cX15_forStatement 114 = .ok (.bipush 41, 2) := by decide +kernel
theorem dX15_forStatement_116 : decode cX15_forStatement 116 = .ok (.iconst 0, 1) := by decide +kernel
theorem dX15_forStatement_117 : decode cX15_forStatement 117 = .ok (.iconst 0, 1) := by decide +kernel
theorem dX15_forStatement_118 : decode cX15_forStatement 118 = .ok (.iload_n 1, 1) := by decide +kernel
theorem dX15_forStatement_119 : decode cX15_forStatement 119 = .ok (.invokevirtual 423, 3) := by decide +kernel
theorem dX15_forStatement_122 : decode cX15_forStatement 122 = .ok (.istore_n 2, 1) := by decide +kernel
theorem dX15_forStatement_123 : decode cX15_forStatement 123 = .ok (.aload_n 0, 1) := by decide +kernel
theorem dX15_forStatement_124 : decode cX15_forStatement 124 = .ok (.iconst 3, 1) := by decide +kernel
theorem dX15_forStatement_125 : decode cX15_forStatement 125 = .ok (.aload_n 0, 1) := by decide +kernel
theorem dX15_forStatement_126 : decode cX15_forStatement 126 = .ok (.bipush 39, 2) := by decide +kernel
theorem dX15_forStatement_128 : decode cX15_forStatement 128 = .ok (.iload 4, 2) := by decide +kernel
theorem dX15_forStatement_130 : decode cX15_forStatement 130 = .ok (.iconst 0, 1) := by decide +kernel
theorem dX15_forStatement_131 : decode cX15_forStatement 131 = .ok (.iload_n 1, 1) := by decide +kernel
theorem dX15_forStatement_132 : decode cX15_forStatement 132 = .ok (.invokevirtual 423, 3) := by decide +kernel
theorem dX15_forStatement_135 : decode cX15_forStatement 135 = .ok (.invokevirtual 504, 3) := by decide +kernel
theorem dX15_forStatement_138 : decode cX15_forStatement 138 = .ok (.return_, 1) := by decide +kernel
theorem dX15_keyword_0 : decode cX15_keyword 0 = .ok (.aload_n 0, 1) := by decide +kernel
theorem dX15_keyword_1 : decode cX15_keyword 1 = .ok (.invokevirtual 383, 3) := by decide +kernel
theorem dX15_keyword_4 : decode cX15_keyword 4 = .ok (.aload_n 0, 1) := by decide +kernel
theorem dX15_keyword_5 : decode cX15_keyword 5 = .ok (.aload_n 1, 1) := by decide +kernel
theorem dX15_keyword_6 : decode cX15_keyword 6 = .ok (.invokevirtual 355, 3) := by decide +kernel
theorem dX15_keyword_9 : decode cX15_keyword 9 = .ok (.ifCond .ne 13, 3) := by decide +kernel
theorem dX15_keyword_12 : decode cX15_keyword 12 = .ok (.aload_n 0, 1) := by decide +kernel
theorem dX15_keyword_13 : decode cX15_keyword 13 = .ok (.iconst 1, 1) := by decide +kernel
theorem dX15_keyword_14 : decode cX15_keyword 14 = .ok (.aload_n 0, 1) := by decide +kernel
theorem dX15_keyword_15 : decode cX15_keyword 15 = .ok (.getfield 326, 3) := by decide +kernel
theorem dX15_keyword_18 : decode cX15_keyword 18 = .ok (.invokevirtual 390, 3) := by decide +kernel
theorem dX15_keyword_21 : decode cX15_keyword 21 = .ok (.return_, 1) := by decide +kernel
theorem dX15_keyword_22 : decode cX15_keyword 22 = .ok (.aload_n 0, 1) := by decide +kernel
theorem dX15_keyword_23 : decode cX15_keyword 23 = .ok (.dup, 1) := by decide +kernel
theorem dX15_keyword_24 : decode cX15_keyword 24 = .ok (.getfield 326, 3) := by decide +kernel
theorem dX15_keyword_27 : decode cX15_keyword 27 = .ok (.aload_n 1, 1) := by decide +kernel
theorem dX15_keyword_28 : decode cX15_keyword 28 = .ok (.invokevirtual 344, 3) := by decide +kernel
theorem dX15_keyword_31 : decode cX15_keyword 31 = .ok (.iadd, 1) := by decide +kernel
theorem dX15_keyword_32 : decode cX15_keyword 32 = .ok (.putfield 326, 3) := by decide +kernel
theorem dX15_keyword_35 : decode cX15_keyword 35 = .ok (.return_, 1) := by decide +kernel
theorem dX15_inputItem_0 : decode cX15_inputItem 0 = .ok (.aload_n 0, 1) := by decide +kernel
theorem dX15_inputItem_1 : decode cX15_inputItem 1 = .ok (.dup, 1) := by decide +kernel
theorem dX15_inputItem_2 : decode cX15_inputItem 2 = .ok (.getfield 326, 3) := by decide +kernel
theorem dX15_inputItem_5 : decode cX15_inputItem 5 = .ok (.iconst 5, 1) := by decide +kernel
theorem dX15_inputItem_6 : decode cX15_inputItem 6 = .ok (.iadd, 1) := by decide +kernel
theorem dX15_inputItem_7 : decode cX15_inputItem 7 = .ok (.putfield 326, 3) := by decide +kernel
theorem dX15_inputItem_10 : decode cX15_inputItem 10 = .ok (.aload_n 0, 1) := by decide +kernel
theorem dX15_inputItem_11 : decode cX15_inputItem 11 = .ok (.invokevirtual 383, 3) := by decide +kernel
theorem dX15_inputItem_14 : decode cX15_inputItem 14 = .ok (.aload_n 0, 1) := by decide +kernel
theorem dX15_inputItem_15 : decode cX15_inputItem 15 = .ok (.getfield 326, 3) := by decide +kernel
theorem dX15_inputItem_18 : decode cX15_inputItem 18 = .ok (.istore_n 2, 1) := by decide +kernel
theorem dX15_inputItem_19 : decode cX15_inputItem 19 = .ok (.aload_n 0, 1) := by decide +kernel
theorem dX15_inputItem_20 : decode cX15_inputItem 20 = .ok (.invokevirtual 445, 3) := by decide +kernel
theorem dX15_inputItem_23 : decode cX15_inputItem 23 = .ok (.istore_n 3, 1) := by decide +kernel
theorem dX15_inputItem_24 : decode cX15_inputItem 24 = .ok (.aload_n 0, 1) := by decide +kernel
theorem dX15_inputItem_25 : decode cX15_inputItem 25 = .ok (.getfield 323, 3) := by decide +kernel
theorem dX15_inputItem_28 : decode cX15_inputItem 28 = .ok (.ifCond .ne 10, 3) := by decide +kernel
theorem dX15_inputItem_31 : decode cX15_inputItem 31 = .ok (.aload_n 0, 1) := by decide +kernel
theorem dX15_inputItem_32 : decode cX15_inputItem 32 = .ok (.ldc_w 359, 3) := by decide +kernel
theorem dX15_inputItem_35 : decode cX15_inputItem 35 = .ok (.invokevirtual 481, 3) := by decide +kernel
theorem dX15_inputItem_38 : decode cX15_inputItem 38 = .ok (.aload_n 0, 1) := by decide +kernel
theorem dX15_inputItem_39 : decode cX15_inputItem 39 = .ok (.getfield 323, 3) := by decide +kernel
theorem dX15_inputItem_42 : decode cX15_inputItem 42 = .ok (.ifCond .ne 15, 3) := by decide +kernel
theorem dX15_inputItem_45 : decode cX15_inputItem 45 = .ok (.aload_n 0, 1) := by decide +kernel
theorem dX15_inputItem_46 : decode cX15_inputItem 46 = .ok (.lconst 0, 1) := by decide +kernel
theorem dX15_inputItem_47 : decode cX15_inputItem 47 = .ok (.aload_n 0, 1) := by decide +kernel
theorem dX15_inputItem_48 : decode cX15_inputItem 48 = .ok (.getfield 299, 3) := by decide +kernel
theorem dX15_inputItem_51 : decode cX15_inputItem 51 = .ok (.i2l, 1) := by decide +kernel
theorem dX15_inputItem_52 : decode cX15_inputItem 52 = .ok (.lconst 1, 1) := by decide +kernel
theorem dX15_inputItem_53 : decode cX15_inputItem 53 = .ok (.lsub, 1) := by decide +kernel
theorem dX15_inputItem_54 : decode cX15_inputItem 54 = .ok (.invokevirtual 438, 3) := by decide +kernel
theorem dX15_inputItem_57 : decode cX15_inputItem 57 = .ok (.aload_n 0, 1) := by decide +kernel
theorem dX15_inputItem_58 : decode cX15_inputItem 58 = .ok (.getfield 396, 3) := by decide +kernel
theorem dX15_inputItem_61 : decode cX15_inputItem 61 = .ok (.l2i, 1) := by decide +kernel
theorem dX15_inputItem_62 : decode cX15_inputItem 62 = .ok (.istore 4, 2) := by decide +kernel
theorem dX15_inputItem_64 : decode cX15_inputItem 64 = .ok (.aload_n 0, 1) := by decide +kernel
theorem dX15_inputItem_65 : decode cX15_inputItem 65 = .ok (.getfield 323, 3) := by decide +kernel
theorem dX15_inputItem_68 : decode cX15_inputItem 68 = .ok (.ifCond .ne 9, 3) := by decide +kernel
theorem dX15_inputItem_71 : decode cX15_inputItem 71 = .ok (.aload_n 0, 1) := by decide +kernel
theorem dX15_inputItem_72 : decode cX15_inputItem 72 = .ok (.bipush 58, 2) := by decide +kernel
theorem dX15_inputItem_74 : decode cX15_inputItem 74 = .ok (.invokevirtual 442, 3) := by decide +kernel
theorem dX15_inputItem_77 : decode cX15_inputItem 77 = .ok (.aload_n 0, 1) := by decide +kernel
theorem dX15_inputItem_78 : decode cX15_inputItem 78 = .ok (.getfield 323, 3) := by decide +kernel
theorem dX15_inputItem_81 : decode cX15_inputItem 81 = .ok (.ifCond .ne 7, 3) := by decide +kernel
theorem dX15_inputItem_84 : decode cX15_inputItem 84 = .ok (.aload_n 0, 1) := by decide +kernel
theorem dX15_inputItem_85 : decode cX15_inputItem 85 = .ok (.invokevirtual 485, 3) := by decide +kernel
theorem dX15_inputItem_88 : decode cX15_inputItem 88 = .ok (.aload_n 0, 1) := by decide +kernel
theorem dX15_inputItem_89 : decode cX15_inputItem 89 = .ok (.getfield 323, 3) := by decide +kernel
theorem dX15_inputItem_92 : decode cX15_inputItem 92 = .ok (.ifCond .le 4, 3) := by decide +kernel
theorem dX15_inputItem_95 : decode cX15_inputItem 95 = .ok (.return_, 1) := by decide +kernel
theorem dX15_inputItem_96 : decode cX15_inputItem 96 = .ok (.aload_n 0, 1) := by decide +kernel
theorem dX15_inputItem_97 : decode cX15_inputItem 97 = .ok (.getfield 476, 3) := by decide +kernel
theorem dX15_inputItem_100 : decode cX15_inputItem 100 = .ok (.ifCond .ne 7, 3) := by decide +kernel
theorem dX15_inputItem_103 : decode cX15_inputItem 103 = .ok (.iconst 1, 1) := by decide +kernel
theorem dX15_inputItem_104 : decode cX15_inputItem 104 = .ok (.goto 7, 3) := by decide +kernel
theorem dX15_inputItem_107 : decode cX15_inputItem 107 = .ok (.aload_n 0, 1) := by decide +kernel
theorem dX15_inputItem_108 : decode cX15_inputItem 108 = .ok (.getfield 476, 3) := by decide +kernel
theorem dX15_inputItem_111 : decode cX15_inputItem 111 = .ok (.istore 5, 2) := by decide +kernel
theorem dX15_inputItem_113 : decode cX15_inputItem 113 = .ok (.aload_n 0, 1) := by decide +kernel
theorem dX15_inputItem_114 : decode cX15_inputItem 114 = .ok (.getfield 488, 3) := by decide +kernel
theorem dX15_inputItem_117 : decode cX15_inputItem 117 = .ok (.iload 5, 2) := by decide +kernel
theorem dX15_inputItem_119 : decode cX15_inputItem 119 = .ok (.iadd, 1) := by decide +kernel
theorem dX15_inputItem_120 : decode cX15_inputItem 120 = .ok (.sipush 256, 3) := by decide +kernel
theorem dX15_inputItem_123 : decode cX15_inputItem 123 = .ok (.if_icmp .le 10, 3) := by decide +kernel
theorem dX15_inputItem_126 : decode cX15_inputItem 126 = .ok (.aload_n 0, 1) := by decide +kernel
theorem dX15_inputItem_127 : decode cX15_inputItem 127 = .ok (.iconst 2, 1) := by decide +kernel
theorem dX15_inputItem_128 : decode cX15_inputItem 128 = .ok (.iload_n 2, 1) := by decide +kernel
theorem dX15_inputItem_129 : decode cX15_inputItem 129 = .ok (.invokevirtual 390, 3) := by decide +kernel
theorem dX15_inputItem_132 : decode cX15_inputItem 132 = .ok (.return_, 1) := by decide +kernel
theorem dX15_inputItem_133 : decode cX15_inputItem 133 = .ok (.aload_n 0, 1) := by decide +kernel
theorem dX15_inputItem_134 : decode cX15_inputItem 134 = .ok (.bipush 22, 2) := by decide +kernel
theorem dX15_inputItem_136 : decode cX15_inputItem 136 = .ok (.iload_n 3, 1) := by decide +kernel
theorem dX15_inputItem_137 : decode cX15_inputItem 137 = .ok (.iconst 0, 1) := by decide +kernel
theorem dX15_inputItem_138 : decode cX15_inputItem 138 = .ok (.iload_n 2, 1) := by decide +kernel
theorem dX15_inputItem_139 : decode cX15_inputItem 139 = .ok (.invokevirtual 423, 3) := by decide +kernel
theorem dX15_inputItem_142 : decode cX15_inputItem 142 = .ok (.istore 6, 2) := by decide +kernel
theorem dX15_inputItem_144 : decode cX15_inputItem 144 = .ok (.aload_n 0, 1) := by decide +kernel
theorem dX15_inputItem_145 : decode cX15_inputItem 145 = .ok (.bipush 23, 2) := by decide +kernel
theorem dX15_inputItem_147 : decode cX15_inputItem 147 = .ok (.iload_n 3, 1) := by decide +kernel
theorem dX15_inputItem_148 : decode cX15_inputItem 148 = .ok (.aload_n 0, 1) := by decide +kernel
theorem dX15_inputItem_149 : decode cX15_inputItem 149 = .ok (.getfield 470, 3) := by decide +kernel
theorem dX15_inputItem_152 : decode cX15_inputItem 152 = .ok (.iload_n 2, 1) := by decide +kernel
theorem dX15_inputItem_153 : decode cX15_inputItem 153 = .ok (.invokevirtual 423, 3) := by decide +kernel
theorem dX15_inputItem_156 : decode cX15_inputItem 156 = .ok (.istore 6, 2) := by decide +kernel
theorem dX15_inputItem_158 : decode cX15_inputItem 158 = .ok (.aload_n 0, 1) := by decide +kernel
theorem dX15_inputItem_159 : decode cX15_inputItem 159 = .ok (.getfield 34, 3) := by decide +kernel
theorem dX15_inputItem_162 : decode cX15_inputItem 162 = .ok (.iload 6, 2) := by decide +kernel
theorem dX15_inputItem_164 : decode cX15_inputItem 164 = .ok (.ldc2_w 491, 3) := by decide +kernel
theorem dX15_inputItem_167 : decode cX15_inputItem 167 = .ok (.iload 4, 2) := by decide +kernel
theorem dX15_inputItem_169 : decode cX15_inputItem 169 = .ok (.i2l, 1) := by decide +kernel
theorem dX15_inputItem_170 : decode cX15_inputItem 170 = .ok (.lmul, 1) := by decide +kernel
theorem dX15_inputItem_171 : decode cX15_inputItem 171 = .ok (.aload_n 0, 1) := by decide +kernel
theorem dX15_inputItem_172 : decode cX15_inputItem 172 = .ok (.getfield 476, 3) := by decide +kernel
theorem dX15_inputItem_175 : decode cX15_inputItem 175 = .ok (.i2l, 1) := by decide +kernel
theorem dX15_inputItem_176 : decode cX15_inputItem 176 = .ok (.ladd, 1) := by decide +kernel
theorem dX15_inputItem_177 : decode cX15_inputItem 177 = .ok (.lastore, 1) := by decide +kernel
theorem dX15_inputItem_178 : decode cX15_inputItem 178 = .ok (.aload_n 0, 1) := by decide +kernel
theorem dX15_inputItem_179 : decode cX15_inputItem 179 = .ok (.dup, 1) := by decide +kernel
theorem dX15_inputItem_180 : decode cX15_inputItem 180 = .ok (.getfield 488, 3) := by decide +kernel
theorem dX15_inputItem_183 : decode cX15_inputItem 183 = .ok (.iload 5, 2) := by decide +kernel
theorem dX15_inputItem_185 : decode cX15_inputItem 185 = .ok (.iadd, 1) := by decide +kernel
theorem dX15_inputItem_186 : decode cX15_inputItem 186 = .ok (.putfield 488, 3) := by decide +kernel
theorem dX15_inputItem_189 : decode cX15_inputItem 189 = .ok (.aload_n 0, 1) := by decide +kernel
theorem dX15_inputItem_190 : decode cX15_inputItem 190 = .ok (.bipush 59, 2) := by decide +kernel
theorem dX15_inputItem_192 : decode cX15_inputItem 192 = .ok (.invokevirtual 442, 3) := by decide +kernel
theorem dX15_inputItem_195 : decode cX15_inputItem 195 = .ok (.return_, 1) := by decide +kernel
theorem dX15_defItem_0 : decode cX15_defItem 0 = .ok (.aload_n 0, 1) := by decide +kernel
theorem dX15_defItem_1 : decode cX15_defItem 1 = .ok (.dup, 1) := by decide +kernel
theorem dX15_defItem_2 : decode cX15_defItem 2 = .ok (.getfield 326, 3) := by decide +kernel
theorem dX15_defItem_5 : decode cX15_defItem 5 = .ok (.iconst 3, 1) := by decide +kernel
theorem dX15_defItem_6 : decode cX15_defItem 6 = .ok (.iadd, 1) := by decide +kernel
theorem dX15_defItem_7 : decode cX15_defItem 7 = .ok (.putfield 326, 3) := by decide +kernel
theorem dX15_defItem_10 : decode cX15_defItem 10 = .ok (.aload_n 0, 1) := by decide +kernel
theorem dX15_defItem_11 : decode cX15_defItem 11 = .ok (.invokevirtual 383, 3) := by decide +kernel
theorem dX15_defItem_14 : decode cX15_defItem 14 = .ok (.aload_n 0, 1) := by decide +kernel
theorem dX15_defItem_15 : decode cX15_defItem 15 = .ok (.getfield 326, 3) := by decide +kernel
theorem dX15_defItem_18 : decode cX15_defItem 18 = .ok (.istore_n 2, 1) := by decide +kernel
theorem dX15_defItem_19 : decode cX15_defItem 19 = .ok (.aload_n 0, 1) := by decide +kernel
theorem dX15_defItem_20 : decode cX15_defItem 20 = .ok (.invokevirtual 445, 3) := by decide +kernel
theorem dX15_defItem_23 : decode cX15_defItem 23 = .ok (.istore_n 3, 1) := by decide +kernel
theorem dX15_defItem_24 : decode cX15_defItem 24 = .ok (.aload_n 0, 1) := by decide +kernel
theorem dX15_defItem_25 : decode cX15_defItem 25 = .ok (.getfield 323, 3) := by decide +kernel
theorem dX15_defItem_28 : decode cX15_defItem 28 = .ok (.ifCond .ne 9, 3) := by decide +kernel
theorem dX15_defItem_31 : decode cX15_defItem 31 = .ok (.aload_n 0, 1) := by decide +kernel
theorem dX15_defItem_32 : decode cX15_defItem 32 = .ok (.bipush 40, 2) := by decide +kernel
theorem dX15_defItem_34 : decode cX15_defItem 34 = .ok (.invokevirtual 442, 3) := by decide +kernel
theorem dX15_defItem_37 : decode cX15_defItem 37 = .ok (.aload_n 0, 1) := by decide +kernel
theorem dX15_defItem_38 : decode cX15_defItem 38 = .ok (.getfield 323, 3) := by decide +kernel
theorem dX15_defItem_41 : decode cX15_defItem 41 = .ok (.ifCond .le 4, 3) := by decide +kernel
theorem dX15_defItem_44 : decode cX15_defItem 44 = .ok (.return_, 1) := by decide +kernel
theorem dX15_defItem_45 : decode cX15_defItem 45 = .ok (.aload_n 0, 1) := by decide +kernel
theorem dX15_defItem_46 : decode cX15_defItem 46 = .ok (.bipush 26, 2) := by decide +kernel
theorem dX15_defItem_48 : decode cX15_defItem 48 = .ok (.iload_n 3, 1) := by decide +kernel
theorem dX15_defItem_49 : decode cX15_defItem 49 = .ok (.iconst 0, 1) := by decide +kernel
theorem dX15_defItem_50 : decode cX15_defItem 50 = .ok (.iload_n 2, 1) := by decide +kernel
theorem dX15_defItem_51 : decode cX15_defItem 51 = .ok (.invokevirtual 423, 3) := by decide +kernel
theorem dX15_defItem_54 : decode cX15_defItem 54 = .ok (.istore 4, 2) := by decide +kernel
theorem dX15_defItem_56 : decode cX15_defItem 56 = .ok (.aload_n 0, 1) := by decide +kernel
theorem dX15_defItem_57 : decode cX15_defItem 57 = .ok (.invokevirtual 383, 3) := by decide +kernel
theorem dX15_defItem_60 : decode cX15_defItem 60 = .ok (.aload_n 0, 1) := by decide +kernel
theorem dX15_defItem_61 : decode cX15_defItem 61 = .ok (.bipush 41, 2) := by decide +kernel
theorem dX15_defItem_63 : decode cX15_defItem 63 = .ok (.invokevirtual 408, 3) := by decide +kernel
theorem dX15_defItem_66 : decode cX15_defItem 66 = .ok (.ifCond .ne 7, 3) := by decide +kernel
theorem dX15_defItem_69 : decode cX15_defItem 69 = .ok (.iconst 1, 1) := by decide +kernel
theorem dX15_defItem_70 : decode cX15_defItem 70 = .ok (.goto 4, 3) := by decide +kernel
theorem dX15_defItem_73 : decode cX15_defItem 73 = .ok (.iconst 0, 1) := by decide +kernel
theorem dX15_defItem_74 : decode cX15_defItem 74 = .ok (.istore 5, 2) := by decide +kernel
theorem dX15_defItem_76 : decode cX15_defItem 76 = .ok (.iload 5, 2) := by decide +kernel
theorem dX15_defItem_78 : decode cX15_defItem 78 = .ok (.ifCond .eq 118, 3) := by decide +kernel
theorem dX15_defItem_81 : decode cX15_defItem 81 = .ok (.aload_n 0, 1) := by decide +kernel
theorem dX15_defItem_82 : decode cX15_defItem 82 = .ok (.getfield 323, 3) := by decide +kernel
theorem dX15_defItem_85 : decode cX15_defItem 85 = .ok (.ifCond .ne 111, 3) := by decide +kernel
theorem dX15_defItem_88 : decode cX15_defItem 88 = .ok (.aload_n 0, 1) := by decide +kernel
theorem dX15_defItem_89 : decode cX15_defItem 89 = .ok (.invokevirtual 383, 3) := by decide +kernel
theorem dX15_defItem_92 : decode cX15_defItem 92 = .ok (.aload_n 0, 1) := by decide +kernel
theorem dX15_defItem_93 : decode cX15_defItem 93 = .ok (.getfield 326, 3) := by decide +kernel
theorem dX15_defItem_96 : decode cX15_defItem 96 = .ok (.istore 6, 2) := by decide +kernel
theorem dX15_defItem_98 : decode cX15_defItem 98 = .ok (.aload_n 0, 1) := by decide +kernel
theorem dX15_defItem_99 : decode cX15_defItem 99 = .ok (.invokevirtual 445, 3) := by decide +kernel
theorem dX15_defItem_102 : decode cX15_defItem 102 = .ok (.istore 7, 2) := by decide +kernel
theorem dX15_defItem_104 : decode cX15_defItem 104 = .ok (.aload_n 0, 1) := by decide +kernel
theorem dX15_defItem_105 : decode cX15_defItem 105 = .ok (.getfield 323, 3) := by decide +kernel
theorem dX15_defItem_108 : decode cX15_defItem 108 = .ok (.ifCond .ne 9, 3) := by decide +kernel
theorem dX15_defItem_111 : decode cX15_defItem 111 = .ok (.aload_n 0, 1) := by decide +kernel
theorem dX15_defItem_112 : decode cX15_defItem 112 = .ok (.bipush 58, 2) := by decide +kernel
theorem dX15_defItem_114 : decode cX15_defItem 114 = .ok (.invokevirtual 442, 3) := by decide +kernel
theorem dX15_defItem_117 : decode cX15_defItem 117 = .ok (.aload_n 0, 1) := by decide +kernel
theorem dX15_defItem_118 : decode cX15_defItem 118 = .ok (.getfield 323, 3) := by decide +kernel
theorem dX15_defItem_121 : decode cX15_defItem 121 = .ok (.ifCond .ne 7, 3) := by decide +kernel
theorem dX15_defItem_124 : decode cX15_defItem 124 = .ok (.aload_n 0, 1) := by decide +kernel
theorem dX15_defItem_125 : decode cX15_defItem 125 = .ok (.invokevirtual 473, 3) := by decide +kernel
theorem dX15_defItem_128 : decode cX15_defItem 128 = .ok (.aload_n 0, 1) := by decide +kernel
theorem dX15_defItem_129 : decode cX15_defItem 129 = .ok (.getfield 323, 3) := by decide +kernel
theorem dX15_defItem_132 : decode cX15_defItem 132 = .ok (.ifCond .ne 61, 3) := by decide +kernel
theorem dX15_defItem_135 : decode cX15_defItem 135 = .ok (.aload_n 0, 1) := by decide +kernel
theorem dX15_defItem_136 : decode cX15_defItem 136 = .ok (.bipush 27, 2) := by decide +kernel
theorem dX15_defItem_138 : decode cX15_defItem 138 = .ok (.iload 7, 2) := by decide +kernel
theorem dX15_defItem_140 : decode cX15_defItem 140 = .ok (.aload_n 0, 1) := by decide +kernel
theorem dX15_defItem_141 : decode cX15_defItem 141 = .ok (.getfield 470, 3) := by decide +kernel
theorem dX15_defItem_144 : decode cX15_defItem 144 = .ok (.iload 6, 2) := by decide +kernel
theorem dX15_defItem_146 : decode cX15_defItem 146 = .ok (.invokevirtual 423, 3) := by decide +kernel
theorem dX15_defItem_149 : decode cX15_defItem 149 = .ok (.istore 8, 2) := by decide +kernel
theorem dX15_defItem_151 : decode cX15_defItem 151 = .ok (.aload_n 0, 1) := by decide +kernel
theorem dX15_defItem_152 : decode cX15_defItem 152 = .ok (.getfield 28, 3) := by decide +kernel
theorem dX15_defItem_155 : decode cX15_defItem 155 = .ok (.iload 4, 2) := by decide +kernel
theorem dX15_defItem_157 : decode cX15_defItem 157 = .ok (.dup2, 1) := by decide +kernel
theorem dX15_defItem_158 : decode cX15_defItem 158 = .ok (.iaload, 1) := by decide +kernel
theorem dX15_defItem_159 : decode cX15_defItem 159 = .ok (.iconst 1, 1) := by decide +kernel
theorem dX15_defItem_160 : decode cX15_defItem 160 = .ok (.iadd, 1) := by decide +kernel
theorem dX15_defItem_161 : decode cX15_defItem 161 = .ok (.iastore, 1) := by decide +kernel
theorem dX15_defItem_162 : decode cX15_defItem 162 = .ok (.aload_n 0, 1) := by decide +kernel
theorem dX15_defItem_163 : decode cX15_defItem 163 = .ok (.invokevirtual 383, 3) := by decide +kernel
theorem dX15_defItem_166 : decode cX15_defItem 166 = .ok (.aload_n 0, 1) := by decide +kernel
theorem dX15_defItem_167 : decode cX15_defItem 167 = .ok (.bipush 44, 2) := by decide +kernel
theorem dX15_defItem_169 : decode cX15_defItem 169 = .ok (.invokevirtual 408, 3) := by decide +kernel
theorem dX15_defItem_172 : decode cX15_defItem 172 = .ok (.istore 5, 2) := by decide +kernel
theorem dX15_defItem_174 : decode cX15_defItem 174 = .ok (.aload_n 0, 1) := by decide +kernel
theorem dX15_defItem_175 : decode cX15_defItem 175 = .ok (.dup, 1) := by decide +kernel
theorem dX15_defItem_176 : decode cX15_defItem 176 = .ok (.getfield 326, 3) := by decide +kernel
theorem dX15_defItem_179 : decode cX15_defItem 179 = .ok (.iload 5, 2) := by decide +kernel
theorem dX15_defItem_181 : decode cX15_defItem 181 = .ok (.ifCond .eq 7, 3) := by decide +kernel
theorem dX15_defItem_184 : decode cX15_defItem 184 = .ok (.iconst 1, 1) := by decide +kernel
theorem dX15_defItem_185 : decode cX15_defItem 185 = .ok (.goto 4, 3) := by decide +kernel
theorem dX15_defItem_188 : decode cX15_defItem 188 = .ok (.iconst 0, 1) := by decide +kernel
theorem dX15_defItem_189 : decode cX15_defItem 189 = .ok (.iadd, 1) := by decide +kernel
theorem dX15_defItem_190 : decode cX15_defItem 190 = .ok (.putfield 326, 3) := by decide +kernel
theorem dX15_defItem_193 : decode cX15_defItem 193 = .ok (.goto (-117), 3) := by decide +kernel
theorem dX15_defItem_196 : decode cX15_defItem 196 = .ok (.aload_n 0, 1) := by decide +kernel
theorem dX15_defItem_197 : decode cX15_defItem 197 = .ok (.getfield 323, 3) := by decide +kernel
theorem dX15_defItem_200 : decode cX15_defItem 200 = .ok (.ifCond .ne 9, 3) := by decide +kernel
theorem dX15_defItem_203 : decode cX15_defItem 203 = .ok (.aload_n 0, 1) := by decide +kernel
theorem dX15_defItem_204 : decode cX15_defItem 204 = .ok (.bipush 41, 2) := by decide +kernel
theorem dX15_defItem_206 : decode cX15_defItem 206 = .ok (.invokevirtual 442, 3) := by decide +kernel
theorem dX15_defItem_209 : decode cX15_defItem 209 = .ok (.aload_n 0, 1) := by decide +kernel
theorem dX15_defItem_210 : decode cX15_defItem 210 = .ok (.getfield 323, 3) := by decide +kernel
theorem dX15_defItem_213 : decode cX15_defItem 213 = .ok (.ifCond .ne 9, 3) := by decide +kernel
theorem dX15_defItem_216 : decode cX15_defItem 216 = .ok (.aload_n 0, 1) := by decide +kernel
theorem dX15_defItem_217 : decode cX15_defItem 217 = .ok (.bipush 58, 2) := by decide +kernel
theorem dX15_defItem_219 : decode cX15_defItem 219 = .ok (.invokevirtual 442, 3) := by decide +kernel
theorem dX15_defItem_222 : decode cX15_defItem 222 = .ok (.aload_n 0, 1) := by decide +kernel
theorem dX15_defItem_223 : decode cX15_defItem 223 = .ok (.getfield 323, 3) := by decide +kernel
theorem dX15_defItem_226 : decode cX15_defItem 226 = .ok (.ifCond .ne 7, 3) := by decide +kernel
theorem dX15_defItem_229 : decode cX15_defItem 229 = .ok (.aload_n 0, 1) := by decide +kernel
theorem dX15_defItem_230 : decode cX15_defItem 230 = .ok (.invokevirtual 473, 3) := by decide +kernel
theorem dX15_defItem_233 : decode cX15_defItem 233 = .ok (.aload_n 0, 1) := by decide +kernel
theorem dX15_defItem_234 : decode cX15_defItem 234 = .ok (.getfield 470, 3) := by decide +kernel
theorem dX15_defItem_237 : decode cX15_defItem 237 = .ok (.istore 6, 2) := by decide +kernel
theorem dX15_defItem_239 : decode cX15_defItem 239 = .ok (.aload_n 0, 1) := by decide +kernel
theorem dX15_defItem_240 : decode cX15_defItem 240 = .ok (.getfield 323, 3) := by decide +kernel
theorem dX15_defItem_243 : decode cX15_defItem 243 = .ok (.ifCond .ne 9, 3) := by decide +kernel
theorem dX15_defItem_246 : decode cX15_defItem 246 = .ok (.aload_n 0, 1) := by decide +kernel
theorem dX15_defItem_247 : decode cX15_defItem 247 = .ok (.bipush 61, 2) := by decide +kernel
theorem dX15_defItem_249 : decode cX15_defItem 249 = .ok (.invokevirtual 442, 3) := by decide +kernel
theorem dX15_defItem_252 : decode cX15_defItem 252 = .ok (.aload_n 0, 1) := by decide +kernel
theorem dX15_defItem_253 : decode cX15_defItem 253 = .ok (.getfield 323, 3) := by decide +kernel
theorem dX15_defItem_256 : decode cX15_defItem 256 = .ok (.ifCond .le 4, 3) := by decide +kernel
theorem dX15_defItem_259 : decode cX15_defItem 259 = .ok (.return_, 1) := by decide +kernel
theorem dX15_defItem_260 : decode cX15_defItem 260 = .ok (.aload_n 0, 1) := by decide +kernel
theorem dX15_defItem_261 : decode cX15_defItem 261 = .ok (.bipush 28, 2) := by decide +kernel
theorem dX15_defItem_263 : decode cX15_defItem 263 = .ok (.iconst 0, 1) := by decide +kernel
theorem dX15_defItem_264 : decode cX15_defItem 264 = .ok (.iconst 0, 1) := by decide +kernel
theorem dX15_defItem_265 : decode cX15_defItem 265 = .ok (.iload_n 1, 1) := by decide +kernel
theorem dX15_defItem_266 : decode cX15_defItem 266 = .ok (.invokevirtual 423, 3) := by decide +kernel
theorem dX15_defItem_269 : decode cX15_defItem 269 = .ok (.istore 7, 2) := by decide +kernel
theorem dX15_defItem_271 : decode cX15_defItem 271 = .ok (.aload_n 0, 1) := by decide +kernel
theorem dX15_defItem_272 : decode cX15_defItem 272 = .ok (.invokevirtual 496, 3) := by decide +kernel
theorem dX15_defItem_275 : decode cX15_defItem 275 = .ok (.aload_n 0, 1) := by decide +kernel
theorem dX15_defItem_276 : decode cX15_defItem 276 = .ok (.getfield 323, 3) := by decide +kernel
theorem dX15_defItem_279 : decode cX15_defItem 279 = .ok (.ifCond .le 4, 3) := by decide +kernel
theorem dX15_defItem_282 : decode cX15_defItem 282 = .ok (.return_, 1) := by decide +kernel
theorem dX15_defItem_283 : decode cX15_defItem 283 = .ok (.aload_n 0, 1) := by decide +kernel
theorem dX15_defItem_284 : decode cX15_defItem 284 = .ok (.bipush 29, 2) := by decide +kernel
theorem dX15_defItem_286 : decode cX15_defItem 286 = .ok (.iload_n 3, 1) := by decide +kernel
theorem dX15_defItem_287 : decode cX15_defItem 287 = .ok (.iload 6, 2) := by decide +kernel
theorem dX15_defItem_289 : decode cX15_defItem 289 = .ok (.iload_n 2, 1) := by decide +kernel
theorem dX15_defItem_290 : decode cX15_defItem 290 = .ok (.invokevirtual 423, 3) := by decide +kernel
theorem dX15_defItem_293 : decode cX15_defItem 293 = .ok (.istore 7, 2) := by decide +kernel
theorem dX15_defItem_295 : decode cX15_defItem 295 = .ok (.aload_n 0, 1) := by decide +kernel
theorem dX15_defItem_296 : decode cX15_defItem 296 = .ok (.getfield 34, 3) := by decide +kernel
theorem dX15_defItem_299 : decode cX15_defItem 299 = .ok (.iload 4, 2) := by decide +kernel
theorem dX15_defItem_301 : decode cX15_defItem 301 = .ok (.iload 7, 2) := by decide +kernel
theorem dX15_defItem_303 : decode cX15_defItem 303 = .ok (.i2l, 1) := by decide +kernel
theorem dX15_defItem_304 : decode cX15_defItem 304 = .ok (.lastore, 1) := by decide +kernel
theorem dX15_defItem_305 : decode cX15_defItem 305 = .ok (.aload_n 0, 1) := by decide +kernel
theorem dX15_defItem_306 : decode cX15_defItem 306 = .ok (.bipush 59, 2) := by decide +kernel
theorem dX15_defItem_308 : decode cX15_defItem 308 = .ok (.invokevirtual 442, 3) := by decide +kernel
theorem dX15_defItem_311 : decode cX15_defItem 311 = .ok (.return_, 1) := by decide +kernel
theorem dX15_outputItem_0 : decode cX15_outputItem 0 = .ok (.aload_n 0, 1) := by decide +kernel
theorem dX15_outputItem_1 : decode cX15_outputItem 1 = .ok (.dup, 1) := by decide +kernel
theorem dX15_outputItem_2 : decode cX15_outputItem 2 = .ok (.getfield 326, 3) := by decide +kernel
theorem dX15_outputItem_5 : decode cX15_outputItem 5 = .ok (.bipush 6, 2) := by decide +kernel
theorem dX15_outputItem_7 : decode cX15_outputItem 7 = .ok (.iadd, 1) := by decide +kernel
theorem dX15_outputItem_8 : decode cX15_outputItem 8 = .ok (.putfield 326, 3) := by decide +kernel
theorem dX15_outputItem_11 : decode cX15_outputItem 11 = .ok (.aload_n 0, 1) := by decide +kernel
theorem dX15_outputItem_12 : decode cX15_outputItem 12 = .ok (.bipush 20, 2) := by decide +kernel
theorem dX15_outputItem_14 : decode cX15_outputItem 14 = .ok (.iconst 0, 1) := by decide +kernel
theorem dX15_outputItem_15 : decode cX15_outputItem 15 = .ok (.iconst 0, 1) := by decide +kernel
theorem dX15_outputItem_16 : decode cX15_outputItem 16 = .ok (.iload_n 1, 1) := by decide +kernel
theorem dX15_outputItem_17 : decode cX15_outputItem 17 = .ok (.invokevirtual 423, 3) := by decide +kernel
theorem dX15_outputItem_20 : decode cX15_outputItem 20 = .ok (.istore_n 2, 1) := by decide +kernel
theorem dX15_outputItem_21 : decode cX15_outputItem 21 = .ok (.aload_n 0, 1) := by decide +kernel
theorem dX15_outputItem_22 : decode cX15_outputItem 22 = .ok (.invokevirtual 496, 3) := by decide +kernel
theorem dX15_outputItem_25 : decode cX15_outputItem 25 = .ok (.aload_n 0, 1) := by decide +kernel
theorem dX15_outputItem_26 : decode cX15_outputItem 26 = .ok (.getfield 323, 3) := by decide +kernel
theorem dX15_outputItem_29 : decode cX15_outputItem 29 = .ok (.ifCond .ne 29, 3) := by decide +kernel
theorem dX15_outputItem_32 : decode cX15_outputItem 32 = .ok (.aload_n 0, 1) := by decide +kernel
theorem dX15_outputItem_33 : decode cX15_outputItem 33 = .ok (.bipush 30, 2) := by decide +kernel
theorem dX15_outputItem_35 : decode cX15_outputItem 35 = .ok (.iconst 0, 1) := by decide +kernel
theorem dX15_outputItem_36 : decode cX15_outputItem 36 = .ok (.iconst 0, 1) := by decide +kernel
theorem dX15_outputItem_37 : decode cX15_outputItem 37 = .ok (.iload_n 1, 1) := by decide +kernel
theorem dX15_outputItem_38 : decode cX15_outputItem 38 = .ok (.invokevirtual 423, 3) := by decide +kernel
theorem dX15_outputItem_41 : decode cX15_outputItem 41 = .ok (.istore_n 2, 1) := by decide +kernel
theorem dX15_outputItem_42 : decode cX15_outputItem 42 = .ok (.aload_n 0, 1) := by decide +kernel
theorem dX15_outputItem_43 : decode cX15_outputItem 43 = .ok (.bipush 59, 2) := by decide +kernel
theorem dX15_outputItem_45 : decode cX15_outputItem 45 = .ok (.invokevirtual 442, 3) := by decide +kernel
theorem dX15_outputItem_48 : decode cX15_outputItem 48 = .ok (.aload_n 0, 1) := by decide +kernel
theorem dX15_outputItem_49 : decode cX15_outputItem 49 = .ok (.bipush 21, 2) := by decide +kernel
theorem dX15_outputItem_51 : decode cX15_outputItem 51 = .ok (.iconst 0, 1) := by decide +kernel
theorem dX15_outputItem_52 : decode cX15_outputItem 52 = .ok (.iconst 0, 1) := by decide +kernel
theorem dX15_outputItem_53 : decode cX15_outputItem 53 = .ok (.iload_n 1, 1) := by decide +kernel
theorem dX15_outputItem_54 : decode cX15_outputItem 54 = .ok (.invokevirtual 423, 3) := by decide +kernel
theorem dX15_outputItem_57 : decode cX15_outputItem 57 = .ok (.istore_n 2, 1) := by decide +kernel
theorem dX15_outputItem_58 : decode cX15_outputItem 58 = .ok (.return_, 1) := by decide +kernel
theorem dX15_assignment_0 : decode cX15_assignment 0 = .ok (.aload_n 0, 1) := by decide +kernel
theorem dX15_assignment_1 : decode cX15_assignment 1 = .ok (.invokevirtual 445, 3) := by decide +kernel
theorem dX15_assignment_4 : decode cX15_assignment 4 = .ok (.istore_n 2, 1) := by decide +kernel
theorem dX15_assignment_5 : decode cX15_assignment 5 = .ok (.aload_n 0, 1) := by decide +kernel
theorem dX15_assignment_6 : decode cX15_assignment 6 = .ok (.getfield 323, 3) := by decide +kernel
theorem dX15_assignment_9 : decode cX15_assignment 9 = .ok (.ifCond .le 4, 3) := by decide +kernel
theorem dX15_assignment_12 : decode cX15_assignment 12 = .ok (.return_, 1) := by decide +kernel
theorem dX15_assignment_13 : decode cX15_assignment 13 = .ok (.aload_n 0, 1) := by decide +kernel
theorem dX15_assignment_14 : decode cX15_assignment 14 = .ok (.bipush 20, 2) := by decide +kernel
theorem dX15_assignment_16 : decode cX15_assignment 16 = .ok (.iconst 0, 1) := by decide +kernel
theorem dX15_assignment_17 : decode cX15_assignment 17 = .ok (.iconst 0, 1) := by decide +kernel
theorem dX15_assignment_18 : decode cX15_assignment 18 = .ok (.iload_n 1, 1) := by decide +kernel
theorem dX15_assignment_19 : decode cX15_assignment 19 = .ok (.invokevirtual 423, 3) := by decide +kernel
theorem dX15_assignment_22 : decode cX15_assignment 22 = .ok (.istore_n 3, 1) := by decide +kernel
theorem dX15_assignment_23 : decode cX15_assignment 23 = .ok (.aload_n 0, 1) := by decide +kernel
theorem dX15_assignment_24 : decode cX15_assignment 24 = .ok (.invokevirtual 383, 3) := by decide +kernel
theorem dX15_assignment_27 : decode cX15_assignment 27 = .ok (.aload_n 0, 1) := by decide +kernel
theorem dX15_assignment_28 : decode cX15_assignment 28 = .ok (.bipush 91, 2) := by decide +kernel
theorem dX15_assignment_30 : decode cX15_assignment 30 = .ok (.invokevirtual 408, 3) := by decide +kernel
theorem dX15_assignment_33 : decode cX15_assignment 33 = .ok (.istore 4, 2) := by decide +kernel
theorem dX15_assignment_35 : decode cX15_assignment 35 = .ok (.aload_n 0, 1) := by decide +kernel
theorem dX15_assignment_36 : decode cX15_assignment 36 = .ok (.iload 4, 2) := by decide +kernel
theorem dX15_assignment_38 : decode cX15_assignment 38 = .ok (.ifCond .eq 8, 3) := by decide +kernel
theorem dX15_assignment_41 : decode cX15_assignment 41 = .ok (.bipush 33, 2) := by decide +kernel
theorem dX15_assignment_43 : decode cX15_assignment 43 = .ok (.goto 5, 3) := by decide +kernel
theorem dX15_assignment_46 : decode cX15_assignment 46 = .ok (.bipush 31, 2) := by decide +kernel
theorem dX15_assignment_48 : decode cX15_assignment 48 = .ok (.iload_n 2, 1) := by decide +kernel
theorem dX15_assignment_49 : decode cX15_assignment 49 = .ok (.iconst 0, 1) := by decide +kernel
theorem dX15_assignment_50 : decode cX15_assignment 50 = .ok (.iload_n 1, 1) := by decide +kernel
theorem dX15_assignment_51 : decode cX15_assignment 51 = .ok (.invokevirtual 423, 3) := by decide +kernel
theorem dX15_assignment_54 : decode cX15_assignment 54 = .ok (.istore_n 3, 1) := by decide +kernel
theorem dX15_assignment_55 : decode cX15_assignment 55 = .ok (.iload 4, 2) := by decide +kernel
theorem dX15_assignment_57 : decode cX15_assignment 57 = .ok (.ifCond .eq 58, 3) := by decide +kernel
theorem dX15_assignment_60 : decode cX15_assignment 60 = .ok (.aload_n 0, 1) := by decide +kernel
theorem dX15_assignment_61 : decode cX15_assignment 61 = .ok (.aload_n 0, 1) := by decide +kernel
theorem dX15_assignment_62 : decode cX15_assignment 62 = .ok (.getfield 326, 3) := by decide +kernel
theorem dX15_assignment_65 : decode cX15_assignment 65 = .ok (.invokevirtual 430, 3) := by decide +kernel
theorem dX15_assignment_68 : decode cX15_assignment 68 = .ok (.aload_n 0, 1) := by decide +kernel
theorem dX15_assignment_69 : decode cX15_assignment 69 = .ok (.dup, 1) := by decide +kernel
theorem dX15_assignment_70 : decode cX15_assignment 70 = .ok (.getfield 326, 3) := by decide +kernel
theorem dX15_assignment_73 : decode cX15_assignment 73 = .ok (.iconst 1, 1) := by decide +kernel
theorem dX15_assignment_74 : decode cX15_assignment 74 = .ok (.iadd, 1) := by decide +kernel
theorem dX15_assignment_75 : decode cX15_assignment 75 = .ok (.putfield 326, 3) := by decide +kernel
theorem dX15_assignment_78 : decode cX15_assignment 78 = .ok (.aload_n 0, 1) := by decide +kernel
theorem dX15_assignment_79 : decode cX15_assignment 79 = .ok (.invokevirtual 496, 3) := by decide +kernel
theorem dX15_assignment_82 : decode cX15_assignment 82 = .ok (.aload_n 0, 1) := by decide +kernel
theorem dX15_assignment_83 : decode cX15_assignment 83 = .ok (.getfield 323, 3) := by decide +kernel
theorem dX15_assignment_86 : decode cX15_assignment 86 = .ok (.ifCond .ne 29, 3) := by decide +kernel
theorem dX15_assignment_89 : decode cX15_assignment 89 = .ok (.aload_n 0, 1) := by decide +kernel
theorem dX15_assignment_90 : decode cX15_assignment 90 = .ok (.bipush 42, 2) := by decide +kernel
theorem dX15_assignment_92 : decode cX15_assignment 92 = .ok (.iload_n 2, 1) := by decide +kernel
theorem dX15_assignment_93 : decode cX15_assignment 93 = .ok (.iconst 0, 1) := by decide +kernel
theorem dX15_assignment_94 : decode cX15_assignment 94 = .ok (.iload_n 1, 1) := by decide +kernel
theorem dX15_assignment_95 : decode cX15_assignment 95 = .ok (.invokevirtual 423, 3) := by decide +kernel
theorem dX15_assignment_98 : decode cX15_assignment 98 = .ok (.istore_n 3, 1) := by decide +kernel
theorem dX15_assignment_99 : decode cX15_assignment 99 = .ok (.aload_n 0, 1) := by decide +kernel
theorem dX15_assignment_100 : decode cX15_assignment 100 = .ok (.bipush 93, 2) := by decide +kernel
theorem dX15_assignment_102 : decode cX15_assignment 102 = .ok (.invokevirtual 442, 3) := by decide +kernel
theorem dX15_assignment_105 : decode cX15_assignment 105 = .ok (.aload_n 0, 1) := by decide +kernel
theorem dX15_assignment_106 : decode cX15_assignment 106 = .ok (.dup, 1) := by decide +kernel
theorem dX15_assignment_107 : decode cX15_assignment 107 = .ok (.getfield 414, 3) := by decide +kernel
theorem dX15_assignment_110 : decode cX15_assignment 110 = .ok (.iconst 1, 1) := by decide +kernel
theorem dX15_assignment_111 : decode cX15_assignment 111 = .ok (.isub, 1) := by decide +kernel
theorem dX15_assignment_112 : decode cX15_assignment 112 = .ok (.putfield 414, 3) := by decide +kernel
theorem dX15_assignment_115 : decode cX15_assignment 115 = .ok (.aload_n 0, 1) := by decide +kernel
theorem dX15_assignment_116 : decode cX15_assignment 116 = .ok (.getfield 323, 3) := by decide +kernel
theorem dX15_assignment_119 : decode cX15_assignment 119 = .ok (.ifCond .ne 9, 3) := by decide +kernel
theorem dX15_assignment_122 : decode cX15_assignment 122 = .ok (.aload_n 0, 1) := by decide +kernel
theorem dX15_assignment_123 : decode cX15_assignment 123 = .ok (.bipush 61, 2) := by decide +kernel
theorem dX15_assignment_125 : decode cX15_assignment 125 = .ok (.invokevirtual 442, 3) := by decide +kernel
theorem dX15_assignment_128 : decode cX15_assignment 128 = .ok (.aload_n 0, 1) := by decide +kernel
theorem dX15_assignment_129 : decode cX15_assignment 129 = .ok (.getfield 323, 3) := by decide +kernel
theorem dX15_assignment_132 : decode cX15_assignment 132 = .ok (.ifCond .ne 7, 3) := by decide +kernel
theorem dX15_assignment_135 : decode cX15_assignment 135 = .ok (.aload_n 0, 1) := by decide +kernel
theorem dX15_assignment_136 : decode cX15_assignment 136 = .ok (.invokevirtual 496, 3) := by decide +kernel
theorem dX15_assignment_139 : decode cX15_assignment 139 = .ok (.aload_n 0, 1) := by decide +kernel
theorem dX15_assignment_140 : decode cX15_assignment 140 = .ok (.getfield 323, 3) := by decide +kernel
theorem dX15_assignment_143 : decode cX15_assignment 143 = .ok (.ifCond .ne 39, 3) := by decide +kernel
theorem dX15_assignment_146 : decode cX15_assignment 146 = .ok (.aload_n 0, 1) := by decide +kernel
theorem dX15_assignment_147 : decode cX15_assignment 147 = .ok (.iload 4, 2) := by decide +kernel
theorem dX15_assignment_149 : decode cX15_assignment 149 = .ok (.ifCond .eq 8, 3) := by decide +kernel
theorem dX15_assignment_152 : decode cX15_assignment 152 = .ok (.bipush 34, 2) := by decide +kernel
theorem dX15_assignment_154 : decode cX15_assignment 154 = .ok (.goto 5, 3) := by decide +kernel
theorem dX15_assignment_157 : decode cX15_assignment 157 = .ok (.bipush 32, 2) := by decide +kernel
theorem dX15_assignment_159 : decode cX15_assignment 159 = .ok (.iload_n 2, 1) := by decide +kernel
theorem dX15_assignment_160 : decode cX15_assignment 160 = .ok (.iconst 0, 1) := by decide +kernel
theorem dX15_assignment_161 : decode cX15_assignment 161 = .ok (.iload_n 1, 1) := by decide +kernel
theorem dX15_assignment_162 : decode cX15_assignment 162 = .ok (.invokevirtual 423, 3) := by decide +kernel
theorem dX15_assignment_165 : decode cX15_assignment 165 = .ok (.istore_n 3, 1) := by decide +kernel
theorem dX15_assignment_166 : decode cX15_assignment 166 = .ok (.aload_n 0, 1) := by decide +kernel
theorem dX15_assignment_167 : decode cX15_assignment 167 = .ok (.bipush 59, 2) := by decide +kernel
theorem dX15_assignment_169 : decode cX15_assignment 169 = .ok (.invokevirtual 442, 3) := by decide +kernel
theorem dX15_assignment_172 : decode cX15_assignment 172 = .ok (.aload_n 0, 1) := by decide +kernel
theorem dX15_assignment_173 : decode cX15_assignment 173 = .ok (.bipush 21, 2) := by decide +kernel
theorem dX15_assignment_175 : decode cX15_assignment 175 = .ok (.iconst 0, 1) := by decide +kernel
theorem dX15_assignment_176 : decode cX15_assignment 176 = .ok (.iconst 0, 1) := by decide +kernel
theorem dX15_assignment_177 : decode cX15_assignment 177 = .ok (.iload_n 1, 1) := by decide +kernel
theorem dX15_assignment_178 : decode cX15_assignment 178 = .ok (.invokevirtual 423, 3) := by decide +kernel
theorem dX15_assignment_181 : decode cX15_assignment 181 = .ok (.istore_n 3, 1) := by decide +kernel
theorem dX15_assignment_182 : decode cX15_assignment 182 = .ok (.return_, 1) := by decide +kernel
theorem dX15_sorts_0 : decode cX15_sorts 0 = .ok (.aload_n 0, 1) := by decide +kernel
theorem dX15_sorts_1 : decode cX15_sorts 1 = .ok (.iconst 0, 1) := by decide +kernel
theorem dX15_sorts_2 : decode cX15_sorts 2 = .ok (.putfield 534, 3) := by decide +kernel
theorem dX15_sorts_5 : decode cX15_sorts 5 = .ok (.aload_n 0, 1) := by decide +kernel
theorem dX15_sorts_6 : decode cX15_sorts 6 = .ok (.iconst 0, 1) := by decide +kernel
theorem dX15_sorts_7 : decode cX15_sorts 7 = .ok (.putfield 540, 3) := by decide +kernel
theorem dX15_sorts_10 : decode cX15_sorts 10 = .ok (.aload_n 0, 1) := by decide +kernel
theorem dX15_sorts_11 : decode cX15_sorts 11 = .ok (.iconst 0, 1) := by decide +kernel
theorem dX15_sorts_12 : decode cX15_sorts 12 = .ok (.putfield 546, 3) := by decide +kernel
theorem dX15_sorts_15 : decode cX15_sorts 15 = .ok (.aload_n 0, 1) := by decide +kernel
theorem dX15_sorts_16 : decode cX15_sorts 16 = .ok (.iconst 0, 1) := by decide +kernel
theorem dX15_sorts_17 : decode cX15_sorts 17 = .ok (.putfield 549, 3) := by decide +kernel
theorem dX15_sorts_20 : decode cX15_sorts 20 = .ok (.aload_n 0, 1) := by decide +kernel
theorem dX15_sorts_21 : decode cX15_sorts 21 = .ok (.iconst 0, 1) := by decide +kernel
theorem dX15_sorts_22 : decode cX15_sorts 22 = .ok (.putfield 552, 3) := by decide +kernel
theorem dX15_sorts_25 : decode cX15_sorts 25 = .ok (.aload_n 0, 1) := by decide +kernel
theorem dX15_sorts_26 : decode cX15_sorts 26 = .ok (.iconst 0, 1) := by decide +kernel
theorem dX15_sorts_27 : decode cX15_sorts 27 = .ok (.putfield 537, 3) := by decide +kernel
theorem dX15_sorts_30 : decode cX15_sorts 30 = .ok (.aload_n 0, 1) := by decide +kernel
theorem dX15_sorts_31 : decode cX15_sorts 31 = .ok (.iconst 0, 1) := by decide +kernel
theorem dX15_sorts_32 : decode cX15_sorts 32 = .ok (.putfield 555, 3) := by decide +kernel
theorem dX15_sorts_35 : decode cX15_sorts 35 = .ok (.iconst 0, 1) := by decide +kernel
theorem dX15_sorts_36 : decode cX15_sorts 36 = .ok (.istore_n 1, 1) := by decide +kernel
theorem dX15_sorts_37 : decode cX15_sorts 37 = .ok (.iload_n 1, 1) := by decide +kernel
theorem dX15_sorts_38 : decode cX15_sorts 38 = .ok (.aload_n 0, 1) := by decide +kernel
theorem dX15_sorts_39 : decode cX15_sorts 39 = .ok (.getfield 411, 3) := by decide +kernel
theorem dX15_sorts_42 : decode cX15_sorts 42 = .ok (.if_icmp .ge 40, 3) := by decide +kernel
theorem dX15_sorts_45 : decode cX15_sorts 45 = .ok (.aload_n 0, 1) := by decide +kernel
theorem dX15_sorts_46 : decode cX15_sorts 46 = .ok (.getfield 323, 3) := by decide +kernel
theorem dX15_sorts_49 : decode cX15_sorts 49 = .ok (.ifCond .ne 33, 3) := by decide +kernel
theorem dX15_sorts_52 : decode cX15_sorts 52 = .ok (.aload_n 0, 1) := by decide +kernel
theorem dX15_sorts_53 : decode cX15_sorts 53 = .ok (.getfield 22, 3) := by decide +kernel
theorem dX15_sorts_56 : decode cX15_sorts 56 = .ok (.iload_n 1, 1) := by decide +kernel
theorem dX15_sorts_57 : decode cX15_sorts 57 = .ok (.iaload, 1) := by decide +kernel
theorem dX15_sorts_58 : decode cX15_sorts 58 = .ok (.bipush 20, 2) := by decide +kernel
theorem dX15_sorts_60 : decode cX15_sorts 60 = .ok (.if_icmp .ge 11, 3) := by decide +kernel
theorem dX15_sorts_63 : decode cX15_sorts 63 = .ok (.aload_n 0, 1) := by decide +kernel
theorem dX15_sorts_64 : decode cX15_sorts 64 = .ok (.iload_n 1, 1) := by decide +kernel
theorem dX15_sorts_65 : decode cX15_sorts 65 = .ok (.invokevirtual 558, 3) := by decide +kernel
theorem dX15_sorts_68 : decode cX15_sorts 68 = .ok (.goto 8, 3) := by decide +kernel
theorem dX15_sorts_71 : decode cX15_sorts 71 = .ok (.aload_n 0, 1) := by decide +kernel
theorem dX15_sorts_72 : decode cX15_sorts 72 = .ok (.iload_n 1, 1) := by decide +kernel
theorem dX15_sorts_73 : decode cX15_sorts 73 = .ok (.invokevirtual 561, 3) := by decide +kernel
theorem dX15_sorts_76 : decode cX15_sorts 76 = .ok (.iinc 1 1, 3) := by decide +kernel
theorem dX15_sorts_79 : decode cX15_sorts 79 = .ok (.goto (-42), 3) := by decide +kernel
theorem dX15_sorts_82 : decode cX15_sorts 82 = .ok (.return_, 1) := by decide +kernel
theorem dX15_operandSort_0 : decode cX15_operandSort 0 = .ok (.aload_n 0, 1) := by decide +kernel
theorem dX15_operandSort_1 : decode cX15_operandSort 1 = .ok (.getfield 31, 3) := by decide +kernel
theorem dX15_operandSort_4 : decode cX15_operandSort 4 = .ok (.iload_n 1, 1) := by decide +kernel
theorem dX15_operandSort_5 : decode cX15_operandSort 5 = .ok (.iaload, 1) := by decide +kernel
theorem dX15_operandSort_6 : decode cX15_operandSort 6 = .ok (.istore_n 2, 1) := by decide +kernel
theorem dX15_operandSort_7 : decode cX15_operandSort 7 = .ok (.aload_n 0, 1) := by decide +kernel
theorem dX15_operandSort_8 : decode cX15_operandSort 8 = .ok (.getfield 22, 3) := by decide +kernel
theorem dX15_operandSort_11 : decode cX15_operandSort 11 = .ok (.iload_n 1, 1) := by decide +kernel
theorem dX15_operandSort_12 : decode cX15_operandSort 12 = .ok (.iaload, 1) := by decide +kernel
theorem dX15_operandSort_13 : decode cX15_operandSort 13 = .ok (.tableswitch 587 2 16 #[75, 85, 85, 95, 175, 206, 294, 454, 508, 540, 548, 556, 564, 572, 381], 75) := by decide +kernel
theorem dX15_operandSort_88 : decode cX15_operandSort 88 = .ok (.aload_n 0, 1) := by decide +kernel
theorem dX15_operandSort_89 : decode cX15_operandSort 89 = .ok (.iconst 0, 1) := by decide +kernel
theorem dX15_operandSort_90 : decode cX15_operandSort 90 = .ok (.iload_n 2, 1) := by decide +kernel
theorem dX15_operandSort_91 : decode cX15_operandSort 91 = .ok (.iconst 1, 1) := by decide +kernel
theorem dX15_operandSort_92 : decode cX15_operandSort 92 = .ok (.invokevirtual 564, 3) := by decide +kernel
theorem dX15_operandSort_95 : decode cX15_operandSort 95 = .ok (.goto 505, 3) := by decide +kernel
theorem dX15_operandSort_98 : decode cX15_operandSort 98 = .ok (.aload_n 0, 1) := by decide +kernel
theorem dX15_operandSort_99 : decode cX15_operandSort 99 = .ok (.iconst 1, 1) := by decide +kernel
theorem dX15_operandSort_100 : decode cX15_operandSort 100 = .ok (.iload_n 2, 1) := by decide +kernel
theorem dX15_operandSort_101 : decode cX15_operandSort 101 = .ok (.iconst 1, 1) := by decide +kernel
theorem dX15_operandSort_102 : decode cX15_operandSort 102 = .ok (.invokevirtual 564, 3) := by decide +kernel
theorem dX15_operandSort_105 : decode cX15_operandSort 105 = .ok (.goto 495, 3) := by decide +kernel
theorem dX15_operandSort_108 : decode cX15_operandSort 108 = .ok (.aload_n 0, 1) := by decide +kernel
theorem dX15_operandSort_109 : decode cX15_operandSort 109 = .ok (.iload_n 1, 1) := by decide +kernel
theorem dX15_operandSort_110 : decode cX15_operandSort 110 = .ok (.invokevirtual 568, 3) := by decide +kernel
theorem dX15_operandSort_113 : decode cX15_operandSort 113 = .ok (.istore_n 3, 1) := by decide +kernel
theorem dX15_operandSort_114 : decode cX15_operandSort 114 = .ok (.aload_n 0, 1) := by decide +kernel
theorem dX15_operandSort_115 : decode cX15_operandSort 115 = .ok (.getfield 323, 3) := by decide +kernel
theorem dX15_operandSort_118 : decode cX15_operandSort 118 = .ok (.ifCond .ne 28, 3) := by decide +kernel
theorem dX15_operandSort_121 : decode cX15_operandSort 121 = .ok (.aload_n 0, 1) := by decide +kernel
theorem dX15_operandSort_122 : decode cX15_operandSort 122 = .ok (.getfield 68, 3) := by decide +kernel
theorem dX15_operandSort_125 : decode cX15_operandSort 125 = .ok (.iload_n 3, 1) := by decide +kernel
theorem dX15_operandSort_126 : decode cX15_operandSort 126 = .ok (.iaload, 1) := by decide +kernel
theorem dX15_operandSort_127 : decode cX15_operandSort 127 = .ok (.ifCond .gt 13, 3) := by decide +kernel
theorem dX15_operandSort_130 : decode cX15_operandSort 130 = .ok (.aload_n 0, 1) := by decide +kernel
theorem dX15_operandSort_131 : decode cX15_operandSort 131 = .ok (.getfield 62, 3) := by decide +kernel
theorem dX15_operandSort_134 : decode cX15_operandSort 134 = .ok (.iload_n 3, 1) := by decide +kernel
theorem dX15_operandSort_135 : decode cX15_operandSort 135 = .ok (.iaload, 1) := by decide +kernel
theorem dX15_operandSort_136 : decode cX15_operandSort 136 = .ok (.iconst 5, 1) := by decide +kernel
theorem dX15_operandSort_137 : decode cX15_operandSort 137 = .ok (.if_icmp .ne 9, 3) := by decide +kernel
theorem dX15_operandSort_140 : decode cX15_operandSort 140 = .ok (.aload_n 0, 1) := by decide +kernel
theorem dX15_operandSort_141 : decode cX15_operandSort 141 = .ok (.iconst 5, 1) := by decide +kernel
theorem dX15_operandSort_142 : decode cX15_operandSort 142 = .ok (.iload_n 2, 1) := by decide +kernel
theorem dX15_operandSort_143 : decode cX15_operandSort 143 = .ok (.invokevirtual 390, 3) := by decide +kernel
theorem dX15_operandSort_146 : decode cX15_operandSort 146 = .ok (.aload_n 0, 1) := by decide +kernel
theorem dX15_operandSort_147 : decode cX15_operandSort 147 = .ok (.getfield 323, 3) := by decide +kernel
theorem dX15_operandSort_150 : decode cX15_operandSort 150 = .ok (.ifCond .ne 450, 3) := by decide +kernel
theorem dX15_operandSort_153 : decode cX15_operandSort 153 = .ok (.aload_n 0, 1) := by decide +kernel
theorem dX15_operandSort_154 : decode cX15_operandSort 154 = .ok (.iload_n 1, 1) := by decide +kernel
theorem dX15_operandSort_155 : decode cX15_operandSort 155 = .ok (.iload_n 3, 1) := by decide +kernel
theorem dX15_operandSort_156 : decode cX15_operandSort 156 = .ok (.invokevirtual 571, 3) := by decide +kernel
theorem dX15_operandSort_159 : decode cX15_operandSort 159 = .ok (.aload_n 0, 1) := by decide +kernel
theorem dX15_operandSort_160 : decode cX15_operandSort 160 = .ok (.aload_n 0, 1) := by decide +kernel
theorem dX15_operandSort_161 : decode cX15_operandSort 161 = .ok (.getfield 65, 3) := by decide +kernel
theorem dX15_operandSort_164 : decode cX15_operandSort 164 = .ok (.iload_n 3, 1) := by decide +kernel
theorem dX15_operandSort_165 : decode cX15_operandSort 165 = .ok (.iaload, 1) := by decide +kernel
theorem dX15_operandSort_166 : decode cX15_operandSort 166 = .ok (.iload_n 2, 1) := by decide +kernel
theorem dX15_operandSort_167 : decode cX15_operandSort 167 = .ok (.aload_n 0, 1) := by decide +kernel
theorem dX15_operandSort_168 : decode cX15_operandSort 168 = .ok (.getfield 62, 3) := by decide +kernel
theorem dX15_operandSort_171 : decode cX15_operandSort 171 = .ok (.iload_n 3, 1) := by decide +kernel
theorem dX15_operandSort_172 : decode cX15_operandSort 172 = .ok (.iaload, 1) := by decide +kernel
theorem dX15_operandSort_173 : decode cX15_operandSort 173 = .ok (.iconst 3, 1) := by decide +kernel
theorem dX15_operandSort_174 : decode cX15_operandSort 174 = .ok (.if_icmp .ne 7, 3) := by decide +kernel
theorem dX15_operandSort_177 : decode cX15_operandSort 177 = .ok (.iconst 1, 1) := by decide +kernel
theorem dX15_operandSort_178 : decode cX15_operandSort 178 = .ok (.goto 4, 3) := by decide +kernel
theorem dX15_operandSort_181 : decode cX15_operandSort 181 = .ok (.iconst 0, 1) := by decide +kernel
theorem dX15_operandSort_182 : decode cX15_operandSort 182 = .ok (.invokevirtual 564, 3) := by decide +kernel
theorem dX15_operandSort_185 : decode cX15_operandSort 185 = .ok (.goto 415, 3) := by decide +kernel
theorem dX15_operandSort_188 : decode cX15_operandSort 188 = .ok (.aload_n 0, 1) := by decide +kernel
theorem dX15_operandSort_189 : decode cX15_operandSort 189 = .ok (.iload_n 1, 1) := by decide +kernel
theorem dX15_operandSort_190 : decode cX15_operandSort 190 = .ok (.invokevirtual 568, 3) := by decide +kernel
theorem dX15_operandSort_193 : decode cX15_operandSort 193 = .ok (.istore_n 3, 1) := by decide +kernel
theorem dX15_operandSort_194 : decode cX15_operandSort 194 = .ok (.aload_n 0, 1) := by decide +kernel
theorem dX15_operandSort_195 : decode cX15_operandSort 195 = .ok (.getfield 323, 3) := by decide +kernel
theorem dX15_operandSort_198 : decode cX15_operandSort 198 = .ok (.ifCond .ne 402, 3) := by decide +kernel
theorem dX15_operandSort_201 : decode cX15_operandSort 201 = .ok (.aload_n 0, 1) := by decide +kernel
theorem dX15_operandSort_202 : decode cX15_operandSort 202 = .ok (.getfield 68, 3) := by decide +kernel
theorem dX15_operandSort_205 : decode cX15_operandSort 205 = .ok (.iload_n 3, 1) := by decide +kernel
theorem dX15_operandSort_206 : decode cX15_operandSort 206 = .ok (.iaload, 1) := by decide +kernel
theorem dX15_operandSort_207 : decode cX15_operandSort 207 = .ok (.ifCond .ne 393, 3) := by decide +kernel
theorem dX15_operandSort_210 : decode cX15_operandSort 210 = .ok (.aload_n 0, 1) := by decide +kernel
theorem dX15_operandSort_211 : decode cX15_operandSort 211 = .ok (.iconst 5, 1) := by decide +kernel
theorem dX15_operandSort_212 : decode cX15_operandSort 212 = .ok (.iload_n 2, 1) := by decide +kernel
theorem dX15_operandSort_213 : decode cX15_operandSort 213 = .ok (.invokevirtual 390, 3) := by decide +kernel
theorem dX15_operandSort_216 : decode cX15_operandSort 216 = .ok (.goto 384, 3) := by decide +kernel
theorem dX15_operandSort_219 : decode cX15_operandSort 219 = .ok (.aload_n 0, 1) := by decide +kernel
theorem dX15_operandSort_220 : decode cX15_operandSort 220 = .ok (.iconst 0, 1) := by decide +kernel
theorem dX15_operandSort_221 : decode cX15_operandSort 221 = .ok (.invokevirtual 574, 3) := by decide +kernel
theorem dX15_operandSort_224 : decode cX15_operandSort 224 = .ok (.aload_n 0, 1) := by decide +kernel
theorem dX15_operandSort_225 : decode cX15_operandSort 225 = .ok (.aload_n 0, 1) := by decide +kernel
theorem dX15_operandSort_226 : decode cX15_operandSort 226 = .ok (.getfield 25, 3) := by decide +kernel
theorem dX15_operandSort_229 : decode cX15_operandSort 229 = .ok (.iload_n 1, 1) := by decide +kernel
theorem dX15_operandSort_230 : decode cX15_operandSort 230 = .ok (.iaload, 1) := by decide +kernel
theorem dX15_operandSort_231 : decode cX15_operandSort 231 = .ok (.invokevirtual 543, 3) := by decide +kernel
theorem dX15_operandSort_234 : decode cX15_operandSort 234 = .ok (.istore_n 3, 1) := by decide +kernel
theorem dX15_operandSort_235 : decode cX15_operandSort 235 = .ok (.aload_n 0, 1) := by decide +kernel
theorem dX15_operandSort_236 : decode cX15_operandSort 236 = .ok (.getfield 323, 3) := by decide +kernel
theorem dX15_operandSort_239 : decode cX15_operandSort 239 = .ok (.ifCond .ne 361, 3) := by decide +kernel
theorem dX15_operandSort_242 : decode cX15_operandSort 242 = .ok (.aload_n 0, 1) := by decide +kernel
theorem dX15_operandSort_243 : decode cX15_operandSort 243 = .ok (.iload_n 1, 1) := by decide +kernel
theorem dX15_operandSort_244 : decode cX15_operandSort 244 = .ok (.iload_n 3, 1) := by decide +kernel
theorem dX15_operandSort_245 : decode cX15_operandSort 245 = .ok (.invokevirtual 571, 3) := by decide +kernel
theorem dX15_operandSort_248 : decode cX15_operandSort 248 = .ok (.aload_n 0, 1) := by decide +kernel
theorem dX15_operandSort_249 : decode cX15_operandSort 249 = .ok (.getfield 108, 3) := by decide +kernel
theorem dX15_operandSort_252 : decode cX15_operandSort 252 = .ok (.iload_n 1, 1) := by decide +kernel
theorem dX15_operandSort_253 : decode cX15_operandSort 253 = .ok (.aload_n 0, 1) := by decide +kernel
theorem dX15_operandSort_254 : decode cX15_operandSort 254 = .ok (.getfield 87, 3) := by decide +kernel
theorem dX15_operandSort_257 : decode cX15_operandSort 257 = .ok (.aload_n 0, 1) := by decide +kernel
theorem dX15_operandSort_258 : decode cX15_operandSort 258 = .ok (.getfield 540, 3) := by decide +kernel
theorem dX15_operandSort_261 : decode cX15_operandSort 261 = .ok (.iconst 1, 1) := by decide +kernel
theorem dX15_operandSort_262 : decode cX15_operandSort 262 = .ok (.isub, 1) := by decide +kernel
theorem dX15_operandSort_263 : decode cX15_operandSort 263 = .ok (.iaload, 1) := by decide +kernel
theorem dX15_operandSort_264 : decode cX15_operandSort 264 = .ok (.iastore, 1) := by decide +kernel
theorem dX15_operandSort_265 : decode cX15_operandSort 265 = .ok (.aload_n 0, 1) := by decide +kernel
theorem dX15_operandSort_266 : decode cX15_operandSort 266 = .ok (.getfield 111, 3) := by decide +kernel
theorem dX15_operandSort_269 : decode cX15_operandSort 269 = .ok (.iload_n 1, 1) := by decide +kernel
theorem dX15_operandSort_270 : decode cX15_operandSort 270 = .ok (.aload_n 0, 1) := by decide +kernel
theorem dX15_operandSort_271 : decode cX15_operandSort 271 = .ok (.getfield 90, 3) := by decide +kernel
theorem dX15_operandSort_274 : decode cX15_operandSort 274 = .ok (.aload_n 0, 1) := by decide +kernel
theorem dX15_operandSort_275 : decode cX15_operandSort 275 = .ok (.getfield 540, 3) := by decide +kernel
theorem dX15_operandSort_278 : decode cX15_operandSort 278 = .ok (.iconst 1, 1) := by decide +kernel
theorem dX15_operandSort_279 : decode cX15_operandSort 279 = .ok (.isub, 1) := by decide +kernel
theorem dX15_operandSort_280 : decode cX15_operandSort 280 = .ok (.baload, 1) := by decide +kernel
theorem dX15_operandSort_281 : decode cX15_operandSort 281 = .ok (.bastore, 1) := by decide +kernel
theorem dX15_operandSort_282 : decode cX15_operandSort 282 = .ok (.aload_n 0, 1) := by decide +kernel
theorem dX15_operandSort_283 : decode cX15_operandSort 283 = .ok (.dup, 1) := by decide +kernel
theorem dX15_operandSort_284 : decode cX15_operandSort 284 = .ok (.getfield 540, 3) := by decide +kernel
theorem dX15_operandSort_287 : decode cX15_operandSort 287 = .ok (.iconst 1, 1) := by decide +kernel
theorem dX15_operandSort_288 : decode cX15_operandSort 288 = .ok (.isub, 1) := by decide +kernel
theorem dX15_operandSort_289 : decode cX15_operandSort 289 = .ok (.putfield 540, 3) := by decide +kernel
theorem dX15_operandSort_292 : decode cX15_operandSort 292 = .ok (.aload_n 0, 1) := by decide +kernel
theorem dX15_operandSort_293 : decode cX15_operandSort 293 = .ok (.aload_n 0, 1) := by decide +kernel
theorem dX15_operandSort_294 : decode cX15_operandSort 294 = .ok (.getfield 65, 3) := by decide +kernel
theorem dX15_operandSort_297 : decode cX15_operandSort 297 = .ok (.iload_n 3, 1) := by decide +kernel
theorem dX15_operandSort_298 : decode cX15_operandSort 298 = .ok (.iaload, 1) := by decide +kernel
theorem dX15_operandSort_299 : decode cX15_operandSort 299 = .ok (.iload_n 2, 1) := by decide +kernel
theorem dX15_operandSort_300 : decode cX15_operandSort 300 = .ok (.iconst 0, 1) := by decide +kernel
theorem dX15_operandSort_301 : decode cX15_operandSort 301 = .ok (.invokevirtual 564, 3) := by decide +kernel
theorem dX15_operandSort_304 : decode cX15_operandSort 304 = .ok (.goto 296, 3) := by decide +kernel
theorem dX15_operandSort_307 : decode cX15_operandSort 307 = .ok (.aload_n 0, 1) := by decide +kernel
theorem dX15_operandSort_308 : decode cX15_operandSort 308 = .ok (.iload_n 1, 1) := by decide +kernel
theorem dX15_operandSort_309 : decode cX15_operandSort 309 = .ok (.invokevirtual 568, 3) := by decide +kernel
theorem dX15_operandSort_312 : decode cX15_operandSort 312 = .ok (.istore_n 3, 1) := by decide +kernel
theorem dX15_operandSort_313 : decode cX15_operandSort 313 = .ok (.aload_n 0, 1) := by decide +kernel
theorem dX15_operandSort_314 : decode cX15_operandSort 314 = .ok (.getfield 323, 3) := by decide +kernel
theorem dX15_operandSort_317 : decode cX15_operandSort 317 = .ok (.ifCond .ne 34, 3) := by decide +kernel
theorem dX15_operandSort_320 : decode cX15_operandSort 320 = .ok (.aload_n 0, 1) := by decide +kernel
theorem dX15_operandSort_321 : decode cX15_operandSort 321 = .ok (.getfield 62, 3) := by decide +kernel
theorem dX15_operandSort_324 : decode cX15_operandSort 324 = .ok (.iload_n 3, 1) := by decide +kernel
theorem dX15_operandSort_325 : decode cX15_operandSort 325 = .ok (.iaload, 1) := by decide +kernel
theorem dX15_operandSort_326 : decode cX15_operandSort 326 = .ok (.iconst 5, 1) := by decide +kernel
theorem dX15_operandSort_327 : decode cX15_operandSort 327 = .ok (.if_icmp .ne 18, 3) := by decide +kernel
theorem dX15_operandSort_330 : decode cX15_operandSort 330 = .ok (.aload_n 0, 1) := by decide +kernel
theorem dX15_operandSort_331 : decode cX15_operandSort 331 = .ok (.getfield 81, 3) := by decide +kernel
theorem dX15_operandSort_334 : decode cX15_operandSort 334 = .ok (.iload_n 3, 1) := by decide +kernel
theorem dX15_operandSort_335 : decode cX15_operandSort 335 = .ok (.iaload, 1) := by decide +kernel
theorem dX15_operandSort_336 : decode cX15_operandSort 336 = .ok (.aload_n 0, 1) := by decide +kernel
theorem dX15_operandSort_337 : decode cX15_operandSort 337 = .ok (.getfield 28, 3) := by decide +kernel
theorem dX15_operandSort_340 : decode cX15_operandSort 340 = .ok (.iload_n 1, 1) := by decide +kernel
theorem dX15_operandSort_341 : decode cX15_operandSort 341 = .ok (.iaload, 1) := by decide +kernel
theorem dX15_operandSort_342 : decode cX15_operandSort 342 = .ok (.if_icmp .eq 9, 3) := by decide +kernel
theorem dX15_operandSort_345 : decode cX15_operandSort 345 = .ok (.aload_n 0, 1) := by decide +kernel
theorem dX15_operandSort_346 : decode cX15_operandSort 346 = .ok (.iconst 5, 1) := by decide +kernel
theorem dX15_operandSort_347 : decode cX15_operandSort 347 = .ok (.iload_n 2, 1) := by decide +kernel
theorem dX15_operandSort_348 : decode cX15_operandSort 348 = .ok (.invokevirtual 390, 3) := by decide +kernel
theorem dX15_operandSort_351 : decode cX15_operandSort 351 = .ok (.aload_n 0, 1) := by decide +kernel
theorem dX15_operandSort_352 : decode cX15_operandSort 352 = .ok (.getfield 323, 3) := by decide +kernel
theorem dX15_operandSort_355 : decode cX15_operandSort 355 = .ok (.ifCond .ne 245, 3) := by decide +kernel
theorem dX15_operandSort_358 : decode cX15_operandSort 358 = .ok (.aload_n 0, 1) := by decide +kernel
theorem dX15_operandSort_359 : decode cX15_operandSort 359 = .ok (.getfield 114, 3) := by decide +kernel
theorem dX15_operandSort_362 : decode cX15_operandSort 362 = .ok (.aload_n 0, 1) := by decide +kernel
theorem dX15_operandSort_363 : decode cX15_operandSort 363 = .ok (.getfield 549, 3) := by decide +kernel
theorem dX15_operandSort_366 : decode cX15_operandSort 366 = .ok (.iload_n 3, 1) := by decide +kernel
theorem dX15_operandSort_367 : decode cX15_operandSort 367 = .ok (.iastore, 1) := by decide +kernel
theorem dX15_operandSort_368 : decode cX15_operandSort 368 = .ok (.aload_n 0, 1) := by decide +kernel
theorem dX15_operandSort_369 : decode cX15_operandSort 369 = .ok (.getfield 117, 3) := by decide +kernel
theorem dX15_operandSort_372 : decode cX15_operandSort 372 = .ok (.aload_n 0, 1) := by decide +kernel
theorem dX15_operandSort_373 : decode cX15_operandSort 373 = .ok (.getfield 549, 3) := by decide +kernel
theorem dX15_operandSort_376 : decode cX15_operandSort 376 = .ok (.aload_n 0, 1) := by decide +kernel
theorem dX15_operandSort_377 : decode cX15_operandSort 377 = .ok (.getfield 540, 3) := by decide +kernel
theorem dX15_operandSort_380 : decode cX15_operandSort 380 = .ok (.iastore, 1) := by decide +kernel
theorem dX15_operandSort_381 : decode cX15_operandSort 381 = .ok (.aload_n 0, 1) := by decide +kernel
theorem dX15_operandSort_382 : decode cX15_operandSort 382 = .ok (.dup, 1) := by decide +kernel
theorem dX15_operandSort_383 : decode cX15_operandSort 383 = .ok (.getfield 549, 3) := by decide +kernel
theorem dX15_operandSort_386 : decode cX15_operandSort 386 = .ok (.iconst 1, 1) := by decide +kernel
theorem dX15_operandSort_387 : decode cX15_operandSort 387 = .ok (.iadd, 1) := by decide +kernel
theorem dX15_operandSort_388 : decode cX15_operandSort 388 = .ok (.putfield 549, 3) := by decide +kernel
theorem dX15_operandSort_391 : decode cX15_operandSort 391 = .ok (.goto 209, 3) := by decide +kernel
theorem dX15_operandSort_394 : decode cX15_operandSort 394 = .ok (.aload_n 0, 1) := by decide +kernel
theorem dX15_operandSort_395 : decode cX15_operandSort 395 = .ok (.getfield 549, 3) := by decide +kernel
theorem dX15_operandSort_398 : decode cX15_operandSort 398 = .ok (.ifCond .le 12, 3) := by decide +kernel
theorem dX15_operandSort_401 : decode cX15_operandSort 401 = .ok (.aload_n 0, 1) := by decide +kernel
theorem dX15_operandSort_402 : decode cX15_operandSort 402 = .ok (.getfield 549, 3) := by decide +kernel
theorem dX15_operandSort_405 : decode cX15_operandSort 405 = .ok (.iconst 1, 1) := by decide +kernel
theorem dX15_operandSort_406 : decode cX15_operandSort 406 = .ok (.isub, 1) := by decide +kernel
theorem dX15_operandSort_407 : decode cX15_operandSort 407 = .ok (.goto 4, 3) := by decide +kernel
theorem dX15_operandSort_410 : decode cX15_operandSort 410 = .ok (.iconst 0, 1) := by decide +kernel
theorem dX15_operandSort_411 : decode cX15_operandSort 411 = .ok (.istore_n 3, 1) := by decide +kernel
theorem dX15_operandSort_412 : decode cX15_operandSort 412 = .ok (.aload_n 0, 1) := by decide +kernel
theorem dX15_operandSort_413 : decode cX15_operandSort 413 = .ok (.getfield 540, 3) := by decide +kernel
theorem dX15_operandSort_416 : decode cX15_operandSort 416 = .ok (.iconst 1, 1) := by decide +kernel
theorem dX15_operandSort_417 : decode cX15_operandSort 417 = .ok (.isub, 1) := by decide +kernel
theorem dX15_operandSort_418 : decode cX15_operandSort 418 = .ok (.aload_n 0, 1) := by decide +kernel
theorem dX15_operandSort_419 : decode cX15_operandSort 419 = .ok (.getfield 117, 3) := by decide +kernel
theorem dX15_operandSort_422 : decode cX15_operandSort 422 = .ok (.iload_n 3, 1) := by decide +kernel
theorem dX15_operandSort_423 : decode cX15_operandSort 423 = .ok (.iaload, 1) := by decide +kernel
theorem dX15_operandSort_424 : decode cX15_operandSort 424 = .ok (.isub, 1) := by decide +kernel
theorem dX15_operandSort_425 : decode cX15_operandSort 425 = .ok (.istore 4, 2) := by decide +kernel
theorem dX15_operandSort_427 : decode cX15_operandSort 427 = .ok (.aload_n 0, 1) := by decide +kernel
theorem dX15_operandSort_428 : decode cX15_operandSort 428 = .ok (.aload_n 0, 1) := by decide +kernel
theorem dX15_operandSort_429 : decode cX15_operandSort 429 = .ok (.getfield 25, 3) := by decide +kernel
theorem dX15_operandSort_432 : decode cX15_operandSort 432 = .ok (.iload_n 1, 1) := by decide +kernel
theorem dX15_operandSort_433 : decode cX15_operandSort 433 = .ok (.iaload, 1) := by decide +kernel
theorem dX15_operandSort_434 : decode cX15_operandSort 434 = .ok (.iconst (-1), 1) := by decide +kernel
theorem dX15_operandSort_435 : decode cX15_operandSort 435 = .ok (.if_icmp .ne 7, 3) := by decide +kernel
theorem dX15_operandSort_438 : decode cX15_operandSort 438 = .ok (.iconst 0, 1) := by decide +kernel
theorem dX15_operandSort_439 : decode cX15_operandSort 439 = .ok (.goto 22, 3) := by decide +kernel
theorem dX15_operandSort_442 : decode cX15_operandSort 442 = .ok (.aload_n 0, 1) := by decide +kernel
theorem dX15_operandSort_443 : decode cX15_operandSort 443 = .ok (.getfield 120, 3) := by decide +kernel
theorem dX15_operandSort_446 : decode cX15_operandSort 446 = .ok (.aload_n 0, 1) := by decide +kernel
theorem dX15_operandSort_447 : decode cX15_operandSort 447 = .ok (.getfield 78, 3) := by decide +kernel
theorem dX15_operandSort_450 : decode cX15_operandSort 450 = .ok (.aload_n 0, 1) := by decide +kernel
theorem dX15_operandSort_451 : decode cX15_operandSort 451 = .ok (.getfield 114, 3) := by decide +kernel
theorem dX15_operandSort_454 : decode cX15_operandSort 454 = .ok (.iload_n 3, 1) := by decide +kernel
theorem dX15_operandSort_455 : decode cX15_operandSort 455 = .ok (.iaload, 1) := by decide +kernel
theorem dX15_operandSort_456 : decode cX15_operandSort 456 = .ok (.iaload, 1) := by decide +kernel
theorem dX15_operandSort_457 : decode cX15_operandSort 457 = .ok (.iload 4, 2) := by decide +kernel
theorem dX15_operandSort_459 : decode cX15_operandSort 459 = .ok (.iadd, 1) := by decide +kernel
theorem dX15_operandSort_460 : decode cX15_operandSort 460 = .ok (.iaload, 1) := by decide +kernel
theorem dX15_operandSort_461 : decode cX15_operandSort 461 = .ok (.invokevirtual 574, 3) := by decide +kernel
theorem dX15_operandSort_464 : decode cX15_operandSort 464 = .ok (.goto 136, 3) := by decide +kernel
theorem dX15_operandSort_467 : decode cX15_operandSort 467 = .ok (.aload_n 0, 1) := by decide +kernel
theorem dX15_operandSort_468 : decode cX15_operandSort 468 = .ok (.dup, 1) := by decide +kernel
theorem dX15_operandSort_469 : decode cX15_operandSort 469 = .ok (.getfield 549, 3) := by decide +kernel
theorem dX15_operandSort_472 : decode cX15_operandSort 472 = .ok (.iconst 1, 1) := by decide +kernel
theorem dX15_operandSort_473 : decode cX15_operandSort 473 = .ok (.isub, 1) := by decide +kernel
theorem dX15_operandSort_474 : decode cX15_operandSort 474 = .ok (.putfield 549, 3) := by decide +kernel
theorem dX15_operandSort_477 : decode cX15_operandSort 477 = .ok (.aload_n 0, 1) := by decide +kernel
theorem dX15_operandSort_478 : decode cX15_operandSort 478 = .ok (.getfield 114, 3) := by decide +kernel
theorem dX15_operandSort_481 : decode cX15_operandSort 481 = .ok (.aload_n 0, 1) := by decide +kernel
theorem dX15_operandSort_482 : decode cX15_operandSort 482 = .ok (.getfield 549, 3) := by decide +kernel
theorem dX15_operandSort_485 : decode cX15_operandSort 485 = .ok (.iaload, 1) := by decide +kernel
theorem dX15_operandSort_486 : decode cX15_operandSort 486 = .ok (.istore_n 3, 1) := by decide +kernel
theorem dX15_operandSort_487 : decode cX15_operandSort 487 = .ok (.aload_n 0, 1) := by decide +kernel
theorem dX15_operandSort_488 : decode cX15_operandSort 488 = .ok (.iload_n 1, 1) := by decide +kernel
theorem dX15_operandSort_489 : decode cX15_operandSort 489 = .ok (.iload_n 3, 1) := by decide +kernel
theorem dX15_operandSort_490 : decode cX15_operandSort 490 = .ok (.invokevirtual 571, 3) := by decide +kernel
theorem dX15_operandSort_493 : decode cX15_operandSort 493 = .ok (.aload_n 0, 1) := by decide +kernel
theorem dX15_operandSort_494 : decode cX15_operandSort 494 = .ok (.aload_n 0, 1) := by decide +kernel
theorem dX15_operandSort_495 : decode cX15_operandSort 495 = .ok (.getfield 117, 3) := by decide +kernel
theorem dX15_operandSort_498 : decode cX15_operandSort 498 = .ok (.aload_n 0, 1) := by decide +kernel
theorem dX15_operandSort_499 : decode cX15_operandSort 499 = .ok (.getfield 549, 3) := by decide +kernel
theorem dX15_operandSort_502 : decode cX15_operandSort 502 = .ok (.iaload, 1) := by decide +kernel
theorem dX15_operandSort_503 : decode cX15_operandSort 503 = .ok (.putfield 540, 3) := by decide +kernel
theorem dX15_operandSort_506 : decode cX15_operandSort 506 = .ok (.aload_n 0, 1) := by decide +kernel
theorem dX15_operandSort_507 : decode cX15_operandSort 507 = .ok (.aload_n 0, 1) := by decide +kernel
theorem dX15_operandSort_508 : decode cX15_operandSort 508 = .ok (.getfield 65, 3) := by decide +kernel
theorem dX15_operandSort_511 : decode cX15_operandSort 511 = .ok (.iload_n 3, 1) := by decide +kernel
theorem dX15_operandSort_512 : decode cX15_operandSort 512 = .ok (.iaload, 1) := by decide +kernel
theorem dX15_operandSort_513 : decode cX15_operandSort 513 = .ok (.iload_n 2, 1) := by decide +kernel
theorem dX15_operandSort_514 : decode cX15_operandSort 514 = .ok (.iconst 0, 1) := by decide +kernel
theorem dX15_operandSort_515 : decode cX15_operandSort 515 = .ok (.invokevirtual 564, 3) := by decide +kernel
theorem dX15_operandSort_518 : decode cX15_operandSort 518 = .ok (.goto 82, 3) := by decide +kernel
theorem dX15_operandSort_521 : decode cX15_operandSort 521 = .ok (.aload_n 0, 1) := by decide +kernel
theorem dX15_operandSort_522 : decode cX15_operandSort 522 = .ok (.iconst 1, 1) := by decide +kernel
theorem dX15_operandSort_523 : decode cX15_operandSort 523 = .ok (.invokevirtual 574, 3) := by decide +kernel
theorem dX15_operandSort_526 : decode cX15_operandSort 526 = .ok (.aload_n 0, 1) := by decide +kernel
theorem dX15_operandSort_527 : decode cX15_operandSort 527 = .ok (.getfield 87, 3) := by decide +kernel
theorem dX15_operandSort_530 : decode cX15_operandSort 530 = .ok (.aload_n 0, 1) := by decide +kernel
theorem dX15_operandSort_531 : decode cX15_operandSort 531 = .ok (.getfield 540, 3) := by decide +kernel
theorem dX15_operandSort_534 : decode cX15_operandSort 534 = .ok (.iconst 1, 1) := by decide +kernel
theorem dX15_operandSort_535 : decode cX15_operandSort 535 = .ok (.isub, 1) := by decide +kernel
theorem dX15_operandSort_536 : decode cX15_operandSort 536 = .ok (.iload_n 2, 1) := by decide +kernel
theorem dX15_operandSort_537 : decode cX15_operandSort 537 = .ok (.iastore, 1) := by decide +kernel
theorem dX15_operandSort_538 : decode cX15_operandSort 538 = .ok (.aload_n 0, 1) := by decide +kernel
theorem dX15_operandSort_539 : decode cX15_operandSort 539 = .ok (.getfield 84, 3) := by decide +kernel
theorem dX15_operandSort_542 : decode cX15_operandSort 542 = .ok (.aload_n 0, 1) := by decide +kernel
theorem dX15_operandSort_543 : decode cX15_operandSort 543 = .ok (.getfield 540, 3) := by decide +kernel
theorem dX15_operandSort_546 : decode cX15_operandSort 546 = .ok (.iconst 1, 1) := by decide +kernel
theorem dX15_operandSort_547 : decode cX15_operandSort 547 = .ok (.isub, 1) := by decide +kernel
theorem dX15_operandSort_548 : decode cX15_operandSort 548 = .ok (.iconst 0, 1) := by decide +kernel
theorem dX15_operandSort_549 : decode cX15_operandSort 549 = .ok (.iastore, 1) := by decide +kernel
theorem dX15_operandSort_550 : decode cX15_operandSort 550 = .ok (.goto 50, 3) := by decide +kernel
theorem dX15_operandSort_553 : decode cX15_operandSort 553 = .ok (.aload_n 0, 1) := by decide +kernel
theorem dX15_operandSort_554 : decode cX15_operandSort 554 = .ok (.iload_n 1, 1) := by decide +kernel
theorem dX15_operandSort_555 : decode cX15_operandSort 555 = .ok (.invokevirtual 577, 3) := by decide +kernel
theorem dX15_operandSort_558 : decode cX15_operandSort 558 = .ok (.goto 42, 3) := by decide +kernel
theorem dX15_operandSort_561 : decode cX15_operandSort 561 = .ok (.aload_n 0, 1) := by decide +kernel
theorem dX15_operandSort_562 : decode cX15_operandSort 562 = .ok (.iload_n 1, 1) := by decide +kernel
theorem dX15_operandSort_563 : decode cX15_operandSort 563 = .ok (.invokevirtual 580, 3) := by decide +kernel
theorem dX15_operandSort_566 : decode cX15_operandSort 566 = .ok (.goto 34, 3) := by decide +kernel
theorem dX15_operandSort_569 : decode cX15_operandSort 569 = .ok (.aload_n 0, 1) := by decide +kernel
theorem dX15_operandSort_570 : decode cX15_operandSort 570 = .ok (.iload_n 1, 1) := by decide +kernel
theorem dX15_operandSort_571 : decode cX15_operandSort 571 = .ok (.invokevirtual 583, 3) := by decide +kernel
theorem dX15_operandSort_574 : decode cX15_operandSort 574 = .ok (.goto 26, 3) := by decide +kernel
theorem dX15_operandSort_577 : decode cX15_operandSort 577 = .ok (.aload_n 0, 1) := by decide +kernel
theorem dX15_operandSort_578 : decode cX15_operandSort 578 = .ok (.iload_n 1, 1) := by decide +kernel
theorem dX15_operandSort_579 : decode cX15_operandSort 579 = .ok (.invokevirtual 586, 3) := by decide +kernel
theorem dX15_operandSort_582 : decode cX15_operandSort 582 = .ok (.goto 18, 3) := by decide +kernel
theorem dX15_operandSort_585 : decode cX15_operandSort 585 = .ok (.aload_n 0, 1) := by decide +kernel
theorem dX15_operandSort_586 : decode cX15_operandSort 586 = .ok (.getfield 87, 3) := by decide +kernel
theorem dX15_operandSort_589 : decode cX15_operandSort 589 = .ok (.aload_n 0, 1) := by decide +kernel
theorem dX15_operandSort_590 : decode cX15_operandSort 590 = .ok (.getfield 540, 3) := by decide +kernel
theorem dX15_operandSort_593 : decode cX15_operandSort 593 = .ok (.iconst 1, 1) := by decide +kernel
theorem dX15_operandSort_594 : decode cX15_operandSort 594 = .ok (.isub, 1) := by decide +kernel
theorem dX15_operandSort_595 : decode cX15_operandSort 595 = .ok (.iload_n 2, 1) := by decide +kernel
theorem dX15_operandSort_596 : decode cX15_operandSort 596 = .ok (.iastore, 1) := by decide +kernel
theorem dX15_operandSort_597 : decode cX15_operandSort 597 = .ok (.goto 3, 3) := by decide +kernel
theorem dX15_operandSort_600 : decode cX15_operandSort 600 = .ok (.return_, 1) := by decide +kernel
theorem dX15_pile_0 : decode cX15_pile 0 = .ok (.aload_n 0, 1) := by decide +kernel
theorem dX15_pile_1 : decode cX15_pile 1 = .ok (.getfield 84, 3) := by decide +kernel
theorem dX15_pile_4 : decode cX15_pile 4 = .ok (.aload_n 0, 1) := by decide +kernel
theorem dX15_pile_5 : decode cX15_pile 5 = .ok (.getfield 540, 3) := by decide +kernel
theorem dX15_pile_8 : decode cX15_pile 8 = .ok (.iload_n 1, 1) := by decide +kernel
theorem dX15_pile_9 : decode cX15_pile 9 = .ok (.iastore, 1) := by decide +kernel
theorem dX15_pile_10 : decode cX15_pile 10 = .ok (.aload_n 0, 1) := by decide +kernel
theorem dX15_pile_11 : decode cX15_pile 11 = .ok (.getfield 87, 3) := by decide +kernel
theorem dX15_pile_14 : decode cX15_pile 14 = .ok (.aload_n 0, 1) := by decide +kernel
theorem dX15_pile_15 : decode cX15_pile 15 = .ok (.getfield 540, 3) := by decide +kernel
theorem dX15_pile_18 : decode cX15_pile 18 = .ok (.iload_n 2, 1) := by decide +kernel
theorem dX15_pile_19 : decode cX15_pile 19 = .ok (.iastore, 1) := by decide +kernel
theorem dX15_pile_20 : decode cX15_pile 20 = .ok (.aload_n 0, 1) := by decide +kernel
theorem dX15_pile_21 : decode cX15_pile 21 = .ok (.getfield 90, 3) := by decide +kernel
theorem dX15_pile_24 : decode cX15_pile 24 = .ok (.aload_n 0, 1) := by decide +kernel
theorem dX15_pile_25 : decode cX15_pile 25 = .ok (.getfield 540, 3) := by decide +kernel
theorem dX15_pile_28 : decode cX15_pile 28 = .ok (.iload_n 3, 1) := by decide +kernel
theorem dX15_pile_29 : decode cX15_pile 29 = .ok (.bastore, 1) := by decide +kernel
theorem dX15_pile_30 : decode cX15_pile 30 = .ok (.aload_n 0, 1) := by decide +kernel
theorem dX15_pile_31 : decode cX15_pile 31 = .ok (.dup, 1) := by decide +kernel
theorem dX15_pile_32 : decode cX15_pile 32 = .ok (.getfield 540, 3) := by decide +kernel
theorem dX15_pile_35 : decode cX15_pile 35 = .ok (.iconst 1, 1) := by decide +kernel
theorem dX15_pile_36 : decode cX15_pile 36 = .ok (.iadd, 1) := by decide +kernel
theorem dX15_pile_37 : decode cX15_pile 37 = .ok (.putfield 540, 3) := by decide +kernel
theorem dX15_pile_40 : decode cX15_pile 40 = .ok (.return_, 1) := by decide +kernel
theorem dX15_used_0 : decode cX15_used 0 = .ok (.aload_n 0, 1) := by decide +kernel
theorem dX15_used_1 : decode cX15_used 1 = .ok (.aload_n 0, 1) := by decide +kernel
theorem dX15_used_2 : decode cX15_used 2 = .ok (.getfield 25, 3) := by decide +kernel
theorem dX15_used_5 : decode cX15_used 5 = .ok (.iload_n 1, 1) := by decide +kernel
theorem dX15_used_6 : decode cX15_used 6 = .ok (.iaload, 1) := by decide +kernel
theorem dX15_used_7 : decode cX15_used 7 = .ok (.invokevirtual 543, 3) := by decide +kernel
theorem dX15_used_10 : decode cX15_used 10 = .ok (.istore_n 2, 1) := by decide +kernel
theorem dX15_used_11 : decode cX15_used 11 = .ok (.iload_n 2, 1) := by decide +kernel
theorem dX15_used_12 : decode cX15_used 12 = .ok (.iconst (-1), 1) := by decide +kernel
theorem dX15_used_13 : decode cX15_used 13 = .ok (.if_icmp .ne 14, 3) := by decide +kernel
theorem dX15_used_16 : decode cX15_used 16 = .ok (.aload_n 0, 1) := by decide +kernel
theorem dX15_used_17 : decode cX15_used 17 = .ok (.iconst 4, 1) := by decide +kernel
theorem dX15_used_18 : decode cX15_used 18 = .ok (.aload_n 0, 1) := by decide +kernel
theorem dX15_used_19 : decode cX15_used 19 = .ok (.getfield 31, 3) := by decide +kernel
theorem dX15_used_22 : decode cX15_used 22 = .ok (.iload_n 1, 1) := by decide +kernel
theorem dX15_used_23 : decode cX15_used 23 = .ok (.iaload, 1) := by decide +kernel
theorem dX15_used_24 : decode cX15_used 24 = .ok (.invokevirtual 390, 3) := by decide +kernel
theorem dX15_used_27 : decode cX15_used 27 = .ok (.iload_n 2, 1) := by decide +kernel
theorem dX15_used_28 : decode cX15_used 28 = .ok (.ireturn, 1) := by decide +kernel
theorem dX15_visible_0 : decode cX15_visible 0 = .ok (.iconst (-1), 1) := by decide +kernel
theorem dX15_visible_1 : decode cX15_visible 1 = .ok (.istore_n 2, 1) := by decide +kernel
theorem dX15_visible_2 : decode cX15_visible 2 = .ok (.iconst 0, 1) := by decide +kernel
theorem dX15_visible_3 : decode cX15_visible 3 = .ok (.istore_n 3, 1) := by decide +kernel
theorem dX15_visible_4 : decode cX15_visible 4 = .ok (.iload_n 3, 1) := by decide +kernel
theorem dX15_visible_5 : decode cX15_visible 5 = .ok (.aload_n 0, 1) := by decide +kernel
theorem dX15_visible_6 : decode cX15_visible 6 = .ok (.getfield 534, 3) := by decide +kernel
theorem dX15_visible_9 : decode cX15_visible 9 = .ok (.if_icmp .ge 73, 3) := by decide +kernel
theorem dX15_visible_12 : decode cX15_visible 12 = .ok (.aload_n 0, 1) := by decide +kernel
theorem dX15_visible_13 : decode cX15_visible 13 = .ok (.getfield 74, 3) := by decide +kernel
theorem dX15_visible_16 : decode cX15_visible 16 = .ok (.iload_n 3, 1) := by decide +kernel
theorem dX15_visible_17 : decode cX15_visible 17 = .ok (.baload, 1) := by decide +kernel
theorem dX15_visible_18 : decode cX15_visible 18 = .ok (.ifCond .eq 44, 3) := by decide +kernel
theorem dX15_visible_21 : decode cX15_visible 21 = .ok (.aload_n 0, 1) := by decide +kernel
theorem dX15_visible_22 : decode cX15_visible 22 = .ok (.getfield 59, 3) := by decide +kernel
theorem dX15_visible_25 : decode cX15_visible 25 = .ok (.iload_n 3, 1) := by decide +kernel
theorem dX15_visible_26 : decode cX15_visible 26 = .ok (.iaload, 1) := by decide +kernel
theorem dX15_visible_27 : decode cX15_visible 27 = .ok (.iload_n 1, 1) := by decide +kernel
theorem dX15_visible_28 : decode cX15_visible 28 = .ok (.if_icmp .ne 34, 3) := by decide +kernel
theorem dX15_visible_31 : decode cX15_visible 31 = .ok (.aload_n 0, 1) := by decide +kernel
theorem dX15_visible_32 : decode cX15_visible 32 = .ok (.getfield 537, 3) := by decide +kernel
theorem dX15_visible_35 : decode cX15_visible 35 = .ok (.ifCond .eq 23, 3) := by decide +kernel
theorem dX15_visible_38 : decode cX15_visible 38 = .ok (.aload_n 0, 1) := by decide +kernel
theorem dX15_visible_39 : decode cX15_visible 39 = .ok (.getfield 62, 3) := by decide +kernel
theorem dX15_visible_42 : decode cX15_visible 42 = .ok (.iload_n 3, 1) := by decide +kernel
theorem dX15_visible_43 : decode cX15_visible 43 = .ok (.iaload, 1) := by decide +kernel
theorem dX15_visible_44 : decode cX15_visible 44 = .ok (.iconst 5, 1) := by decide +kernel
theorem dX15_visible_45 : decode cX15_visible 45 = .ok (.if_icmp .eq 13, 3) := by decide +kernel
theorem dX15_visible_48 : decode cX15_visible 48 = .ok (.aload_n 0, 1) := by decide +kernel
theorem dX15_visible_49 : decode cX15_visible 49 = .ok (.getfield 62, 3) := by decide +kernel
theorem dX15_visible_52 : decode cX15_visible 52 = .ok (.iload_n 3, 1) := by decide +kernel
theorem dX15_visible_53 : decode cX15_visible 53 = .ok (.iaload, 1) := by decide +kernel
theorem dX15_visible_54 : decode cX15_visible 54 = .ok (.iconst 4, 1) := by decide +kernel
theorem dX15_visible_55 : decode cX15_visible 55 = .ok (.if_icmp .ne 7, 3) := by decide +kernel
theorem dX15_visible_58 : decode cX15_visible 58 = .ok (.iconst 1, 1) := by decide +kernel
theorem dX15_visible_59 : decode cX15_visible 59 = .ok (.goto 4, 3) := by decide +kernel
theorem dX15_visible_62 : decode cX15_visible 62 = .ok (.iconst 0, 1) := by decide +kernel
theorem dX15_visible_63 : decode cX15_visible 63 = .ok (.istore 4, 2) := by decide +kernel
theorem dX15_visible_65 : decode cX15_visible 65 = .ok (.iload 4, 2) := by decide +kernel
theorem dX15_visible_67 : decode cX15_visible 67 = .ok (.ifCond .eq 7, 3) := by decide +kernel
theorem dX15_visible_70 : decode cX15_visible 70 = .ok (.iload_n 3, 1) := by decide +kernel
theorem dX15_visible_71 : decode cX15_visible 71 = .ok (.goto 4, 3) := by decide +kernel
theorem dX15_visible_74 : decode cX15_visible 74 = .ok (.iload_n 2, 1) := by decide +kernel
theorem dX15_visible_75 : decode cX15_visible 75 = .ok (.istore_n 2, 1) := by decide +kernel
theorem dX15_visible_76 : decode cX15_visible 76 = .ok (.iinc 3 1, 3) := by decide +kernel
theorem dX15_visible_79 : decode cX15_visible 79 = .ok (.goto (-75), 3) := by decide +kernel
theorem dX15_visible_82 : decode cX15_visible 82 = .ok (.iload_n 2, 1) := by decide +kernel
theorem dX15_visible_83 : decode cX15_visible 83 = .ok (.ireturn, 1) := by decide +kernel
theorem dX15_refer_0 : decode cX15_refer 0 = .ok (.aload_n 0, 1) := by decide +kernel
theorem dX15_refer_1 : decode cX15_refer 1 = .ok (.getfield 96, 3) := by decide +kernel
theorem dX15_refer_4 : decode cX15_refer 4 = .ok (.iload_n 1, 1) := by decide +kernel
theorem dX15_refer_5 : decode cX15_refer 5 = .ok (.aload_n 0, 1) := by decide +kernel
theorem dX15_refer_6 : decode cX15_refer 6 = .ok (.getfield 62, 3) := by decide +kernel
theorem dX15_refer_9 : decode cX15_refer 9 = .ok (.iload_n 2, 1) := by decide +kernel
theorem dX15_refer_10 : decode cX15_refer 10 = .ok (.iaload, 1) := by decide +kernel
theorem dX15_refer_11 : decode cX15_refer 11 = .ok (.iastore, 1) := by decide +kernel
theorem dX15_refer_12 : decode cX15_refer 12 = .ok (.aload_n 0, 1) := by decide +kernel
theorem dX15_refer_13 : decode cX15_refer 13 = .ok (.getfield 99, 3) := by decide +kernel
theorem dX15_refer_16 : decode cX15_refer 16 = .ok (.iload_n 1, 1) := by decide +kernel
theorem dX15_refer_17 : decode cX15_refer 17 = .ok (.aload_n 0, 1) := by decide +kernel
theorem dX15_refer_18 : decode cX15_refer 18 = .ok (.getfield 71, 3) := by decide +kernel
theorem dX15_refer_21 : decode cX15_refer 21 = .ok (.iload_n 2, 1) := by decide +kernel
theorem dX15_refer_22 : decode cX15_refer 22 = .ok (.iaload, 1) := by decide +kernel
theorem dX15_refer_23 : decode cX15_refer 23 = .ok (.iastore, 1) := by decide +kernel
theorem dX15_refer_24 : decode cX15_refer 24 = .ok (.aload_n 0, 1) := by decide +kernel
theorem dX15_refer_25 : decode cX15_refer 25 = .ok (.getfield 102, 3) := by decide +kernel
theorem dX15_refer_28 : decode cX15_refer 28 = .ok (.iload_n 1, 1) := by decide +kernel
theorem dX15_refer_29 : decode cX15_refer 29 = .ok (.aload_n 0, 1) := by decide +kernel
theorem dX15_refer_30 : decode cX15_refer 30 = .ok (.getfield 68, 3) := by decide +kernel
theorem dX15_refer_33 : decode cX15_refer 33 = .ok (.iload_n 2, 1) := by decide +kernel
theorem dX15_refer_34 : decode cX15_refer 34 = .ok (.iaload, 1) := by decide +kernel
theorem dX15_refer_35 : decode cX15_refer 35 = .ok (.iastore, 1) := by decide +kernel
theorem dX15_refer_36 : decode cX15_refer 36 = .ok (.aload_n 0, 1) := by decide +kernel
theorem dX15_refer_37 : decode cX15_refer 37 = .ok (.getfield 105, 3) := by decide +kernel
theorem dX15_refer_40 : decode cX15_refer 40 = .ok (.iload_n 1, 1) := by decide +kernel
theorem dX15_refer_41 : decode cX15_refer 41 = .ok (.aload_n 0, 1) := by decide +kernel
theorem dX15_refer_42 : decode cX15_refer 42 = .ok (.getfield 65, 3) := by decide +kernel
theorem dX15_refer_45 : decode cX15_refer 45 = .ok (.iload_n 2, 1) := by decide +kernel
theorem dX15_refer_46 : decode cX15_refer 46 = .ok (.iaload, 1) := by decide +kernel
theorem dX15_refer_47 : decode cX15_refer 47 = .ok (.iastore, 1) := by decide +kernel
theorem dX15_refer_48 : decode cX15_refer 48 = .ok (.return_, 1) := by decide +kernel
theorem dX15_must_0 : decode cX15_must 0 = .ok (.aload_n 0, 1) := by decide +kernel
theorem dX15_must_1 : decode cX15_must 1 = .ok (.getfield 323, 3) := by decide +kernel
theorem dX15_must_4 : decode cX15_must 4 = .ok (.ifCond .ne 34, 3) := by decide +kernel
theorem dX15_must_7 : decode cX15_must 7 = .ok (.aload_n 0, 1) := by decide +kernel
theorem dX15_must_8 : decode cX15_must 8 = .ok (.getfield 84, 3) := by decide +kernel
theorem dX15_must_11 : decode cX15_must 11 = .ok (.aload_n 0, 1) := by decide +kernel
theorem dX15_must_12 : decode cX15_must 12 = .ok (.getfield 540, 3) := by decide +kernel
theorem dX15_must_15 : decode cX15_must 15 = .ok (.iconst 1, 1) := by decide +kernel
theorem dX15_must_16 : decode cX15_must 16 = .ok (.isub, 1) := by decide +kernel
theorem dX15_must_17 : decode cX15_must 17 = .ok (.iaload, 1) := by decide +kernel
theorem dX15_must_18 : decode cX15_must 18 = .ok (.iload_n 1, 1) := by decide +kernel
theorem dX15_must_19 : decode cX15_must 19 = .ok (.if_icmp .eq 19, 3) := by decide +kernel
theorem dX15_must_22 : decode cX15_must 22 = .ok (.aload_n 0, 1) := by decide +kernel
theorem dX15_must_23 : decode cX15_must 23 = .ok (.iconst 5, 1) := by decide +kernel
theorem dX15_must_24 : decode cX15_must 24 = .ok (.aload_n 0, 1) := by decide +kernel
theorem dX15_must_25 : decode cX15_must 25 = .ok (.getfield 87, 3) := by decide +kernel
theorem dX15_must_28 : decode cX15_must 28 = .ok (.aload_n 0, 1) := by decide +kernel
theorem dX15_must_29 : decode cX15_must 29 = .ok (.getfield 540, 3) := by decide +kernel
theorem dX15_must_32 : decode cX15_must 32 = .ok (.iconst 1, 1) := by decide +kernel
theorem dX15_must_33 : decode cX15_must 33 = .ok (.isub, 1) := by decide +kernel
theorem dX15_must_34 : decode cX15_must 34 = .ok (.iaload, 1) := by decide +kernel
theorem dX15_must_35 : decode cX15_must 35 = .ok (.invokevirtual 390, 3) := by decide +kernel
theorem dX15_must_38 : decode cX15_must 38 = .ok (.return_, 1) := by decide +kernel
theorem dX15_bitSort_0 : decode cX15_bitSort 0 = .ok (.aload_n 0, 1) := by decide +kernel
theorem dX15_bitSort_1 : decode cX15_bitSort 1 = .ok (.iconst 0, 1) := by decide +kernel
theorem dX15_bitSort_2 : decode cX15_bitSort 2 = .ok (.invokevirtual 574, 3) := by decide +kernel
theorem dX15_bitSort_5 : decode cX15_bitSort 5 = .ok (.aload_n 0, 1) := by decide +kernel
theorem dX15_bitSort_6 : decode cX15_bitSort 6 = .ok (.invokevirtual 589, 3) := by decide +kernel
theorem dX15_bitSort_9 : decode cX15_bitSort 9 = .ok (.aload_n 0, 1) := by decide +kernel
theorem dX15_bitSort_10 : decode cX15_bitSort 10 = .ok (.getfield 323, 3) := by decide +kernel
theorem dX15_bitSort_13 : decode cX15_bitSort 13 = .ok (.ifCond .le 4, 3) := by decide +kernel
theorem dX15_bitSort_16 : decode cX15_bitSort 16 = .ok (.return_, 1) := by decide +kernel
theorem dX15_bitSort_17 : decode cX15_bitSort 17 = .ok (.aload_n 0, 1) := by decide +kernel
theorem dX15_bitSort_18 : decode cX15_bitSort 18 = .ok (.getfield 108, 3) := by decide +kernel
theorem dX15_bitSort_21 : decode cX15_bitSort 21 = .ok (.iload_n 1, 1) := by decide +kernel
theorem dX15_bitSort_22 : decode cX15_bitSort 22 = .ok (.aload_n 0, 1) := by decide +kernel
theorem dX15_bitSort_23 : decode cX15_bitSort 23 = .ok (.getfield 87, 3) := by decide +kernel
theorem dX15_bitSort_26 : decode cX15_bitSort 26 = .ok (.aload_n 0, 1) := by decide +kernel
theorem dX15_bitSort_27 : decode cX15_bitSort 27 = .ok (.getfield 540, 3) := by decide +kernel
theorem dX15_bitSort_30 : decode cX15_bitSort 30 = .ok (.iconst 1, 1) := by decide +kernel
theorem dX15_bitSort_31 : decode cX15_bitSort 31 = .ok (.isub, 1) := by decide +kernel
theorem dX15_bitSort_32 : decode cX15_bitSort 32 = .ok (.iaload, 1) := by decide +kernel
theorem dX15_bitSort_33 : decode cX15_bitSort 33 = .ok (.iastore, 1) := by decide +kernel
theorem dX15_bitSort_34 : decode cX15_bitSort 34 = .ok (.aload_n 0, 1) := by decide +kernel
theorem dX15_bitSort_35 : decode cX15_bitSort 35 = .ok (.dup, 1) := by decide +kernel
theorem dX15_bitSort_36 : decode cX15_bitSort 36 = .ok (.getfield 540, 3) := by decide +kernel
theorem dX15_bitSort_39 : decode cX15_bitSort 39 = .ok (.iconst 1, 1) := by decide +kernel
theorem dX15_bitSort_40 : decode cX15_bitSort 40 = .ok (.isub, 1) := by decide +kernel
theorem dX15_bitSort_41 : decode cX15_bitSort 41 = .ok (.putfield 540, 3) := by decide +kernel
theorem dX15_bitSort_44 : decode cX15_bitSort 44 = .ok (.aload_n 0, 1) := by decide +kernel
theorem dX15_bitSort_45 : decode cX15_bitSort 45 = .ok (.getfield 84, 3) := by decide +kernel
theorem dX15_bitSort_48 : decode cX15_bitSort 48 = .ok (.aload_n 0, 1) := by decide +kernel
theorem dX15_bitSort_49 : decode cX15_bitSort 49 = .ok (.getfield 540, 3) := by decide +kernel
theorem dX15_bitSort_52 : decode cX15_bitSort 52 = .ok (.iconst 1, 1) := by decide +kernel
theorem dX15_bitSort_53 : decode cX15_bitSort 53 = .ok (.isub, 1) := by decide +kernel
theorem dX15_bitSort_54 : decode cX15_bitSort 54 = .ok (.iconst 1, 1) := by decide +kernel
theorem dX15_bitSort_55 : decode cX15_bitSort 55 = .ok (.iastore, 1) := by decide +kernel
theorem dX15_bitSort_56 : decode cX15_bitSort 56 = .ok (.aload_n 0, 1) := by decide +kernel
theorem dX15_bitSort_57 : decode cX15_bitSort 57 = .ok (.getfield 87, 3) := by decide +kernel
theorem dX15_bitSort_60 : decode cX15_bitSort 60 = .ok (.aload_n 0, 1) := by decide +kernel
theorem dX15_bitSort_61 : decode cX15_bitSort 61 = .ok (.getfield 540, 3) := by decide +kernel
theorem dX15_bitSort_64 : decode cX15_bitSort 64 = .ok (.iconst 1, 1) := by decide +kernel
theorem dX15_bitSort_65 : decode cX15_bitSort 65 = .ok (.isub, 1) := by decide +kernel
theorem dX15_bitSort_66 : decode cX15_bitSort 66 = .ok (.aload_n 0, 1) := by decide +kernel
theorem dX15_bitSort_67 : decode cX15_bitSort 67 = .ok (.getfield 31, 3) := by decide +kernel
theorem dX15_bitSort_70 : decode cX15_bitSort 70 = .ok (.iload_n 1, 1) := by decide +kernel
theorem dX15_bitSort_71 : decode cX15_bitSort 71 = .ok (.iaload, 1) := by decide +kernel
theorem dX15_bitSort_72 : decode cX15_bitSort 72 = .ok (.iastore, 1) := by decide +kernel
theorem dX15_bitSort_73 : decode cX15_bitSort 73 = .ok (.return_, 1) := by decide +kernel
theorem dX15_mustPublic_0 : decode cX15_mustPublic 0 = .ok (.aload_n 0, 1) := by decide +kernel
theorem dX15_mustPublic_1 : decode cX15_mustPublic 1 = .ok (.getfield 323, 3) := by decide +kernel
theorem dX15_mustPublic_4 : decode cX15_mustPublic 4 = .ok (.ifCond .ne 34, 3) := by decide +kernel
theorem dX15_mustPublic_7 : decode cX15_mustPublic 7 = .ok (.aload_n 0, 1) := by decide +kernel
theorem dX15_mustPublic_8 : decode cX15_mustPublic 8 = .ok (.getfield 90, 3) := by decide +kernel
theorem dX15_mustPublic_11 : decode cX15_mustPublic 11 = .ok (.aload_n 0, 1) := by decide +kernel
theorem dX15_mustPublic_12 : decode cX15_mustPublic 12 = .ok (.getfield 540, 3) := by decide +kernel
theorem dX15_mustPublic_15 : decode cX15_mustPublic 15 = .ok (.iconst 1, 1) := by decide +kernel
theorem dX15_mustPublic_16 : decode cX15_mustPublic 16 = .ok (.isub, 1) := by decide +kernel
theorem dX15_mustPublic_17 : decode cX15_mustPublic 17 = .ok (.baload, 1) := by decide +kernel
theorem dX15_mustPublic_18 : decode cX15_mustPublic 18 = .ok (.ifCond .ne 20, 3) := by decide +kernel
theorem dX15_mustPublic_21 : decode cX15_mustPublic 21 = .ok (.aload_n 0, 1) := by decide +kernel
theorem dX15_mustPublic_22 : decode cX15_mustPublic 22 = .ok (.bipush 6, 2) := by decide +kernel
theorem dX15_mustPublic_24 : decode cX15_mustPublic 24 = .ok (.aload_n 0, 1) := by decide +kernel
theorem dX15_mustPublic_25 : decode cX15_mustPublic 25 = .ok (.getfield 87, 3) := by decide +kernel
theorem dX15_mustPublic_28 : decode cX15_mustPublic 28 = .ok (.aload_n 0, 1) := by decide +kernel
theorem dX15_mustPublic_29 : decode cX15_mustPublic 29 = .ok (.getfield 540, 3) := by decide +kernel
theorem dX15_mustPublic_32 : decode cX15_mustPublic 32 = .ok (.iconst 1, 1) := by decide +kernel
theorem dX15_mustPublic_33 : decode cX15_mustPublic 33 = .ok (.isub, 1) := by decide +kernel
theorem dX15_mustPublic_34 : decode cX15_mustPublic 34 = .ok (.iaload, 1) := by decide +kernel
theorem dX15_mustPublic_35 : decode cX15_mustPublic 35 = .ok (.invokevirtual 390, 3) := by decide +kernel
theorem dX15_mustPublic_38 : decode cX15_mustPublic 38 = .ok (.return_, 1) := by decide +kernel
theorem dX15_unarySort_0 : decode cX15_unarySort 0 = .ok (.aload_n 0, 1) := by decide +kernel
theorem dX15_unarySort_1 : decode cX15_unarySort 1 = .ok (.getfield 25, 3) := by decide +kernel
theorem dX15_unarySort_4 : decode cX15_unarySort 4 = .ok (.iload_n 1, 1) := by decide +kernel
theorem dX15_unarySort_5 : decode cX15_unarySort 5 = .ok (.iaload, 1) := by decide +kernel
theorem dX15_unarySort_6 : decode cX15_unarySort 6 = .ok (.bipush 33, 2) := by decide +kernel
theorem dX15_unarySort_8 : decode cX15_unarySort 8 = .ok (.if_icmp .ne 7, 3) := by decide +kernel
theorem dX15_unarySort_11 : decode cX15_unarySort 11 = .ok (.iconst 1, 1) := by decide +kernel
theorem dX15_unarySort_12 : decode cX15_unarySort 12 = .ok (.goto 4, 3) := by decide +kernel
theorem dX15_unarySort_15 : decode cX15_unarySort 15 = .ok (.iconst 0, 1) := by decide +kernel
theorem dX15_unarySort_16 : decode cX15_unarySort 16 = .ok (.istore_n 2, 1) := by decide +kernel
theorem dX15_unarySort_17 : decode cX15_unarySort 17 = .ok (.aload_n 0, 1) := by decide +kernel
theorem dX15_unarySort_18 : decode cX15_unarySort 18 = .ok (.getfield 84, 3) := by decide +kernel
theorem dX15_unarySort_21 : decode cX15_unarySort 21 = .ok (.aload_n 0, 1) := by decide +kernel
theorem dX15_unarySort_22 : decode cX15_unarySort 22 = .ok (.getfield 540, 3) := by decide +kernel
theorem dX15_unarySort_25 : decode cX15_unarySort 25 = .ok (.iconst 1, 1) := by decide +kernel
theorem dX15_unarySort_26 : decode cX15_unarySort 26 = .ok (.isub, 1) := by decide +kernel
theorem dX15_unarySort_27 : decode cX15_unarySort 27 = .ok (.iaload, 1) := by decide +kernel
theorem dX15_unarySort_28 : decode cX15_unarySort 28 = .ok (.iload_n 2, 1) := by decide +kernel
theorem dX15_unarySort_29 : decode cX15_unarySort 29 = .ok (.if_icmp .eq 14, 3) := by decide +kernel
theorem dX15_unarySort_32 : decode cX15_unarySort 32 = .ok (.aload_n 0, 1) := by decide +kernel
theorem dX15_unarySort_33 : decode cX15_unarySort 33 = .ok (.iconst 5, 1) := by decide +kernel
theorem dX15_unarySort_34 : decode cX15_unarySort 34 = .ok (.aload_n 0, 1) := by decide +kernel
theorem dX15_unarySort_35 : decode cX15_unarySort 35 = .ok (.getfield 31, 3) := by decide +kernel
theorem dX15_unarySort_38 : decode cX15_unarySort 38 = .ok (.iload_n 1, 1) := by decide +kernel
theorem dX15_unarySort_39 : decode cX15_unarySort 39 = .ok (.iaload, 1) := by decide +kernel
theorem dX15_unarySort_40 : decode cX15_unarySort 40 = .ok (.invokevirtual 390, 3) := by decide +kernel
theorem dX15_unarySort_43 : decode cX15_unarySort 43 = .ok (.aload_n 0, 1) := by decide +kernel
theorem dX15_unarySort_44 : decode cX15_unarySort 44 = .ok (.getfield 87, 3) := by decide +kernel
theorem dX15_unarySort_47 : decode cX15_unarySort 47 = .ok (.aload_n 0, 1) := by decide +kernel
theorem dX15_unarySort_48 : decode cX15_unarySort 48 = .ok (.getfield 540, 3) := by decide +kernel
theorem dX15_unarySort_51 : decode cX15_unarySort 51 = .ok (.iconst 1, 1) := by decide +kernel
theorem dX15_unarySort_52 : decode cX15_unarySort 52 = .ok (.isub, 1) := by decide +kernel
theorem dX15_unarySort_53 : decode cX15_unarySort 53 = .ok (.aload_n 0, 1) := by decide +kernel
theorem dX15_unarySort_54 : decode cX15_unarySort 54 = .ok (.getfield 31, 3) := by decide +kernel
theorem dX15_unarySort_57 : decode cX15_unarySort 57 = .ok (.iload_n 1, 1) := by decide +kernel
theorem dX15_unarySort_58 : decode cX15_unarySort 58 = .ok (.iaload, 1) := by decide +kernel
theorem dX15_unarySort_59 : decode cX15_unarySort 59 = .ok (.iastore, 1) := by decide +kernel
theorem dX15_unarySort_60 : decode cX15_unarySort 60 = .ok (.return_, 1) := by decide +kernel
theorem dX15_binarySort_0 : decode cX15_binarySort 0 = .ok (.aload_n 0, 1) := by decide +kernel
theorem dX15_binarySort_1 : decode cX15_binarySort 1 = .ok (.getfield 25, 3) := by decide +kernel
theorem dX15_binarySort_4 : decode cX15_binarySort 4 = .ok (.iload_n 1, 1) := by decide +kernel
theorem dX15_binarySort_5 : decode cX15_binarySort 5 = .ok (.iaload, 1) := by decide +kernel
theorem dX15_binarySort_6 : decode cX15_binarySort 6 = .ok (.istore_n 2, 1) := by decide +kernel
theorem dX15_binarySort_7 : decode cX15_binarySort 7 = .ok (.aload_n 0, 1) := by decide +kernel
theorem dX15_binarySort_8 : decode cX15_binarySort 8 = .ok (.getfield 84, 3) := by decide +kernel
theorem dX15_binarySort_11 : decode cX15_binarySort 11 = .ok (.aload_n 0, 1) := by decide +kernel
theorem dX15_binarySort_12 : decode cX15_binarySort 12 = .ok (.getfield 540, 3) := by decide +kernel
theorem dX15_binarySort_15 : decode cX15_binarySort 15 = .ok (.iconst 2, 1) := by decide +kernel
theorem dX15_binarySort_16 : decode cX15_binarySort 16 = .ok (.isub, 1) := by decide +kernel
theorem dX15_binarySort_17 : decode cX15_binarySort 17 = .ok (.iaload, 1) := by decide +kernel
theorem dX15_binarySort_18 : decode cX15_binarySort 18 = .ok (.istore_n 3, 1) := by decide +kernel
theorem dX15_binarySort_19 : decode cX15_binarySort 19 = .ok (.aload_n 0, 1) := by decide +kernel
theorem dX15_binarySort_20 : decode cX15_binarySort 20 = .ok (.getfield 84, 3) := by decide +kernel
theorem dX15_binarySort_23 : decode cX15_binarySort 23 = .ok (.aload_n 0, 1) := by decide +kernel
theorem dX15_binarySort_24 : decode cX15_binarySort 24 = .ok (.getfield 540, 3) := by decide +kernel
theorem dX15_binarySort_27 : decode cX15_binarySort 27 = .ok (.iconst 1, 1) := by decide +kernel
theorem dX15_binarySort_28 : decode cX15_binarySort 28 = .ok (.isub, 1) := by decide +kernel
theorem dX15_binarySort_29 : decode cX15_binarySort 29 = .ok (.iaload, 1) := by decide +kernel
theorem dX15_binarySort_30 : decode cX15_binarySort 30 = .ok (.istore 4, 2) := by decide +kernel
theorem dX15_binarySort_32 : decode cX15_binarySort 32 = .ok (.iload_n 2, 1) := by decide +kernel
theorem dX15_binarySort_33 : decode cX15_binarySort 33 = .ok (.iconst 3, 1) := by decide +kernel
theorem dX15_binarySort_34 : decode cX15_binarySort 34 = .ok (.if_icmp .eq 25, 3) := by decide +kernel
theorem dX15_binarySort_37 : decode cX15_binarySort 37 = .ok (.iload_n 2, 1) := by decide +kernel
theorem dX15_binarySort_38 : decode cX15_binarySort 38 = .ok (.iconst 4, 1) := by decide +kernel
theorem dX15_binarySort_39 : decode cX15_binarySort 39 = .ok (.if_icmp .eq 20, 3) := by decide +kernel
theorem dX15_binarySort_42 : decode cX15_binarySort 42 = .ok (.iload_n 2, 1) := by decide +kernel
theorem dX15_binarySort_43 : decode cX15_binarySort 43 = .ok (.iconst 5, 1) := by decide +kernel
theorem dX15_binarySort_44 : decode cX15_binarySort 44 = .ok (.if_icmp .eq 15, 3) := by decide +kernel
theorem dX15_binarySort_47 : decode cX15_binarySort 47 = .ok (.iload_n 2, 1) := by decide +kernel
theorem dX15_binarySort_48 : decode cX15_binarySort 48 = .ok (.bipush 6, 2) := by decide +kernel
theorem dX15_binarySort_50 : decode cX15_binarySort 50 = .ok (.if_icmp .eq 9, 3) := by decide +kernel
theorem dX15_binarySort_53 : decode cX15_binarySort 53 = .ok (.iload_n 2, 1) := by decide +kernel
theorem dX15_binarySort_54 : decode cX15_binarySort 54 = .ok (.bipush 7, 2) := by decide +kernel
theorem dX15_binarySort_56 : decode cX15_binarySort 56 = .ok (.if_icmp .ne 7, 3) := by decide +kernel
theorem dX15_binarySort_59 : decode cX15_binarySort 59 = .ok (.iconst 1, 1) := by decide +kernel
theorem dX15_binarySort_60 : decode cX15_binarySort 60 = .ok (.goto 4, 3) := by decide +kernel
theorem dX15_binarySort_63 : decode cX15_binarySort 63 = .ok (.iconst 0, 1) := by decide +kernel
theorem dX15_binarySort_64 : decode cX15_binarySort 64 = .ok (.istore 5, 2) := by decide +kernel
theorem dX15_binarySort_66 : decode cX15_binarySort 66 = .ok (.iload_n 2, 1) := by decide +kernel
theorem dX15_binarySort_67 : decode cX15_binarySort 67 = .ok (.iconst 1, 1) := by decide +kernel
theorem dX15_binarySort_68 : decode cX15_binarySort 68 = .ok (.if_icmp .eq 8, 3) := by decide +kernel
theorem dX15_binarySort_71 : decode cX15_binarySort 71 = .ok (.iload_n 2, 1) := by decide +kernel
theorem dX15_binarySort_72 : decode cX15_binarySort 72 = .ok (.iconst 2, 1) := by decide +kernel
theorem dX15_binarySort_73 : decode cX15_binarySort 73 = .ok (.if_icmp .ne 7, 3) := by decide +kernel
theorem dX15_binarySort_76 : decode cX15_binarySort 76 = .ok (.iconst 1, 1) := by decide +kernel
theorem dX15_binarySort_77 : decode cX15_binarySort 77 = .ok (.goto 4, 3) := by decide +kernel
theorem dX15_binarySort_80 : decode cX15_binarySort 80 = .ok (.iconst 0, 1) := by decide +kernel
theorem dX15_binarySort_81 : decode cX15_binarySort 81 = .ok (.istore 6, 2) := by decide +kernel
theorem dX15_binarySort_83 : decode cX15_binarySort 83 = .ok (.iload 5, 2) := by decide +kernel
theorem dX15_binarySort_85 : decode cX15_binarySort 85 = .ok (.ifCond .eq 17, 3) := by decide +kernel
theorem dX15_binarySort_88 : decode cX15_binarySort 88 = .ok (.iload_n 3, 1) := by decide +kernel
theorem dX15_binarySort_89 : decode cX15_binarySort 89 = .ok (.iload 4, 2) := by decide +kernel
theorem dX15_binarySort_91 : decode cX15_binarySort 91 = .ok (.if_icmp .ne 7, 3) := by decide +kernel
theorem dX15_binarySort_94 : decode cX15_binarySort 94 = .ok (.iconst 1, 1) := by decide +kernel
theorem dX15_binarySort_95 : decode cX15_binarySort 95 = .ok (.goto 45, 3) := by decide +kernel
theorem dX15_binarySort_98 : decode cX15_binarySort 98 = .ok (.iconst 0, 1) := by decide +kernel
theorem dX15_binarySort_99 : decode cX15_binarySort 99 = .ok (.goto 41, 3) := by decide +kernel
theorem dX15_binarySort_102 : decode cX15_binarySort 102 = .ok (.iload 6, 2) := by decide +kernel
theorem dX15_binarySort_104 : decode cX15_binarySort 104 = .ok (.ifCond .eq 22, 3) := by decide +kernel
theorem dX15_binarySort_107 : decode cX15_binarySort 107 = .ok (.iload_n 3, 1) := by decide +kernel
theorem dX15_binarySort_108 : decode cX15_binarySort 108 = .ok (.iconst 1, 1) := by decide +kernel
theorem dX15_binarySort_109 : decode cX15_binarySort 109 = .ok (.if_icmp .ne 13, 3) := by decide +kernel
theorem dX15_binarySort_112 : decode cX15_binarySort 112 = .ok (.iload 4, 2) := by decide +kernel
theorem dX15_binarySort_114 : decode cX15_binarySort 114 = .ok (.iconst 1, 1) := by decide +kernel
theorem dX15_binarySort_115 : decode cX15_binarySort 115 = .ok (.if_icmp .ne 7, 3) := by decide +kernel
theorem dX15_binarySort_118 : decode cX15_binarySort 118 = .ok (.iconst 1, 1) := by decide +kernel
theorem dX15_binarySort_119 : decode cX15_binarySort 119 = .ok (.goto 21, 3) := by decide +kernel
theorem dX15_binarySort_122 : decode cX15_binarySort 122 = .ok (.iconst 0, 1) := by decide +kernel
theorem dX15_binarySort_123 : decode cX15_binarySort 123 = .ok (.goto 17, 3) := by decide +kernel
theorem dX15_binarySort_126 : decode cX15_binarySort 126 = .ok (.iload_n 3, 1) := by decide +kernel
theorem dX15_binarySort_127 : decode cX15_binarySort 127 = .ok (.ifCond .ne 12, 3) := by decide +kernel
theorem dX15_binarySort_130 : decode cX15_binarySort 130 = .ok (.iload 4, 2) := by decide +kernel
theorem dX15_binarySort_132 : decode cX15_binarySort 132 = .ok (.ifCond .ne 7, 3) := by decide +kernel
theorem dX15_binarySort_135 : decode cX15_binarySort 135 = .ok (.iconst 1, 1) := by decide +kernel
theorem dX15_binarySort_136 : decode cX15_binarySort 136 = .ok (.goto 4, 3) := by decide +kernel
theorem dX15_binarySort_139 : decode cX15_binarySort 139 = .ok (.iconst 0, 1) := by decide +kernel
theorem dX15_binarySort_140 : decode cX15_binarySort 140 = .ok (.istore 7, 2) := by decide +kernel
theorem dX15_binarySort_142 : decode cX15_binarySort 142 = .ok (.iload 7, 2) := by decide +kernel
theorem dX15_binarySort_144 : decode cX15_binarySort 144 = .ok (.ifCond .ne 15, 3) := by decide +kernel
theorem dX15_binarySort_147 : decode cX15_binarySort 147 = .ok (.aload_n 0, 1) := by decide +kernel
theorem dX15_binarySort_148 : decode cX15_binarySort 148 = .ok (.iconst 5, 1) := by decide +kernel
theorem dX15_binarySort_149 : decode cX15_binarySort 149 = .ok (.aload_n 0, 1) := by decide +kernel
theorem dX15_binarySort_150 : decode cX15_binarySort 150 = .ok (.getfield 31, 3) := by decide +kernel
theorem dX15_binarySort_153 : decode cX15_binarySort 153 = .ok (.iload_n 1, 1) := by decide +kernel
theorem dX15_binarySort_154 : decode cX15_binarySort 154 = .ok (.iaload, 1) := by decide +kernel
theorem dX15_binarySort_155 : decode cX15_binarySort 155 = .ok (.invokevirtual 390, 3) := by decide +kernel
theorem dX15_binarySort_158 : decode cX15_binarySort 158 = .ok (.return_, 1) := by decide +kernel
theorem dX15_binarySort_159 : decode cX15_binarySort 159 = .ok (.iload_n 2, 1) := by decide +kernel
theorem dX15_binarySort_160 : decode cX15_binarySort 160 = .ok (.bipush 12, 2) := by decide +kernel
theorem dX15_binarySort_162 : decode cX15_binarySort 162 = .ok (.if_icmp .eq 9, 3) := by decide +kernel
theorem dX15_binarySort_165 : decode cX15_binarySort 165 = .ok (.iload_n 2, 1) := by decide +kernel
theorem dX15_binarySort_166 : decode cX15_binarySort 166 = .ok (.bipush 13, 2) := by decide +kernel
theorem dX15_binarySort_168 : decode cX15_binarySort 168 = .ok (.if_icmp .ne 24, 3) := by decide +kernel
theorem dX15_binarySort_171 : decode cX15_binarySort 171 = .ok (.aload_n 0, 1) := by decide +kernel
theorem dX15_binarySort_172 : decode cX15_binarySort 172 = .ok (.invokevirtual 589, 3) := by decide +kernel
theorem dX15_binarySort_175 : decode cX15_binarySort 175 = .ok (.aload_n 0, 1) := by decide +kernel
theorem dX15_binarySort_176 : decode cX15_binarySort 176 = .ok (.getfield 108, 3) := by decide +kernel
theorem dX15_binarySort_179 : decode cX15_binarySort 179 = .ok (.iload_n 1, 1) := by decide +kernel
theorem dX15_binarySort_180 : decode cX15_binarySort 180 = .ok (.aload_n 0, 1) := by decide +kernel
theorem dX15_binarySort_181 : decode cX15_binarySort 181 = .ok (.getfield 87, 3) := by decide +kernel
theorem dX15_binarySort_184 : decode cX15_binarySort 184 = .ok (.aload_n 0, 1) := by decide +kernel
theorem dX15_binarySort_185 : decode cX15_binarySort 185 = .ok (.getfield 540, 3) := by decide +kernel
theorem dX15_binarySort_188 : decode cX15_binarySort 188 = .ok (.iconst 1, 1) := by decide +kernel
theorem dX15_binarySort_189 : decode cX15_binarySort 189 = .ok (.isub, 1) := by decide +kernel
theorem dX15_binarySort_190 : decode cX15_binarySort 190 = .ok (.iaload, 1) := by decide +kernel
theorem dX15_binarySort_191 : decode cX15_binarySort 191 = .ok (.iastore, 1) := by decide +kernel
theorem dX15_binarySort_192 : decode cX15_binarySort 192 = .ok (.aload_n 0, 1) := by decide +kernel
theorem dX15_binarySort_193 : decode cX15_binarySort 193 = .ok (.getfield 28, 3) := by decide +kernel
theorem dX15_binarySort_196 : decode cX15_binarySort 196 = .ok (.iload_n 1, 1) := by decide +kernel
theorem dX15_binarySort_197 : decode cX15_binarySort 197 = .ok (.iload_n 3, 1) := by decide +kernel
theorem dX15_binarySort_198 : decode cX15_binarySort 198 = .ok (.iastore, 1) := by decide +kernel
theorem dX15_binarySort_199 : decode cX15_binarySort 199 = .ok (.aload_n 0, 1) := by decide +kernel
theorem dX15_binarySort_200 : decode cX15_binarySort 200 = .ok (.dup, 1) := by decide +kernel
theorem dX15_binarySort_201 : decode cX15_binarySort 201 = .ok (.getfield 540, 3) := by decide +kernel
theorem dX15_binarySort_204 : decode cX15_binarySort 204 = .ok (.iconst 1, 1) := by decide +kernel
theorem dX15_binarySort_205 : decode cX15_binarySort 205 = .ok (.isub, 1) := by decide +kernel
theorem dX15_binarySort_206 : decode cX15_binarySort 206 = .ok (.putfield 540, 3) := by decide +kernel
theorem dX15_binarySort_209 : decode cX15_binarySort 209 = .ok (.aload_n 0, 1) := by decide +kernel
theorem dX15_binarySort_210 : decode cX15_binarySort 210 = .ok (.getfield 90, 3) := by decide +kernel
theorem dX15_binarySort_213 : decode cX15_binarySort 213 = .ok (.aload_n 0, 1) := by decide +kernel
theorem dX15_binarySort_214 : decode cX15_binarySort 214 = .ok (.getfield 540, 3) := by decide +kernel
theorem dX15_binarySort_217 : decode cX15_binarySort 217 = .ok (.iconst 1, 1) := by decide +kernel
theorem dX15_binarySort_218 : decode cX15_binarySort 218 = .ok (.isub, 1) := by decide +kernel
theorem dX15_binarySort_219 : decode cX15_binarySort 219 = .ok (.aload_n 0, 1) := by decide +kernel
theorem dX15_binarySort_220 : decode cX15_binarySort 220 = .ok (.getfield 90, 3) := by decide +kernel
theorem dX15_binarySort_223 : decode cX15_binarySort 223 = .ok (.aload_n 0, 1) := by decide +kernel
theorem dX15_binarySort_224 : decode cX15_binarySort 224 = .ok (.getfield 540, 3) := by decide +kernel
theorem dX15_binarySort_227 : decode cX15_binarySort 227 = .ok (.iconst 1, 1) := by decide +kernel
theorem dX15_binarySort_228 : decode cX15_binarySort 228 = .ok (.isub, 1) := by decide +kernel
theorem dX15_binarySort_229 : decode cX15_binarySort 229 = .ok (.baload, 1) := by decide +kernel
theorem dX15_binarySort_230 : decode cX15_binarySort 230 = .ok (.ifCond .eq 19, 3) := by decide +kernel
theorem dX15_binarySort_233 : decode cX15_binarySort 233 = .ok (.aload_n 0, 1) := by decide +kernel
theorem dX15_binarySort_234 : decode cX15_binarySort 234 = .ok (.getfield 90, 3) := by decide +kernel
theorem dX15_binarySort_237 : decode cX15_binarySort 237 = .ok (.aload_n 0, 1) := by decide +kernel
theorem dX15_binarySort_238 : decode cX15_binarySort 238 = .ok (.getfield 540, 3) := by decide +kernel
theorem dX15_binarySort_241 : decode cX15_binarySort 241 = .ok (.baload, 1) := by decide +kernel
theorem dX15_binarySort_242 : decode cX15_binarySort 242 = .ok (.ifCond .eq 7, 3) := by decide +kernel
theorem dX15_binarySort_245 : decode cX15_binarySort 245 = .ok (.iconst 1, 1) := by decide +kernel
theorem dX15_binarySort_246 : decode cX15_binarySort 246 = .ok (.goto 4, 3) := by decide +kernel
theorem dX15_binarySort_249 : decode cX15_binarySort 249 = .ok (.iconst 0, 1) := by decide +kernel
theorem dX15_binarySort_250 : decode cX15_binarySort 250 = .ok (.bastore, 1) := by decide +kernel
theorem dX15_binarySort_251 : decode cX15_binarySort 251 = .ok (.aload_n 0, 1) := by decide +kernel
theorem dX15_binarySort_252 : decode cX15_binarySort 252 = .ok (.getfield 84, 3) := by decide +kernel
theorem dX15_binarySort_255 : decode cX15_binarySort 255 = .ok (.aload_n 0, 1) := by decide +kernel
theorem dX15_binarySort_256 : decode cX15_binarySort 256 = .ok (.getfield 540, 3) := by decide +kernel
theorem dX15_binarySort_259 : decode cX15_binarySort 259 = .ok (.iconst 1, 1) := by decide +kernel
theorem dX15_binarySort_260 : decode cX15_binarySort 260 = .ok (.isub, 1) := by decide +kernel
theorem dX15_binarySort_261 : decode cX15_binarySort 261 = .ok (.iload_n 2, 1) := by decide +kernel
theorem dX15_binarySort_262 : decode cX15_binarySort 262 = .ok (.bipush 6, 2) := by decide +kernel
theorem dX15_binarySort_264 : decode cX15_binarySort 264 = .ok (.if_icmp .lt 9, 3) := by decide +kernel
theorem dX15_binarySort_267 : decode cX15_binarySort 267 = .ok (.iload_n 2, 1) := by decide +kernel
theorem dX15_binarySort_268 : decode cX15_binarySort 268 = .ok (.bipush 11, 2) := by decide +kernel
theorem dX15_binarySort_270 : decode cX15_binarySort 270 = .ok (.if_icmp .le 8, 3) := by decide +kernel
theorem dX15_binarySort_273 : decode cX15_binarySort 273 = .ok (.iload 6, 2) := by decide +kernel
theorem dX15_binarySort_275 : decode cX15_binarySort 275 = .ok (.ifCond .eq 7, 3) := by decide +kernel
theorem dX15_binarySort_278 : decode cX15_binarySort 278 = .ok (.iconst 1, 1) := by decide +kernel
theorem dX15_binarySort_279 : decode cX15_binarySort 279 = .ok (.goto 4, 3) := by decide +kernel
theorem dX15_binarySort_282 : decode cX15_binarySort 282 = .ok (.iload_n 3, 1) := by decide +kernel
theorem dX15_binarySort_283 : decode cX15_binarySort 283 = .ok (.iastore, 1) := by decide +kernel
theorem dX15_binarySort_284 : decode cX15_binarySort 284 = .ok (.return_, 1) := by decide +kernel
theorem dX15_selectSort_0 : decode cX15_selectSort 0 = .ok (.aload_n 0, 1) := by decide +kernel
theorem dX15_selectSort_1 : decode cX15_selectSort 1 = .ok (.getfield 84, 3) := by decide +kernel
theorem dX15_selectSort_4 : decode cX15_selectSort 4 = .ok (.aload_n 0, 1) := by decide +kernel
theorem dX15_selectSort_5 : decode cX15_selectSort 5 = .ok (.getfield 540, 3) := by decide +kernel
theorem dX15_selectSort_8 : decode cX15_selectSort 8 = .ok (.iconst 3, 1) := by decide +kernel
theorem dX15_selectSort_9 : decode cX15_selectSort 9 = .ok (.isub, 1) := by decide +kernel
theorem dX15_selectSort_10 : decode cX15_selectSort 10 = .ok (.iaload, 1) := by decide +kernel
theorem dX15_selectSort_11 : decode cX15_selectSort 11 = .ok (.iconst 1, 1) := by decide +kernel
theorem dX15_selectSort_12 : decode cX15_selectSort 12 = .ok (.if_icmp .ne 28, 3) := by decide +kernel
theorem dX15_selectSort_15 : decode cX15_selectSort 15 = .ok (.aload_n 0, 1) := by decide +kernel
theorem dX15_selectSort_16 : decode cX15_selectSort 16 = .ok (.getfield 84, 3) := by decide +kernel
theorem dX15_selectSort_19 : decode cX15_selectSort 19 = .ok (.aload_n 0, 1) := by decide +kernel
theorem dX15_selectSort_20 : decode cX15_selectSort 20 = .ok (.getfield 540, 3) := by decide +kernel
theorem dX15_selectSort_23 : decode cX15_selectSort 23 = .ok (.iconst 2, 1) := by decide +kernel
theorem dX15_selectSort_24 : decode cX15_selectSort 24 = .ok (.isub, 1) := by decide +kernel
theorem dX15_selectSort_25 : decode cX15_selectSort 25 = .ok (.iaload, 1) := by decide +kernel
theorem dX15_selectSort_26 : decode cX15_selectSort 26 = .ok (.aload_n 0, 1) := by decide +kernel
theorem dX15_selectSort_27 : decode cX15_selectSort 27 = .ok (.getfield 84, 3) := by decide +kernel
theorem dX15_selectSort_30 : decode cX15_selectSort 30 = .ok (.aload_n 0, 1) := by decide +kernel
theorem dX15_selectSort_31 : decode cX15_selectSort 31 = .ok (.getfield 540, 3) := by decide +kernel
theorem dX15_selectSort_34 : decode cX15_selectSort 34 = .ok (.iconst 1, 1) := by decide +kernel
theorem dX15_selectSort_35 : decode cX15_selectSort 35 = .ok (.isub, 1) := by decide +kernel
theorem dX15_selectSort_36 : decode cX15_selectSort 36 = .ok (.iaload, 1) := by decide +kernel
theorem dX15_selectSort_37 : decode cX15_selectSort 37 = .ok (.if_icmp .eq 15, 3) := by decide +kernel
theorem dX15_selectSort_40 : decode cX15_selectSort 40 = .ok (.aload_n 0, 1) := by decide +kernel
theorem dX15_selectSort_41 : decode cX15_selectSort 41 = .ok (.iconst 5, 1) := by decide +kernel
theorem dX15_selectSort_42 : decode cX15_selectSort 42 = .ok (.aload_n 0, 1) := by decide +kernel
theorem dX15_selectSort_43 : decode cX15_selectSort 43 = .ok (.getfield 31, 3) := by decide +kernel
theorem dX15_selectSort_46 : decode cX15_selectSort 46 = .ok (.iload_n 1, 1) := by decide +kernel
theorem dX15_selectSort_47 : decode cX15_selectSort 47 = .ok (.iaload, 1) := by decide +kernel
theorem dX15_selectSort_48 : decode cX15_selectSort 48 = .ok (.invokevirtual 390, 3) := by decide +kernel
theorem dX15_selectSort_51 : decode cX15_selectSort 51 = .ok (.return_, 1) := by decide +kernel
theorem dX15_selectSort_52 : decode cX15_selectSort 52 = .ok (.aload_n 0, 1) := by decide +kernel
theorem dX15_selectSort_53 : decode cX15_selectSort 53 = .ok (.getfield 90, 3) := by decide +kernel
theorem dX15_selectSort_56 : decode cX15_selectSort 56 = .ok (.aload_n 0, 1) := by decide +kernel
theorem dX15_selectSort_57 : decode cX15_selectSort 57 = .ok (.getfield 540, 3) := by decide +kernel
theorem dX15_selectSort_60 : decode cX15_selectSort 60 = .ok (.iconst 3, 1) := by decide +kernel
theorem dX15_selectSort_61 : decode cX15_selectSort 61 = .ok (.isub, 1) := by decide +kernel
theorem dX15_selectSort_62 : decode cX15_selectSort 62 = .ok (.baload, 1) := by decide +kernel
theorem dX15_selectSort_63 : decode cX15_selectSort 63 = .ok (.ifCond .eq 35, 3) := by decide +kernel
theorem dX15_selectSort_66 : decode cX15_selectSort 66 = .ok (.aload_n 0, 1) := by decide +kernel
theorem dX15_selectSort_67 : decode cX15_selectSort 67 = .ok (.getfield 90, 3) := by decide +kernel
theorem dX15_selectSort_70 : decode cX15_selectSort 70 = .ok (.aload_n 0, 1) := by decide +kernel
theorem dX15_selectSort_71 : decode cX15_selectSort 71 = .ok (.getfield 540, 3) := by decide +kernel
theorem dX15_selectSort_74 : decode cX15_selectSort 74 = .ok (.iconst 2, 1) := by decide +kernel
theorem dX15_selectSort_75 : decode cX15_selectSort 75 = .ok (.isub, 1) := by decide +kernel
theorem dX15_selectSort_76 : decode cX15_selectSort 76 = .ok (.baload, 1) := by decide +kernel
theorem dX15_selectSort_77 : decode cX15_selectSort 77 = .ok (.ifCond .eq 21, 3) := by decide +kernel
theorem dX15_selectSort_80 : decode cX15_selectSort 80 = .ok (.aload_n 0, 1) := by decide +kernel
theorem dX15_selectSort_81 : decode cX15_selectSort 81 = .ok (.getfield 90, 3) := by decide +kernel
theorem dX15_selectSort_84 : decode cX15_selectSort 84 = .ok (.aload_n 0, 1) := by decide +kernel
theorem dX15_selectSort_85 : decode cX15_selectSort 85 = .ok (.getfield 540, 3) := by decide +kernel
theorem dX15_selectSort_88 : decode cX15_selectSort 88 = .ok (.iconst 1, 1) := by decide +kernel
theorem dX15_selectSort_89 : decode cX15_selectSort 89 = .ok (.isub, 1) := by decide +kernel
theorem dX15_selectSort_90 : decode cX15_selectSort 90 = .ok (.baload, 1) := by decide +kernel
theorem dX15_selectSort_91 : decode cX15_selectSort 91 = .ok (.ifCond .eq 7, 3) := by decide +kernel
theorem dX15_selectSort_94 : decode cX15_selectSort 94 = .ok (.iconst 1, 1) := by decide +kernel
theorem dX15_selectSort_95 : decode cX15_selectSort 95 = .ok (.goto 4, 3) := by decide +kernel
theorem dX15_selectSort_98 : decode cX15_selectSort 98 = .ok (.iconst 0, 1) := by decide +kernel
theorem dX15_selectSort_99 : decode cX15_selectSort 99 = .ok (.istore_n 2, 1) := by decide +kernel
theorem dX15_selectSort_100 : decode cX15_selectSort 100 = .ok (.aload_n 0, 1) := by decide +kernel
theorem dX15_selectSort_101 : decode cX15_selectSort 101 = .ok (.dup, 1) := by decide +kernel
theorem dX15_selectSort_102 : decode cX15_selectSort 102 = .ok (.getfield 540, 3) := by decide +kernel
theorem dX15_selectSort_105 : decode cX15_selectSort 105 = .ok (.iconst 2, 1) := by decide +kernel
theorem dX15_selectSort_106 : decode cX15_selectSort 106 = .ok (.isub, 1) := by decide +kernel
theorem dX15_selectSort_107 : decode cX15_selectSort 107 = .ok (.putfield 540, 3) := by decide +kernel
theorem dX15_selectSort_110 : decode cX15_selectSort 110 = .ok (.aload_n 0, 1) := by decide +kernel
theorem dX15_selectSort_111 : decode cX15_selectSort 111 = .ok (.getfield 84, 3) := by decide +kernel
theorem dX15_selectSort_114 : decode cX15_selectSort 114 = .ok (.aload_n 0, 1) := by decide +kernel
theorem dX15_selectSort_115 : decode cX15_selectSort 115 = .ok (.getfield 540, 3) := by decide +kernel
theorem dX15_selectSort_118 : decode cX15_selectSort 118 = .ok (.iconst 1, 1) := by decide +kernel
theorem dX15_selectSort_119 : decode cX15_selectSort 119 = .ok (.isub, 1) := by decide +kernel
theorem dX15_selectSort_120 : decode cX15_selectSort 120 = .ok (.aload_n 0, 1) := by decide +kernel
theorem dX15_selectSort_121 : decode cX15_selectSort 121 = .ok (.getfield 84, 3) := by decide +kernel
theorem dX15_selectSort_124 : decode cX15_selectSort 124 = .ok (.aload_n 0, 1) := by decide +kernel
theorem dX15_selectSort_125 : decode cX15_selectSort 125 = .ok (.getfield 540, 3) := by decide +kernel
theorem dX15_selectSort_128 : decode cX15_selectSort 128 = .ok (.iaload, 1) := by decide +kernel
theorem dX15_selectSort_129 : decode cX15_selectSort 129 = .ok (.iastore, 1) := by decide +kernel
theorem dX15_selectSort_130 : decode cX15_selectSort 130 = .ok (.aload_n 0, 1) := by decide +kernel
theorem dX15_selectSort_131 : decode cX15_selectSort 131 = .ok (.getfield 90, 3) := by decide +kernel
theorem dX15_selectSort_134 : decode cX15_selectSort 134 = .ok (.aload_n 0, 1) := by decide +kernel
theorem dX15_selectSort_135 : decode cX15_selectSort 135 = .ok (.getfield 540, 3) := by decide +kernel
theorem dX15_selectSort_138 : decode cX15_selectSort 138 = .ok (.iconst 1, 1) := by decide +kernel
theorem dX15_selectSort_139 : decode cX15_selectSort 139 = .ok (.isub, 1) := by decide +kernel
theorem dX15_selectSort_140 : decode cX15_selectSort 140 = .ok (.iload_n 2, 1) := by decide +kernel
theorem dX15_selectSort_141 : decode cX15_selectSort 141 = .ok (.bastore, 1) := by decide +kernel
theorem dX15_selectSort_142 : decode cX15_selectSort 142 = .ok (.aload_n 0, 1) := by decide +kernel
theorem dX15_selectSort_143 : decode cX15_selectSort 143 = .ok (.getfield 28, 3) := by decide +kernel
theorem dX15_selectSort_146 : decode cX15_selectSort 146 = .ok (.iload_n 1, 1) := by decide +kernel
theorem dX15_selectSort_147 : decode cX15_selectSort 147 = .ok (.aload_n 0, 1) := by decide +kernel
theorem dX15_selectSort_148 : decode cX15_selectSort 148 = .ok (.getfield 84, 3) := by decide +kernel
theorem dX15_selectSort_151 : decode cX15_selectSort 151 = .ok (.aload_n 0, 1) := by decide +kernel
theorem dX15_selectSort_152 : decode cX15_selectSort 152 = .ok (.getfield 540, 3) := by decide +kernel
theorem dX15_selectSort_155 : decode cX15_selectSort 155 = .ok (.iaload, 1) := by decide +kernel
theorem dX15_selectSort_156 : decode cX15_selectSort 156 = .ok (.iastore, 1) := by decide +kernel
theorem dX15_selectSort_157 : decode cX15_selectSort 157 = .ok (.return_, 1) := by decide +kernel
theorem dX15_statementSort_0 : decode cX15_statementSort 0 = .ok (.aload_n 0, 1) := by decide +kernel
theorem dX15_statementSort_1 : decode cX15_statementSort 1 = .ok (.getfield 22, 3) := by decide +kernel
theorem dX15_statementSort_4 : decode cX15_statementSort 4 = .ok (.iload_n 1, 1) := by decide +kernel
theorem dX15_statementSort_5 : decode cX15_statementSort 5 = .ok (.iaload, 1) := by decide +kernel
theorem dX15_statementSort_6 : decode cX15_statementSort 6 = .ok (.tableswitch 715 22 42 #[98, 146, 98, 212, 98, 138, 293, 327, 418, 448, 456, 448, 494, 559, 600, 689, 618, 638, 689, 626, 502], 98) := by decide +kernel
theorem dX15_statementSort_104 : decode cX15_statementSort 104 = .ok (.aload_n 0, 1) := by decide +kernel
theorem dX15_statementSort_105 : decode cX15_statementSort 105 = .ok (.iload_n 1, 1) := by decide +kernel
theorem dX15_statementSort_106 : decode cX15_statementSort 106 = .ok (.invokevirtual 592, 3) := by decide +kernel
theorem dX15_statementSort_109 : decode cX15_statementSort 109 = .ok (.aload_n 0, 1) := by decide +kernel
theorem dX15_statementSort_110 : decode cX15_statementSort 110 = .ok (.getfield 22, 3) := by decide +kernel
theorem dX15_statementSort_113 : decode cX15_statementSort 113 = .ok (.iload_n 1, 1) := by decide +kernel
theorem dX15_statementSort_114 : decode cX15_statementSort 114 = .ok (.iaload, 1) := by decide +kernel
theorem dX15_statementSort_115 : decode cX15_statementSort 115 = .ok (.bipush 26, 2) := by decide +kernel
theorem dX15_statementSort_117 : decode cX15_statementSort 117 = .ok (.if_icmp .ne 604, 3) := by decide +kernel
theorem dX15_statementSort_120 : decode cX15_statementSort 120 = .ok (.aload_n 0, 1) := by decide +kernel
theorem dX15_statementSort_121 : decode cX15_statementSort 121 = .ok (.aload_n 0, 1) := by decide +kernel
theorem dX15_statementSort_122 : decode cX15_statementSort 122 = .ok (.getfield 552, 3) := by decide +kernel
theorem dX15_statementSort_125 : decode cX15_statementSort 125 = .ok (.putfield 595, 3) := by decide +kernel
theorem dX15_statementSort_128 : decode cX15_statementSort 128 = .ok (.aload_n 0, 1) := by decide +kernel
theorem dX15_statementSort_129 : decode cX15_statementSort 129 = .ok (.aload_n 0, 1) := by decide +kernel
theorem dX15_statementSort_130 : decode cX15_statementSort 130 = .ok (.getfield 534, 3) := by decide +kernel
theorem dX15_statementSort_133 : decode cX15_statementSort 133 = .ok (.putfield 598, 3) := by decide +kernel
theorem dX15_statementSort_136 : decode cX15_statementSort 136 = .ok (.aload_n 0, 1) := by decide +kernel
theorem dX15_statementSort_137 : decode cX15_statementSort 137 = .ok (.iload_n 1, 1) := by decide +kernel
theorem dX15_statementSort_138 : decode cX15_statementSort 138 = .ok (.putfield 601, 3) := by decide +kernel
theorem dX15_statementSort_141 : decode cX15_statementSort 141 = .ok (.goto 580, 3) := by decide +kernel
theorem dX15_statementSort_144 : decode cX15_statementSort 144 = .ok (.aload_n 0, 1) := by decide +kernel
theorem dX15_statementSort_145 : decode cX15_statementSort 145 = .ok (.iload_n 1, 1) := by decide +kernel
theorem dX15_statementSort_146 : decode cX15_statementSort 146 = .ok (.invokevirtual 604, 3) := by decide +kernel
theorem dX15_statementSort_149 : decode cX15_statementSort 149 = .ok (.goto 572, 3) := by decide +kernel
theorem dX15_statementSort_152 : decode cX15_statementSort 152 = .ok (.aload_n 0, 1) := by decide +kernel
theorem dX15_statementSort_153 : decode cX15_statementSort 153 = .ok (.getfield 34, 3) := by decide +kernel
theorem dX15_statementSort_156 : decode cX15_statementSort 156 = .ok (.iload_n 1, 1) := by decide +kernel
theorem dX15_statementSort_157 : decode cX15_statementSort 157 = .ok (.laload, 1) := by decide +kernel
theorem dX15_statementSort_158 : decode cX15_statementSort 158 = .ok (.ldc2_w 606, 3) := by decide +kernel
theorem dX15_statementSort_161 : decode cX15_statementSort 161 = .ok (.land, 1) := by decide +kernel
theorem dX15_statementSort_162 : decode cX15_statementSort 162 = .ok (.l2i, 1) := by decide +kernel
theorem dX15_statementSort_163 : decode cX15_statementSort 163 = .ok (.istore_n 2, 1) := by decide +kernel
theorem dX15_statementSort_164 : decode cX15_statementSort 164 = .ok (.aload_n 0, 1) := by decide +kernel
theorem dX15_statementSort_165 : decode cX15_statementSort 165 = .ok (.aload_n 0, 1) := by decide +kernel
theorem dX15_statementSort_166 : decode cX15_statementSort 166 = .ok (.getfield 25, 3) := by decide +kernel
theorem dX15_statementSort_169 : decode cX15_statementSort 169 = .ok (.iload_n 1, 1) := by decide +kernel
theorem dX15_statementSort_170 : decode cX15_statementSort 170 = .ok (.iaload, 1) := by decide +kernel
theorem dX15_statementSort_171 : decode cX15_statementSort 171 = .ok (.iconst 1, 1) := by decide +kernel
theorem dX15_statementSort_172 : decode cX15_statementSort 172 = .ok (.aload_n 0, 1) := by decide +kernel
theorem dX15_statementSort_173 : decode cX15_statementSort 173 = .ok (.getfield 28, 3) := by decide +kernel
theorem dX15_statementSort_176 : decode cX15_statementSort 176 = .ok (.iload_n 1, 1) := by decide +kernel
theorem dX15_statementSort_177 : decode cX15_statementSort 177 = .ok (.iaload, 1) := by decide +kernel
theorem dX15_statementSort_178 : decode cX15_statementSort 178 = .ok (.iload_n 2, 1) := by decide +kernel
theorem dX15_statementSort_179 : decode cX15_statementSort 179 = .ok (.aload_n 0, 1) := by decide +kernel
theorem dX15_statementSort_180 : decode cX15_statementSort 180 = .ok (.getfield 555, 3) := by decide +kernel
theorem dX15_statementSort_183 : decode cX15_statementSort 183 = .ok (.invokevirtual 608, 3) := by decide +kernel
theorem dX15_statementSort_186 : decode cX15_statementSort 186 = .ok (.istore_n 3, 1) := by decide +kernel
theorem dX15_statementSort_187 : decode cX15_statementSort 187 = .ok (.aload_n 0, 1) := by decide +kernel
theorem dX15_statementSort_188 : decode cX15_statementSort 188 = .ok (.getfield 56, 3) := by decide +kernel
theorem dX15_statementSort_191 : decode cX15_statementSort 191 = .ok (.iload_n 1, 1) := by decide +kernel
theorem dX15_statementSort_192 : decode cX15_statementSort 192 = .ok (.aload_n 0, 1) := by decide +kernel
theorem dX15_statementSort_193 : decode cX15_statementSort 193 = .ok (.getfield 555, 3) := by decide +kernel
theorem dX15_statementSort_196 : decode cX15_statementSort 196 = .ok (.iastore, 1) := by decide +kernel
theorem dX15_statementSort_197 : decode cX15_statementSort 197 = .ok (.aload_n 0, 1) := by decide +kernel
theorem dX15_statementSort_198 : decode cX15_statementSort 198 = .ok (.dup, 1) := by decide +kernel
theorem dX15_statementSort_199 : decode cX15_statementSort 199 = .ok (.getfield 555, 3) := by decide +kernel
theorem dX15_statementSort_202 : decode cX15_statementSort 202 = .ok (.iload_n 2, 1) := by decide +kernel
theorem dX15_statementSort_203 : decode cX15_statementSort 203 = .ok (.ifCond .ne 7, 3) := by decide +kernel
theorem dX15_statementSort_206 : decode cX15_statementSort 206 = .ok (.iconst 1, 1) := by decide +kernel
theorem dX15_statementSort_207 : decode cX15_statementSort 207 = .ok (.goto 4, 3) := by decide +kernel
theorem dX15_statementSort_210 : decode cX15_statementSort 210 = .ok (.iload_n 2, 1) := by decide +kernel
theorem dX15_statementSort_211 : decode cX15_statementSort 211 = .ok (.iadd, 1) := by decide +kernel
theorem dX15_statementSort_212 : decode cX15_statementSort 212 = .ok (.putfield 555, 3) := by decide +kernel
theorem dX15_statementSort_215 : decode cX15_statementSort 215 = .ok (.goto 506, 3) := by decide +kernel
theorem dX15_statementSort_218 : decode cX15_statementSort 218 = .ok (.aload_n 0, 1) := by decide +kernel
theorem dX15_statementSort_219 : decode cX15_statementSort 219 = .ok (.getfield 34, 3) := by decide +kernel
theorem dX15_statementSort_222 : decode cX15_statementSort 222 = .ok (.iload_n 1, 1) := by decide +kernel
theorem dX15_statementSort_223 : decode cX15_statementSort 223 = .ok (.laload, 1) := by decide +kernel
theorem dX15_statementSort_224 : decode cX15_statementSort 224 = .ok (.ldc2_w 499, 3) := by decide +kernel
theorem dX15_statementSort_227 : decode cX15_statementSort 227 = .ok (.lcmp, 1) := by decide +kernel
theorem dX15_statementSort_228 : decode cX15_statementSort 228 = .ok (.ifCond .lt 23, 3) := by decide +kernel
theorem dX15_statementSort_231 : decode cX15_statementSort 231 = .ok (.aload_n 0, 1) := by decide +kernel
theorem dX15_statementSort_232 : decode cX15_statementSort 232 = .ok (.aload_n 0, 1) := by decide +kernel
theorem dX15_statementSort_233 : decode cX15_statementSort 233 = .ok (.getfield 28, 3) := by decide +kernel
theorem dX15_statementSort_236 : decode cX15_statementSort 236 = .ok (.iload_n 1, 1) := by decide +kernel
theorem dX15_statementSort_237 : decode cX15_statementSort 237 = .ok (.iaload, 1) := by decide +kernel
theorem dX15_statementSort_238 : decode cX15_statementSort 238 = .ok (.invokevirtual 574, 3) := by decide +kernel
theorem dX15_statementSort_241 : decode cX15_statementSort 241 = .ok (.aload_n 0, 1) := by decide +kernel
theorem dX15_statementSort_242 : decode cX15_statementSort 242 = .ok (.dup, 1) := by decide +kernel
theorem dX15_statementSort_243 : decode cX15_statementSort 243 = .ok (.getfield 540, 3) := by decide +kernel
theorem dX15_statementSort_246 : decode cX15_statementSort 246 = .ok (.iconst 1, 1) := by decide +kernel
theorem dX15_statementSort_247 : decode cX15_statementSort 247 = .ok (.isub, 1) := by decide +kernel
theorem dX15_statementSort_248 : decode cX15_statementSort 248 = .ok (.putfield 540, 3) := by decide +kernel
theorem dX15_statementSort_251 : decode cX15_statementSort 251 = .ok (.aload_n 0, 1) := by decide +kernel
theorem dX15_statementSort_252 : decode cX15_statementSort 252 = .ok (.getfield 323, 3) := by decide +kernel
theorem dX15_statementSort_255 : decode cX15_statementSort 255 = .ok (.ifCond .ne 466, 3) := by decide +kernel
theorem dX15_statementSort_258 : decode cX15_statementSort 258 = .ok (.aload_n 0, 1) := by decide +kernel
theorem dX15_statementSort_259 : decode cX15_statementSort 259 = .ok (.aload_n 0, 1) := by decide +kernel
theorem dX15_statementSort_260 : decode cX15_statementSort 260 = .ok (.getfield 25, 3) := by decide +kernel
theorem dX15_statementSort_263 : decode cX15_statementSort 263 = .ok (.iload_n 1, 1) := by decide +kernel
theorem dX15_statementSort_264 : decode cX15_statementSort 264 = .ok (.iaload, 1) := by decide +kernel
theorem dX15_statementSort_265 : decode cX15_statementSort 265 = .ok (.iconst 2, 1) := by decide +kernel
theorem dX15_statementSort_266 : decode cX15_statementSort 266 = .ok (.aload_n 0, 1) := by decide +kernel
theorem dX15_statementSort_267 : decode cX15_statementSort 267 = .ok (.getfield 28, 3) := by decide +kernel
theorem dX15_statementSort_270 : decode cX15_statementSort 270 = .ok (.iload_n 1, 1) := by decide +kernel
theorem dX15_statementSort_271 : decode cX15_statementSort 271 = .ok (.iaload, 1) := by decide +kernel
theorem dX15_statementSort_272 : decode cX15_statementSort 272 = .ok (.aload_n 0, 1) := by decide +kernel
theorem dX15_statementSort_273 : decode cX15_statementSort 273 = .ok (.getfield 34, 3) := by decide +kernel
theorem dX15_statementSort_276 : decode cX15_statementSort 276 = .ok (.iload_n 1, 1) := by decide +kernel
theorem dX15_statementSort_277 : decode cX15_statementSort 277 = .ok (.laload, 1) := by decide +kernel
theorem dX15_statementSort_278 : decode cX15_statementSort 278 = .ok (.bipush 8, 2) := by decide +kernel
theorem dX15_statementSort_280 : decode cX15_statementSort 280 = .ok (.lshr, 1) := by decide +kernel
theorem dX15_statementSort_281 : decode cX15_statementSort 281 = .ok (.ldc2_w 606, 3) := by decide +kernel
theorem dX15_statementSort_284 : decode cX15_statementSort 284 = .ok (.land, 1) := by decide +kernel
theorem dX15_statementSort_285 : decode cX15_statementSort 285 = .ok (.l2i, 1) := by decide +kernel
theorem dX15_statementSort_286 : decode cX15_statementSort 286 = .ok (.aload_n 0, 1) := by decide +kernel
theorem dX15_statementSort_287 : decode cX15_statementSort 287 = .ok (.getfield 56, 3) := by decide +kernel
theorem dX15_statementSort_290 : decode cX15_statementSort 290 = .ok (.iload_n 1, 1) := by decide +kernel
theorem dX15_statementSort_291 : decode cX15_statementSort 291 = .ok (.iaload, 1) := by decide +kernel
theorem dX15_statementSort_292 : decode cX15_statementSort 292 = .ok (.invokevirtual 608, 3) := by decide +kernel
theorem dX15_statementSort_295 : decode cX15_statementSort 295 = .ok (.istore_n 2, 1) := by decide +kernel
theorem dX15_statementSort_296 : decode cX15_statementSort 296 = .ok (.goto 425, 3) := by decide +kernel
theorem dX15_statementSort_299 : decode cX15_statementSort 299 = .ok (.aload_n 0, 1) := by decide +kernel
theorem dX15_statementSort_300 : decode cX15_statementSort 300 = .ok (.iconst 1, 1) := by decide +kernel
theorem dX15_statementSort_301 : decode cX15_statementSort 301 = .ok (.putfield 537, 3) := by decide +kernel
theorem dX15_statementSort_304 : decode cX15_statementSort 304 = .ok (.aload_n 0, 1) := by decide +kernel
theorem dX15_statementSort_305 : decode cX15_statementSort 305 = .ok (.getfield 598, 3) := by decide +kernel
theorem dX15_statementSort_308 : decode cX15_statementSort 308 = .ok (.istore_n 2, 1) := by decide +kernel
theorem dX15_statementSort_309 : decode cX15_statementSort 309 = .ok (.iload_n 2, 1) := by decide +kernel
theorem dX15_statementSort_310 : decode cX15_statementSort 310 = .ok (.aload_n 0, 1) := by decide +kernel
theorem dX15_statementSort_311 : decode cX15_statementSort 311 = .ok (.getfield 534, 3) := by decide +kernel
theorem dX15_statementSort_314 : decode cX15_statementSort 314 = .ok (.if_icmp .ge 16, 3) := by decide +kernel
theorem dX15_statementSort_317 : decode cX15_statementSort 317 = .ok (.aload_n 0, 1) := by decide +kernel
theorem dX15_statementSort_318 : decode cX15_statementSort 318 = .ok (.getfield 74, 3) := by decide +kernel
theorem dX15_statementSort_321 : decode cX15_statementSort 321 = .ok (.iload_n 2, 1) := by decide +kernel
theorem dX15_statementSort_322 : decode cX15_statementSort 322 = .ok (.iconst 1, 1) := by decide +kernel
theorem dX15_statementSort_323 : decode cX15_statementSort 323 = .ok (.bastore, 1) := by decide +kernel
theorem dX15_statementSort_324 : decode cX15_statementSort 324 = .ok (.iinc 2 1, 3) := by decide +kernel
theorem dX15_statementSort_327 : decode cX15_statementSort 327 = .ok (.goto (-18), 3) := by decide +kernel
theorem dX15_statementSort_330 : decode cX15_statementSort 330 = .ok (.goto 391, 3) := by decide +kernel
theorem dX15_statementSort_333 : decode cX15_statementSort 333 = .ok (.aload_n 0, 1) := by decide +kernel
theorem dX15_statementSort_334 : decode cX15_statementSort 334 = .ok (.aload_n 0, 1) := by decide +kernel
theorem dX15_statementSort_335 : decode cX15_statementSort 335 = .ok (.getfield 28, 3) := by decide +kernel
theorem dX15_statementSort_338 : decode cX15_statementSort 338 = .ok (.iload_n 1, 1) := by decide +kernel
theorem dX15_statementSort_339 : decode cX15_statementSort 339 = .ok (.iaload, 1) := by decide +kernel
theorem dX15_statementSort_340 : decode cX15_statementSort 340 = .ok (.invokevirtual 574, 3) := by decide +kernel
theorem dX15_statementSort_343 : decode cX15_statementSort 343 = .ok (.aload_n 0, 1) := by decide +kernel
theorem dX15_statementSort_344 : decode cX15_statementSort 344 = .ok (.dup, 1) := by decide +kernel
theorem dX15_statementSort_345 : decode cX15_statementSort 345 = .ok (.getfield 540, 3) := by decide +kernel
theorem dX15_statementSort_348 : decode cX15_statementSort 348 = .ok (.iconst 1, 1) := by decide +kernel
theorem dX15_statementSort_349 : decode cX15_statementSort 349 = .ok (.isub, 1) := by decide +kernel
theorem dX15_statementSort_350 : decode cX15_statementSort 350 = .ok (.putfield 540, 3) := by decide +kernel
theorem dX15_statementSort_353 : decode cX15_statementSort 353 = .ok (.aload_n 0, 1) := by decide +kernel
theorem dX15_statementSort_354 : decode cX15_statementSort 354 = .ok (.iconst 0, 1) := by decide +kernel
theorem dX15_statementSort_355 : decode cX15_statementSort 355 = .ok (.putfield 537, 3) := by decide +kernel
theorem dX15_statementSort_358 : decode cX15_statementSort 358 = .ok (.aload_n 0, 1) := by decide +kernel
theorem dX15_statementSort_359 : decode cX15_statementSort 359 = .ok (.aload_n 0, 1) := by decide +kernel
theorem dX15_statementSort_360 : decode cX15_statementSort 360 = .ok (.getfield 598, 3) := by decide +kernel
theorem dX15_statementSort_363 : decode cX15_statementSort 363 = .ok (.putfield 534, 3) := by decide +kernel
theorem dX15_statementSort_366 : decode cX15_statementSort 366 = .ok (.aload_n 0, 1) := by decide +kernel
theorem dX15_statementSort_367 : decode cX15_statementSort 367 = .ok (.getfield 323, 3) := by decide +kernel
theorem dX15_statementSort_370 : decode cX15_statementSort 370 = .ok (.ifCond .ne 351, 3) := by decide +kernel
theorem dX15_statementSort_373 : decode cX15_statementSort 373 = .ok (.aload_n 0, 1) := by decide +kernel
theorem dX15_statementSort_374 : decode cX15_statementSort 374 = .ok (.aload_n 0, 1) := by decide +kernel
theorem dX15_statementSort_375 : decode cX15_statementSort 375 = .ok (.getfield 25, 3) := by decide +kernel
theorem dX15_statementSort_378 : decode cX15_statementSort 378 = .ok (.iload_n 1, 1) := by decide +kernel
theorem dX15_statementSort_379 : decode cX15_statementSort 379 = .ok (.iaload, 1) := by decide +kernel
theorem dX15_statementSort_380 : decode cX15_statementSort 380 = .ok (.iconst 5, 1) := by decide +kernel
theorem dX15_statementSort_381 : decode cX15_statementSort 381 = .ok (.aload_n 0, 1) := by decide +kernel
theorem dX15_statementSort_382 : decode cX15_statementSort 382 = .ok (.getfield 28, 3) := by decide +kernel
theorem dX15_statementSort_385 : decode cX15_statementSort 385 = .ok (.iload_n 1, 1) := by decide +kernel
theorem dX15_statementSort_386 : decode cX15_statementSort 386 = .ok (.iaload, 1) := by decide +kernel
theorem dX15_statementSort_387 : decode cX15_statementSort 387 = .ok (.iconst 0, 1) := by decide +kernel
theorem dX15_statementSort_388 : decode cX15_statementSort 388 = .ok (.aload_n 0, 1) := by decide +kernel
theorem dX15_statementSort_389 : decode cX15_statementSort 389 = .ok (.getfield 601, 3) := by decide +kernel
theorem dX15_statementSort_392 : decode cX15_statementSort 392 = .ok (.invokevirtual 608, 3) := by decide +kernel
theorem dX15_statementSort_395 : decode cX15_statementSort 395 = .ok (.istore_n 2, 1) := by decide +kernel
theorem dX15_statementSort_396 : decode cX15_statementSort 396 = .ok (.aload_n 0, 1) := by decide +kernel
theorem dX15_statementSort_397 : decode cX15_statementSort 397 = .ok (.getfield 78, 3) := by decide +kernel
theorem dX15_statementSort_400 : decode cX15_statementSort 400 = .ok (.iload_n 2, 1) := by decide +kernel
theorem dX15_statementSort_401 : decode cX15_statementSort 401 = .ok (.aload_n 0, 1) := by decide +kernel
theorem dX15_statementSort_402 : decode cX15_statementSort 402 = .ok (.getfield 595, 3) := by decide +kernel
theorem dX15_statementSort_405 : decode cX15_statementSort 405 = .ok (.iastore, 1) := by decide +kernel
theorem dX15_statementSort_406 : decode cX15_statementSort 406 = .ok (.aload_n 0, 1) := by decide +kernel
theorem dX15_statementSort_407 : decode cX15_statementSort 407 = .ok (.getfield 81, 3) := by decide +kernel
theorem dX15_statementSort_410 : decode cX15_statementSort 410 = .ok (.iload_n 2, 1) := by decide +kernel
theorem dX15_statementSort_411 : decode cX15_statementSort 411 = .ok (.aload_n 0, 1) := by decide +kernel
theorem dX15_statementSort_412 : decode cX15_statementSort 412 = .ok (.getfield 552, 3) := by decide +kernel
theorem dX15_statementSort_415 : decode cX15_statementSort 415 = .ok (.aload_n 0, 1) := by decide +kernel
theorem dX15_statementSort_416 : decode cX15_statementSort 416 = .ok (.getfield 595, 3) := by decide +kernel
theorem dX15_statementSort_419 : decode cX15_statementSort 419 = .ok (.isub, 1) := by decide +kernel
theorem dX15_statementSort_420 : decode cX15_statementSort 420 = .ok (.iastore, 1) := by decide +kernel
theorem dX15_statementSort_421 : decode cX15_statementSort 421 = .ok (.goto 300, 3) := by decide +kernel
theorem dX15_statementSort_424 : decode cX15_statementSort 424 = .ok (.aload_n 0, 1) := by decide +kernel
theorem dX15_statementSort_425 : decode cX15_statementSort 425 = .ok (.getfield 28, 3) := by decide +kernel
theorem dX15_statementSort_428 : decode cX15_statementSort 428 = .ok (.iload_n 1, 1) := by decide +kernel
theorem dX15_statementSort_429 : decode cX15_statementSort 429 = .ok (.aload_n 0, 1) := by decide +kernel
theorem dX15_statementSort_430 : decode cX15_statementSort 430 = .ok (.getfield 84, 3) := by decide +kernel
theorem dX15_statementSort_433 : decode cX15_statementSort 433 = .ok (.aload_n 0, 1) := by decide +kernel
theorem dX15_statementSort_434 : decode cX15_statementSort 434 = .ok (.getfield 540, 3) := by decide +kernel
theorem dX15_statementSort_437 : decode cX15_statementSort 437 = .ok (.iconst 1, 1) := by decide +kernel
theorem dX15_statementSort_438 : decode cX15_statementSort 438 = .ok (.isub, 1) := by decide +kernel
theorem dX15_statementSort_439 : decode cX15_statementSort 439 = .ok (.iaload, 1) := by decide +kernel
theorem dX15_statementSort_440 : decode cX15_statementSort 440 = .ok (.iastore, 1) := by decide +kernel
theorem dX15_statementSort_441 : decode cX15_statementSort 441 = .ok (.aload_n 0, 1) := by decide +kernel
theorem dX15_statementSort_442 : decode cX15_statementSort 442 = .ok (.dup, 1) := by decide +kernel
theorem dX15_statementSort_443 : decode cX15_statementSort 443 = .ok (.getfield 540, 3) := by decide +kernel
theorem dX15_statementSort_446 : decode cX15_statementSort 446 = .ok (.iconst 1, 1) := by decide +kernel
theorem dX15_statementSort_447 : decode cX15_statementSort 447 = .ok (.isub, 1) := by decide +kernel
theorem dX15_statementSort_448 : decode cX15_statementSort 448 = .ok (.putfield 540, 3) := by decide +kernel
theorem dX15_statementSort_451 : decode cX15_statementSort 451 = .ok (.goto 270, 3) := by decide +kernel
theorem dX15_statementSort_454 : decode cX15_statementSort 454 = .ok (.aload_n 0, 1) := by decide +kernel
theorem dX15_statementSort_455 : decode cX15_statementSort 455 = .ok (.iload_n 1, 1) := by decide +kernel
theorem dX15_statementSort_456 : decode cX15_statementSort 456 = .ok (.invokevirtual 612, 3) := by decide +kernel
theorem dX15_statementSort_459 : decode cX15_statementSort 459 = .ok (.goto 262, 3) := by decide +kernel
theorem dX15_statementSort_462 : decode cX15_statementSort 462 = .ok (.aload_n 0, 1) := by decide +kernel
theorem dX15_statementSort_463 : decode cX15_statementSort 463 = .ok (.iload_n 1, 1) := by decide +kernel
theorem dX15_statementSort_464 : decode cX15_statementSort 464 = .ok (.aload_n 0, 1) := by decide +kernel
theorem dX15_statementSort_465 : decode cX15_statementSort 465 = .ok (.aload_n 0, 1) := by decide +kernel
theorem dX15_statementSort_466 : decode cX15_statementSort 466 = .ok (.getfield 25, 3) := by decide +kernel
theorem dX15_statementSort_469 : decode cX15_statementSort 469 = .ok (.iload_n 1, 1) := by decide +kernel
theorem dX15_statementSort_470 : decode cX15_statementSort 470 = .ok (.iaload, 1) := by decide +kernel
theorem dX15_statementSort_471 : decode cX15_statementSort 471 = .ok (.invokevirtual 543, 3) := by decide +kernel
theorem dX15_statementSort_474 : decode cX15_statementSort 474 = .ok (.invokevirtual 571, 3) := by decide +kernel
theorem dX15_statementSort_477 : decode cX15_statementSort 477 = .ok (.aload_n 0, 1) := by decide +kernel
theorem dX15_statementSort_478 : decode cX15_statementSort 478 = .ok (.aload_n 0, 1) := by decide +kernel
theorem dX15_statementSort_479 : decode cX15_statementSort 479 = .ok (.getfield 105, 3) := by decide +kernel
theorem dX15_statementSort_482 : decode cX15_statementSort 482 = .ok (.iload_n 1, 1) := by decide +kernel
theorem dX15_statementSort_483 : decode cX15_statementSort 483 = .ok (.iaload, 1) := by decide +kernel
theorem dX15_statementSort_484 : decode cX15_statementSort 484 = .ok (.invokevirtual 574, 3) := by decide +kernel
theorem dX15_statementSort_487 : decode cX15_statementSort 487 = .ok (.aload_n 0, 1) := by decide +kernel
theorem dX15_statementSort_488 : decode cX15_statementSort 488 = .ok (.dup, 1) := by decide +kernel
theorem dX15_statementSort_489 : decode cX15_statementSort 489 = .ok (.getfield 540, 3) := by decide +kernel
theorem dX15_statementSort_492 : decode cX15_statementSort 492 = .ok (.iconst 1, 1) := by decide +kernel
theorem dX15_statementSort_493 : decode cX15_statementSort 493 = .ok (.isub, 1) := by decide +kernel
theorem dX15_statementSort_494 : decode cX15_statementSort 494 = .ok (.putfield 540, 3) := by decide +kernel
theorem dX15_statementSort_497 : decode cX15_statementSort 497 = .ok (.goto 224, 3) := by decide +kernel
theorem dX15_statementSort_500 : decode cX15_statementSort 500 = .ok (.aload_n 0, 1) := by decide +kernel
theorem dX15_statementSort_501 : decode cX15_statementSort 501 = .ok (.iload_n 1, 1) := by decide +kernel
theorem dX15_statementSort_502 : decode cX15_statementSort 502 = .ok (.invokevirtual 615, 3) := by decide +kernel
theorem dX15_statementSort_505 : decode cX15_statementSort 505 = .ok (.goto 216, 3) := by decide +kernel
theorem dX15_statementSort_508 : decode cX15_statementSort 508 = .ok (.aload_n 0, 1) := by decide +kernel
theorem dX15_statementSort_509 : decode cX15_statementSort 509 = .ok (.iconst 0, 1) := by decide +kernel
theorem dX15_statementSort_510 : decode cX15_statementSort 510 = .ok (.invokevirtual 574, 3) := by decide +kernel
theorem dX15_statementSort_513 : decode cX15_statementSort 513 = .ok (.aload_n 0, 1) := by decide +kernel
theorem dX15_statementSort_514 : decode cX15_statementSort 514 = .ok (.iload_n 1, 1) := by decide +kernel
theorem dX15_statementSort_515 : decode cX15_statementSort 515 = .ok (.aload_n 0, 1) := by decide +kernel
theorem dX15_statementSort_516 : decode cX15_statementSort 516 = .ok (.aload_n 0, 1) := by decide +kernel
theorem dX15_statementSort_517 : decode cX15_statementSort 517 = .ok (.getfield 25, 3) := by decide +kernel
theorem dX15_statementSort_520 : decode cX15_statementSort 520 = .ok (.iload_n 1, 1) := by decide +kernel
theorem dX15_statementSort_521 : decode cX15_statementSort 521 = .ok (.iaload, 1) := by decide +kernel
theorem dX15_statementSort_522 : decode cX15_statementSort 522 = .ok (.invokevirtual 543, 3) := by decide +kernel
theorem dX15_statementSort_525 : decode cX15_statementSort 525 = .ok (.invokevirtual 571, 3) := by decide +kernel
theorem dX15_statementSort_528 : decode cX15_statementSort 528 = .ok (.aload_n 0, 1) := by decide +kernel
theorem dX15_statementSort_529 : decode cX15_statementSort 529 = .ok (.getfield 108, 3) := by decide +kernel
theorem dX15_statementSort_532 : decode cX15_statementSort 532 = .ok (.iload_n 1, 1) := by decide +kernel
theorem dX15_statementSort_533 : decode cX15_statementSort 533 = .ok (.aload_n 0, 1) := by decide +kernel
theorem dX15_statementSort_534 : decode cX15_statementSort 534 = .ok (.getfield 87, 3) := by decide +kernel
theorem dX15_statementSort_537 : decode cX15_statementSort 537 = .ok (.aload_n 0, 1) := by decide +kernel
theorem dX15_statementSort_538 : decode cX15_statementSort 538 = .ok (.getfield 540, 3) := by decide +kernel
theorem dX15_statementSort_541 : decode cX15_statementSort 541 = .ok (.iconst 1, 1) := by decide +kernel
theorem dX15_statementSort_542 : decode cX15_statementSort 542 = .ok (.isub, 1) := by decide +kernel
theorem dX15_statementSort_543 : decode cX15_statementSort 543 = .ok (.iaload, 1) := by decide +kernel
theorem dX15_statementSort_544 : decode cX15_statementSort 544 = .ok (.iastore, 1) := by decide +kernel
theorem dX15_statementSort_545 : decode cX15_statementSort 545 = .ok (.aload_n 0, 1) := by decide +kernel
theorem dX15_statementSort_546 : decode cX15_statementSort 546 = .ok (.getfield 111, 3) := by decide +kernel
theorem dX15_statementSort_549 : decode cX15_statementSort 549 = .ok (.iload_n 1, 1) := by decide +kernel
theorem dX15_statementSort_550 : decode cX15_statementSort 550 = .ok (.aload_n 0, 1) := by decide +kernel
theorem dX15_statementSort_551 : decode cX15_statementSort 551 = .ok (.getfield 90, 3) := by decide +kernel
theorem dX15_statementSort_554 : decode cX15_statementSort 554 = .ok (.aload_n 0, 1) := by decide +kernel
theorem dX15_statementSort_555 : decode cX15_statementSort 555 = .ok (.getfield 540, 3) := by decide +kernel
theorem dX15_statementSort_558 : decode cX15_statementSort 558 = .ok (.iconst 1, 1) := by decide +kernel
theorem dX15_statementSort_559 : decode cX15_statementSort 559 = .ok (.isub, 1) := by decide +kernel
theorem dX15_statementSort_560 : decode cX15_statementSort 560 = .ok (.baload, 1) := by decide +kernel
theorem dX15_statementSort_561 : decode cX15_statementSort 561 = .ok (.bastore, 1) := by decide +kernel
theorem dX15_statementSort_562 : decode cX15_statementSort 562 = .ok (.goto 159, 3) := by decide +kernel
theorem dX15_statementSort_565 : decode cX15_statementSort 565 = .ok (.aload_n 0, 1) := by decide +kernel
theorem dX15_statementSort_566 : decode cX15_statementSort 566 = .ok (.iconst 1, 1) := by decide +kernel
theorem dX15_statementSort_567 : decode cX15_statementSort 567 = .ok (.invokevirtual 574, 3) := by decide +kernel
theorem dX15_statementSort_570 : decode cX15_statementSort 570 = .ok (.aload_n 0, 1) := by decide +kernel
theorem dX15_statementSort_571 : decode cX15_statementSort 571 = .ok (.dup, 1) := by decide +kernel
theorem dX15_statementSort_572 : decode cX15_statementSort 572 = .ok (.getfield 540, 3) := by decide +kernel
theorem dX15_statementSort_575 : decode cX15_statementSort 575 = .ok (.iconst 1, 1) := by decide +kernel
theorem dX15_statementSort_576 : decode cX15_statementSort 576 = .ok (.isub, 1) := by decide +kernel
theorem dX15_statementSort_577 : decode cX15_statementSort 577 = .ok (.putfield 540, 3) := by decide +kernel
theorem dX15_statementSort_580 : decode cX15_statementSort 580 = .ok (.aload_n 0, 1) := by decide +kernel
theorem dX15_statementSort_581 : decode cX15_statementSort 581 = .ok (.getfield 93, 3) := by decide +kernel
theorem dX15_statementSort_584 : decode cX15_statementSort 584 = .ok (.aload_n 0, 1) := by decide +kernel
theorem dX15_statementSort_585 : decode cX15_statementSort 585 = .ok (.getfield 546, 3) := by decide +kernel
theorem dX15_statementSort_588 : decode cX15_statementSort 588 = .ok (.aload_n 0, 1) := by decide +kernel
theorem dX15_statementSort_589 : decode cX15_statementSort 589 = .ok (.getfield 534, 3) := by decide +kernel
theorem dX15_statementSort_592 : decode cX15_statementSort 592 = .ok (.iastore, 1) := by decide +kernel
theorem dX15_statementSort_593 : decode cX15_statementSort 593 = .ok (.aload_n 0, 1) := by decide +kernel
theorem dX15_statementSort_594 : decode cX15_statementSort 594 = .ok (.dup, 1) := by decide +kernel
theorem dX15_statementSort_595 : decode cX15_statementSort 595 = .ok (.getfield 546, 3) := by decide +kernel
theorem dX15_statementSort_598 : decode cX15_statementSort 598 = .ok (.iconst 1, 1) := by decide +kernel
theorem dX15_statementSort_599 : decode cX15_statementSort 599 = .ok (.iadd, 1) := by decide +kernel
theorem dX15_statementSort_600 : decode cX15_statementSort 600 = .ok (.putfield 546, 3) := by decide +kernel
theorem dX15_statementSort_603 : decode cX15_statementSort 603 = .ok (.goto 118, 3) := by decide +kernel
theorem dX15_statementSort_606 : decode cX15_statementSort 606 = .ok (.aload_n 0, 1) := by decide +kernel
theorem dX15_statementSort_607 : decode cX15_statementSort 607 = .ok (.aload_n 0, 1) := by decide +kernel
theorem dX15_statementSort_608 : decode cX15_statementSort 608 = .ok (.getfield 93, 3) := by decide +kernel
theorem dX15_statementSort_611 : decode cX15_statementSort 611 = .ok (.aload_n 0, 1) := by decide +kernel
theorem dX15_statementSort_612 : decode cX15_statementSort 612 = .ok (.getfield 546, 3) := by decide +kernel
theorem dX15_statementSort_615 : decode cX15_statementSort 615 = .ok (.iconst 1, 1) := by decide +kernel
theorem dX15_statementSort_616 : decode cX15_statementSort 616 = .ok (.isub, 1) := by decide +kernel
theorem dX15_statementSort_617 : decode cX15_statementSort 617 = .ok (.iaload, 1) := by decide +kernel
theorem dX15_statementSort_618 : decode cX15_statementSort 618 = .ok (.putfield 534, 3) := by decide +kernel
theorem dX15_statementSort_621 : decode cX15_statementSort 621 = .ok (.goto 100, 3) := by decide +kernel
theorem dX15_statementSort_624 : decode cX15_statementSort 624 = .ok (.aload_n 0, 1) := by decide +kernel
theorem dX15_statementSort_625 : decode cX15_statementSort 625 = .ok (.iload_n 1, 1) := by decide +kernel
theorem dX15_statementSort_626 : decode cX15_statementSort 626 = .ok (.invokevirtual 592, 3) := by decide +kernel
theorem dX15_statementSort_629 : decode cX15_statementSort 629 = .ok (.goto 92, 3) := by decide +kernel
theorem dX15_statementSort_632 : decode cX15_statementSort 632 = .ok (.aload_n 0, 1) := by decide +kernel
theorem dX15_statementSort_633 : decode cX15_statementSort 633 = .ok (.iconst 0, 1) := by decide +kernel
theorem dX15_statementSort_634 : decode cX15_statementSort 634 = .ok (.invokevirtual 574, 3) := by decide +kernel
theorem dX15_statementSort_637 : decode cX15_statementSort 637 = .ok (.aload_n 0, 1) := by decide +kernel
theorem dX15_statementSort_638 : decode cX15_statementSort 638 = .ok (.invokevirtual 589, 3) := by decide +kernel
theorem dX15_statementSort_641 : decode cX15_statementSort 641 = .ok (.goto 80, 3) := by decide +kernel
theorem dX15_statementSort_644 : decode cX15_statementSort 644 = .ok (.aload_n 0, 1) := by decide +kernel
theorem dX15_statementSort_645 : decode cX15_statementSort 645 = .ok (.dup, 1) := by decide +kernel
theorem dX15_statementSort_646 : decode cX15_statementSort 646 = .ok (.getfield 540, 3) := by decide +kernel
theorem dX15_statementSort_649 : decode cX15_statementSort 649 = .ok (.iconst 2, 1) := by decide +kernel
theorem dX15_statementSort_650 : decode cX15_statementSort 650 = .ok (.isub, 1) := by decide +kernel
theorem dX15_statementSort_651 : decode cX15_statementSort 651 = .ok (.putfield 540, 3) := by decide +kernel
theorem dX15_statementSort_654 : decode cX15_statementSort 654 = .ok (.aload_n 0, 1) := by decide +kernel
theorem dX15_statementSort_655 : decode cX15_statementSort 655 = .ok (.getfield 93, 3) := by decide +kernel
theorem dX15_statementSort_658 : decode cX15_statementSort 658 = .ok (.aload_n 0, 1) := by decide +kernel
theorem dX15_statementSort_659 : decode cX15_statementSort 659 = .ok (.getfield 546, 3) := by decide +kernel
theorem dX15_statementSort_662 : decode cX15_statementSort 662 = .ok (.aload_n 0, 1) := by decide +kernel
theorem dX15_statementSort_663 : decode cX15_statementSort 663 = .ok (.getfield 534, 3) := by decide +kernel
theorem dX15_statementSort_666 : decode cX15_statementSort 666 = .ok (.iastore, 1) := by decide +kernel
theorem dX15_statementSort_667 : decode cX15_statementSort 667 = .ok (.aload_n 0, 1) := by decide +kernel
theorem dX15_statementSort_668 : decode cX15_statementSort 668 = .ok (.dup, 1) := by decide +kernel
theorem dX15_statementSort_669 : decode cX15_statementSort 669 = .ok (.getfield 546, 3) := by decide +kernel
theorem dX15_statementSort_672 : decode cX15_statementSort 672 = .ok (.iconst 1, 1) := by decide +kernel
theorem dX15_statementSort_673 : decode cX15_statementSort 673 = .ok (.iadd, 1) := by decide +kernel
theorem dX15_statementSort_674 : decode cX15_statementSort 674 = .ok (.putfield 546, 3) := by decide +kernel
theorem dX15_statementSort_677 : decode cX15_statementSort 677 = .ok (.aload_n 0, 1) := by decide +kernel
theorem dX15_statementSort_678 : decode cX15_statementSort 678 = .ok (.aload_n 0, 1) := by decide +kernel
theorem dX15_statementSort_679 : decode cX15_statementSort 679 = .ok (.getfield 25, 3) := by decide +kernel
theorem dX15_statementSort_682 : decode cX15_statementSort 682 = .ok (.iload_n 1, 1) := by decide +kernel
theorem dX15_statementSort_683 : decode cX15_statementSort 683 = .ok (.iaload, 1) := by decide +kernel
theorem dX15_statementSort_684 : decode cX15_statementSort 684 = .ok (.iconst 3, 1) := by decide +kernel
theorem dX15_statementSort_685 : decode cX15_statementSort 685 = .ok (.iconst 0, 1) := by decide +kernel
theorem dX15_statementSort_686 : decode cX15_statementSort 686 = .ok (.iconst 0, 1) := by decide +kernel
theorem dX15_statementSort_687 : decode cX15_statementSort 687 = .ok (.iload_n 1, 1) := by decide +kernel
theorem dX15_statementSort_688 : decode cX15_statementSort 688 = .ok (.invokevirtual 608, 3) := by decide +kernel
theorem dX15_statementSort_691 : decode cX15_statementSort 691 = .ok (.istore_n 2, 1) := by decide +kernel
theorem dX15_statementSort_692 : decode cX15_statementSort 692 = .ok (.goto 29, 3) := by decide +kernel
theorem dX15_statementSort_695 : decode cX15_statementSort 695 = .ok (.aload_n 0, 1) := by decide +kernel
theorem dX15_statementSort_696 : decode cX15_statementSort 696 = .ok (.dup, 1) := by decide +kernel
theorem dX15_statementSort_697 : decode cX15_statementSort 697 = .ok (.getfield 546, 3) := by decide +kernel
theorem dX15_statementSort_700 : decode cX15_statementSort 700 = .ok (.iconst 1, 1) := by decide +kernel
theorem dX15_statementSort_701 : decode cX15_statementSort 701 = .ok (.isub, 1) := by decide +kernel
theorem dX15_statementSort_702 : decode cX15_statementSort 702 = .ok (.putfield 546, 3) := by decide +kernel
theorem dX15_statementSort_705 : decode cX15_statementSort 705 = .ok (.aload_n 0, 1) := by decide +kernel
theorem dX15_statementSort_706 : decode cX15_statementSort 706 = .ok (.aload_n 0, 1) := by decide +kernel
theorem dX15_statementSort_707 : decode cX15_statementSort 707 = .ok (.getfield 93, 3) := by decide +kernel
theorem dX15_statementSort_710 : decode cX15_statementSort 710 = .ok (.aload_n 0, 1) := by decide +kernel
theorem dX15_statementSort_711 : decode cX15_statementSort 711 = .ok (.getfield 546, 3) := by decide +kernel
theorem dX15_statementSort_714 : decode cX15_statementSort 714 = .ok (.iaload, 1) := by decide +kernel
theorem dX15_statementSort_715 : decode cX15_statementSort 715 = .ok (.putfield 534, 3) := by decide +kernel
theorem dX15_statementSort_718 : decode cX15_statementSort 718 = .ok (.goto 3, 3) := by decide +kernel
theorem dX15_statementSort_721 : decode cX15_statementSort 721 = .ok (.return_, 1) := by decide +kernel
theorem dX15_comes_0 : decode cX15_comes 0 = .ok (.aload_n 0, 1) := by decide +kernel
theorem dX15_comes_1 : decode cX15_comes 1 = .ok (.aload_n 0, 1) := by decide +kernel
theorem dX15_comes_2 : decode cX15_comes 2 = .ok (.getfield 25, 3) := by decide +kernel
theorem dX15_comes_5 : decode cX15_comes 5 = .ok (.iload_n 1, 1) := by decide +kernel
theorem dX15_comes_6 : decode cX15_comes 6 = .ok (.iaload, 1) := by decide +kernel
theorem dX15_comes_7 : decode cX15_comes 7 = .ok (.invokevirtual 543, 3) := by decide +kernel
theorem dX15_comes_10 : decode cX15_comes 10 = .ok (.iconst (-1), 1) := by decide +kernel
theorem dX15_comes_11 : decode cX15_comes 11 = .ok (.if_icmp .eq 14, 3) := by decide +kernel
theorem dX15_comes_14 : decode cX15_comes 14 = .ok (.aload_n 0, 1) := by decide +kernel
theorem dX15_comes_15 : decode cX15_comes 15 = .ok (.iconst 4, 1) := by decide +kernel
theorem dX15_comes_16 : decode cX15_comes 16 = .ok (.aload_n 0, 1) := by decide +kernel
theorem dX15_comes_17 : decode cX15_comes 17 = .ok (.getfield 31, 3) := by decide +kernel
theorem dX15_comes_20 : decode cX15_comes 20 = .ok (.iload_n 1, 1) := by decide +kernel
theorem dX15_comes_21 : decode cX15_comes 21 = .ok (.iaload, 1) := by decide +kernel
theorem dX15_comes_22 : decode cX15_comes 22 = .ok (.invokevirtual 390, 3) := by decide +kernel
theorem dX15_comes_25 : decode cX15_comes 25 = .ok (.return_, 1) := by decide +kernel
theorem dX15_paramSort_0 : decode cX15_paramSort 0 = .ok (.iconst 0, 1) := by decide +kernel
theorem dX15_paramSort_1 : decode cX15_paramSort 1 = .ok (.istore_n 2, 1) := by decide +kernel
theorem dX15_paramSort_2 : decode cX15_paramSort 2 = .ok (.aload_n 0, 1) := by decide +kernel
theorem dX15_paramSort_3 : decode cX15_paramSort 3 = .ok (.getfield 598, 3) := by decide +kernel
theorem dX15_paramSort_6 : decode cX15_paramSort 6 = .ok (.istore_n 3, 1) := by decide +kernel
theorem dX15_paramSort_7 : decode cX15_paramSort 7 = .ok (.iload_n 3, 1) := by decide +kernel
theorem dX15_paramSort_8 : decode cX15_paramSort 8 = .ok (.aload_n 0, 1) := by decide +kernel
theorem dX15_paramSort_9 : decode cX15_paramSort 9 = .ok (.getfield 534, 3) := by decide +kernel
theorem dX15_paramSort_12 : decode cX15_paramSort 12 = .ok (.if_icmp .ge 34, 3) := by decide +kernel
theorem dX15_paramSort_15 : decode cX15_paramSort 15 = .ok (.iload_n 2, 1) := by decide +kernel
theorem dX15_paramSort_16 : decode cX15_paramSort 16 = .ok (.ifCond .ne 18, 3) := by decide +kernel
theorem dX15_paramSort_19 : decode cX15_paramSort 19 = .ok (.aload_n 0, 1) := by decide +kernel
theorem dX15_paramSort_20 : decode cX15_paramSort 20 = .ok (.getfield 59, 3) := by decide +kernel
theorem dX15_paramSort_23 : decode cX15_paramSort 23 = .ok (.iload_n 3, 1) := by decide +kernel
theorem dX15_paramSort_24 : decode cX15_paramSort 24 = .ok (.iaload, 1) := by decide +kernel
theorem dX15_paramSort_25 : decode cX15_paramSort 25 = .ok (.aload_n 0, 1) := by decide +kernel
theorem dX15_paramSort_26 : decode cX15_paramSort 26 = .ok (.getfield 25, 3) := by decide +kernel
theorem dX15_paramSort_29 : decode cX15_paramSort 29 = .ok (.iload_n 1, 1) := by decide +kernel
theorem dX15_paramSort_30 : decode cX15_paramSort 30 = .ok (.iaload, 1) := by decide +kernel
theorem dX15_paramSort_31 : decode cX15_paramSort 31 = .ok (.if_icmp .ne 7, 3) := by decide +kernel
theorem dX15_paramSort_34 : decode cX15_paramSort 34 = .ok (.iconst 1, 1) := by decide +kernel
theorem dX15_paramSort_35 : decode cX15_paramSort 35 = .ok (.goto 4, 3) := by decide +kernel
theorem dX15_paramSort_38 : decode cX15_paramSort 38 = .ok (.iconst 0, 1) := by decide +kernel
theorem dX15_paramSort_39 : decode cX15_paramSort 39 = .ok (.istore_n 2, 1) := by decide +kernel
theorem dX15_paramSort_40 : decode cX15_paramSort 40 = .ok (.iinc 3 1, 3) := by decide +kernel
theorem dX15_paramSort_43 : decode cX15_paramSort 43 = .ok (.goto (-36), 3) := by decide +kernel
theorem dX15_paramSort_46 : decode cX15_paramSort 46 = .ok (.iconst 0, 1) := by decide +kernel
theorem dX15_paramSort_47 : decode cX15_paramSort 47 = .ok (.istore_n 3, 1) := by decide +kernel
theorem dX15_paramSort_48 : decode cX15_paramSort 48 = .ok (.iconst 0, 1) := by decide +kernel
theorem dX15_paramSort_49 : decode cX15_paramSort 49 = .ok (.istore 4, 2) := by decide +kernel
theorem dX15_paramSort_51 : decode cX15_paramSort 51 = .ok (.iload 4, 2) := by decide +kernel
theorem dX15_paramSort_53 : decode cX15_paramSort 53 = .ok (.aload_n 0, 1) := by decide +kernel
theorem dX15_paramSort_54 : decode cX15_paramSort 54 = .ok (.getfield 598, 3) := by decide +kernel
theorem dX15_paramSort_57 : decode cX15_paramSort 57 = .ok (.if_icmp .ge 56, 3) := by decide +kernel
theorem dX15_paramSort_60 : decode cX15_paramSort 60 = .ok (.iload_n 3, 1) := by decide +kernel
theorem dX15_paramSort_61 : decode cX15_paramSort 61 = .ok (.ifCond .ne 40, 3) := by decide +kernel
theorem dX15_paramSort_64 : decode cX15_paramSort 64 = .ok (.aload_n 0, 1) := by decide +kernel
theorem dX15_paramSort_65 : decode cX15_paramSort 65 = .ok (.getfield 74, 3) := by decide +kernel
theorem dX15_paramSort_68 : decode cX15_paramSort 68 = .ok (.iload 4, 2) := by decide +kernel
theorem dX15_paramSort_70 : decode cX15_paramSort 70 = .ok (.baload, 1) := by decide +kernel
theorem dX15_paramSort_71 : decode cX15_paramSort 71 = .ok (.ifCond .eq 34, 3) := by decide +kernel
theorem dX15_paramSort_74 : decode cX15_paramSort 74 = .ok (.aload_n 0, 1) := by decide +kernel
theorem dX15_paramSort_75 : decode cX15_paramSort 75 = .ok (.getfield 62, 3) := by decide +kernel
theorem dX15_paramSort_78 : decode cX15_paramSort 78 = .ok (.iload 4, 2) := by decide +kernel
theorem dX15_paramSort_80 : decode cX15_paramSort 80 = .ok (.iaload, 1) := by decide +kernel
theorem dX15_paramSort_81 : decode cX15_paramSort 81 = .ok (.iconst 5, 1) := by decide +kernel
theorem dX15_paramSort_82 : decode cX15_paramSort 82 = .ok (.if_icmp .ne 23, 3) := by decide +kernel
theorem dX15_paramSort_85 : decode cX15_paramSort 85 = .ok (.aload_n 0, 1) := by decide +kernel
theorem dX15_paramSort_86 : decode cX15_paramSort 86 = .ok (.getfield 59, 3) := by decide +kernel
theorem dX15_paramSort_89 : decode cX15_paramSort 89 = .ok (.iload 4, 2) := by decide +kernel
theorem dX15_paramSort_91 : decode cX15_paramSort 91 = .ok (.iaload, 1) := by decide +kernel
theorem dX15_paramSort_92 : decode cX15_paramSort 92 = .ok (.aload_n 0, 1) := by decide +kernel
theorem dX15_paramSort_93 : decode cX15_paramSort 93 = .ok (.getfield 25, 3) := by decide +kernel
theorem dX15_paramSort_96 : decode cX15_paramSort 96 = .ok (.iload_n 1, 1) := by decide +kernel
theorem dX15_paramSort_97 : decode cX15_paramSort 97 = .ok (.iaload, 1) := by decide +kernel
theorem dX15_paramSort_98 : decode cX15_paramSort 98 = .ok (.if_icmp .ne 7, 3) := by decide +kernel
theorem dX15_paramSort_101 : decode cX15_paramSort 101 = .ok (.iconst 1, 1) := by decide +kernel
theorem dX15_paramSort_102 : decode cX15_paramSort 102 = .ok (.goto 4, 3) := by decide +kernel
theorem dX15_paramSort_105 : decode cX15_paramSort 105 = .ok (.iconst 0, 1) := by decide +kernel
theorem dX15_paramSort_106 : decode cX15_paramSort 106 = .ok (.istore_n 3, 1) := by decide +kernel
theorem dX15_paramSort_107 : decode cX15_paramSort 107 = .ok (.iinc 4 1, 3) := by decide +kernel
theorem dX15_paramSort_110 : decode cX15_paramSort 110 = .ok (.goto (-59), 3) := by decide +kernel
theorem dX15_paramSort_113 : decode cX15_paramSort 113 = .ok (.iload_n 2, 1) := by decide +kernel
theorem dX15_paramSort_114 : decode cX15_paramSort 114 = .ok (.ifCond .ne 7, 3) := by decide +kernel
theorem dX15_paramSort_117 : decode cX15_paramSort 117 = .ok (.iload_n 3, 1) := by decide +kernel
theorem dX15_paramSort_118 : decode cX15_paramSort 118 = .ok (.ifCond .eq 15, 3) := by decide +kernel
theorem dX15_paramSort_121 : decode cX15_paramSort 121 = .ok (.aload_n 0, 1) := by decide +kernel
theorem dX15_paramSort_122 : decode cX15_paramSort 122 = .ok (.iconst 4, 1) := by decide +kernel
theorem dX15_paramSort_123 : decode cX15_paramSort 123 = .ok (.aload_n 0, 1) := by decide +kernel
theorem dX15_paramSort_124 : decode cX15_paramSort 124 = .ok (.getfield 31, 3) := by decide +kernel
theorem dX15_paramSort_127 : decode cX15_paramSort 127 = .ok (.iload_n 1, 1) := by decide +kernel
theorem dX15_paramSort_128 : decode cX15_paramSort 128 = .ok (.iaload, 1) := by decide +kernel
theorem dX15_paramSort_129 : decode cX15_paramSort 129 = .ok (.invokevirtual 390, 3) := by decide +kernel
theorem dX15_paramSort_132 : decode cX15_paramSort 132 = .ok (.return_, 1) := by decide +kernel
theorem dX15_paramSort_133 : decode cX15_paramSort 133 = .ok (.aload_n 0, 1) := by decide +kernel
theorem dX15_paramSort_134 : decode cX15_paramSort 134 = .ok (.getfield 120, 3) := by decide +kernel
theorem dX15_paramSort_137 : decode cX15_paramSort 137 = .ok (.aload_n 0, 1) := by decide +kernel
theorem dX15_paramSort_138 : decode cX15_paramSort 138 = .ok (.getfield 552, 3) := by decide +kernel
theorem dX15_paramSort_141 : decode cX15_paramSort 141 = .ok (.aload_n 0, 1) := by decide +kernel
theorem dX15_paramSort_142 : decode cX15_paramSort 142 = .ok (.getfield 28, 3) := by decide +kernel
theorem dX15_paramSort_145 : decode cX15_paramSort 145 = .ok (.iload_n 1, 1) := by decide +kernel
theorem dX15_paramSort_146 : decode cX15_paramSort 146 = .ok (.iaload, 1) := by decide +kernel
theorem dX15_paramSort_147 : decode cX15_paramSort 147 = .ok (.iastore, 1) := by decide +kernel
theorem dX15_paramSort_148 : decode cX15_paramSort 148 = .ok (.aload_n 0, 1) := by decide +kernel
theorem dX15_paramSort_149 : decode cX15_paramSort 149 = .ok (.dup, 1) := by decide +kernel
theorem dX15_paramSort_150 : decode cX15_paramSort 150 = .ok (.getfield 552, 3) := by decide +kernel
theorem dX15_paramSort_153 : decode cX15_paramSort 153 = .ok (.iconst 1, 1) := by decide +kernel
theorem dX15_paramSort_154 : decode cX15_paramSort 154 = .ok (.iadd, 1) := by decide +kernel
theorem dX15_paramSort_155 : decode cX15_paramSort 155 = .ok (.putfield 552, 3) := by decide +kernel
theorem dX15_paramSort_158 : decode cX15_paramSort 158 = .ok (.aload_n 0, 1) := by decide +kernel
theorem dX15_paramSort_159 : decode cX15_paramSort 159 = .ok (.aload_n 0, 1) := by decide +kernel
theorem dX15_paramSort_160 : decode cX15_paramSort 160 = .ok (.getfield 25, 3) := by decide +kernel
theorem dX15_paramSort_163 : decode cX15_paramSort 163 = .ok (.iload_n 1, 1) := by decide +kernel
theorem dX15_paramSort_164 : decode cX15_paramSort 164 = .ok (.iaload, 1) := by decide +kernel
theorem dX15_paramSort_165 : decode cX15_paramSort 165 = .ok (.iconst 4, 1) := by decide +kernel
theorem dX15_paramSort_166 : decode cX15_paramSort 166 = .ok (.aload_n 0, 1) := by decide +kernel
theorem dX15_paramSort_167 : decode cX15_paramSort 167 = .ok (.getfield 28, 3) := by decide +kernel
theorem dX15_paramSort_170 : decode cX15_paramSort 170 = .ok (.iload_n 1, 1) := by decide +kernel
theorem dX15_paramSort_171 : decode cX15_paramSort 171 = .ok (.iaload, 1) := by decide +kernel
theorem dX15_paramSort_172 : decode cX15_paramSort 172 = .ok (.iconst 0, 1) := by decide +kernel
theorem dX15_paramSort_173 : decode cX15_paramSort 173 = .ok (.aload_n 0, 1) := by decide +kernel
theorem dX15_paramSort_174 : decode cX15_paramSort 174 = .ok (.getfield 552, 3) := by decide +kernel
theorem dX15_paramSort_177 : decode cX15_paramSort 177 = .ok (.iconst 1, 1) := by decide +kernel
theorem dX15_paramSort_178 : decode cX15_paramSort 178 = .ok (.isub, 1) := by decide +kernel
theorem dX15_paramSort_179 : decode cX15_paramSort 179 = .ok (.aload_n 0, 1) := by decide +kernel
theorem dX15_paramSort_180 : decode cX15_paramSort 180 = .ok (.getfield 595, 3) := by decide +kernel
theorem dX15_paramSort_183 : decode cX15_paramSort 183 = .ok (.isub, 1) := by decide +kernel
theorem dX15_paramSort_184 : decode cX15_paramSort 184 = .ok (.invokevirtual 608, 3) := by decide +kernel
theorem dX15_paramSort_187 : decode cX15_paramSort 187 = .ok (.istore 4, 2) := by decide +kernel
theorem dX15_paramSort_189 : decode cX15_paramSort 189 = .ok (.aload_n 0, 1) := by decide +kernel
theorem dX15_paramSort_190 : decode cX15_paramSort 190 = .ok (.getfield 74, 3) := by decide +kernel
theorem dX15_paramSort_193 : decode cX15_paramSort 193 = .ok (.iload 4, 2) := by decide +kernel
theorem dX15_paramSort_195 : decode cX15_paramSort 195 = .ok (.iconst 0, 1) := by decide +kernel
theorem dX15_paramSort_196 : decode cX15_paramSort 196 = .ok (.bastore, 1) := by decide +kernel
theorem dX15_paramSort_197 : decode cX15_paramSort 197 = .ok (.return_, 1) := by decide +kernel
theorem dX15_symbol_0 : decode cX15_symbol 0 = .ok (.aload_n 0, 1) := by decide +kernel
theorem dX15_symbol_1 : decode cX15_symbol 1 = .ok (.getfield 59, 3) := by decide +kernel
theorem dX15_symbol_4 : decode cX15_symbol 4 = .ok (.aload_n 0, 1) := by decide +kernel
theorem dX15_symbol_5 : decode cX15_symbol 5 = .ok (.getfield 534, 3) := by decide +kernel
theorem dX15_symbol_8 : decode cX15_symbol 8 = .ok (.iload_n 1, 1) := by decide +kernel
theorem dX15_symbol_9 : decode cX15_symbol 9 = .ok (.iastore, 1) := by decide +kernel
theorem dX15_symbol_10 : decode cX15_symbol 10 = .ok (.aload_n 0, 1) := by decide +kernel
theorem dX15_symbol_11 : decode cX15_symbol 11 = .ok (.getfield 62, 3) := by decide +kernel
theorem dX15_symbol_14 : decode cX15_symbol 14 = .ok (.aload_n 0, 1) := by decide +kernel
theorem dX15_symbol_15 : decode cX15_symbol 15 = .ok (.getfield 534, 3) := by decide +kernel
theorem dX15_symbol_18 : decode cX15_symbol 18 = .ok (.iload_n 2, 1) := by decide +kernel
theorem dX15_symbol_19 : decode cX15_symbol 19 = .ok (.iastore, 1) := by decide +kernel
theorem dX15_symbol_20 : decode cX15_symbol 20 = .ok (.aload_n 0, 1) := by decide +kernel
theorem dX15_symbol_21 : decode cX15_symbol 21 = .ok (.getfield 65, 3) := by decide +kernel
theorem dX15_symbol_24 : decode cX15_symbol 24 = .ok (.aload_n 0, 1) := by decide +kernel
theorem dX15_symbol_25 : decode cX15_symbol 25 = .ok (.getfield 534, 3) := by decide +kernel
theorem dX15_symbol_28 : decode cX15_symbol 28 = .ok (.iload_n 3, 1) := by decide +kernel
theorem dX15_symbol_29 : decode cX15_symbol 29 = .ok (.iastore, 1) := by decide +kernel
theorem dX15_symbol_30 : decode cX15_symbol 30 = .ok (.aload_n 0, 1) := by decide +kernel
theorem dX15_symbol_31 : decode cX15_symbol 31 = .ok (.getfield 68, 3) := by decide +kernel
theorem dX15_symbol_34 : decode cX15_symbol 34 = .ok (.aload_n 0, 1) := by decide +kernel
theorem dX15_symbol_35 : decode cX15_symbol 35 = .ok (.getfield 534, 3) := by decide +kernel
theorem dX15_symbol_38 : decode cX15_symbol 38 = .ok (.iload 4, 2) := by decide +kernel
theorem dX15_symbol_40 : decode cX15_symbol 40 = .ok (.iastore, 1) := by decide +kernel
theorem dX15_symbol_41 : decode cX15_symbol 41 = .ok (.aload_n 0, 1) := by decide +kernel
theorem dX15_symbol_42 : decode cX15_symbol 42 = .ok (.getfield 71, 3) := by decide +kernel
theorem dX15_symbol_45 : decode cX15_symbol 45 = .ok (.aload_n 0, 1) := by decide +kernel
theorem dX15_symbol_46 : decode cX15_symbol 46 = .ok (.getfield 534, 3) := by decide +kernel
theorem dX15_symbol_49 : decode cX15_symbol 49 = .ok (.iload 5, 2) := by decide +kernel
theorem dX15_symbol_51 : decode cX15_symbol 51 = .ok (.iastore, 1) := by decide +kernel
theorem dX15_symbol_52 : decode cX15_symbol 52 = .ok (.aload_n 0, 1) := by decide +kernel
theorem dX15_symbol_53 : decode cX15_symbol 53 = .ok (.getfield 74, 3) := by decide +kernel
theorem dX15_symbol_56 : decode cX15_symbol 56 = .ok (.aload_n 0, 1) := by decide +kernel
theorem dX15_symbol_57 : decode cX15_symbol 57 = .ok (.getfield 534, 3) := by decide +kernel
theorem dX15_symbol_60 : decode cX15_symbol 60 = .ok (.iconst 1, 1) := by decide +kernel
theorem dX15_symbol_61 : decode cX15_symbol 61 = .ok (.bastore, 1) := by decide +kernel
theorem dX15_symbol_62 : decode cX15_symbol 62 = .ok (.aload_n 0, 1) := by decide +kernel
theorem dX15_symbol_63 : decode cX15_symbol 63 = .ok (.dup, 1) := by decide +kernel
theorem dX15_symbol_64 : decode cX15_symbol 64 = .ok (.getfield 534, 3) := by decide +kernel
theorem dX15_symbol_67 : decode cX15_symbol 67 = .ok (.iconst 1, 1) := by decide +kernel
theorem dX15_symbol_68 : decode cX15_symbol 68 = .ok (.iadd, 1) := by decide +kernel
theorem dX15_symbol_69 : decode cX15_symbol 69 = .ok (.putfield 534, 3) := by decide +kernel
theorem dX15_symbol_72 : decode cX15_symbol 72 = .ok (.aload_n 0, 1) := by decide +kernel
theorem dX15_symbol_73 : decode cX15_symbol 73 = .ok (.getfield 534, 3) := by decide +kernel
theorem dX15_symbol_76 : decode cX15_symbol 76 = .ok (.iconst 1, 1) := by decide +kernel
theorem dX15_symbol_77 : decode cX15_symbol 77 = .ok (.isub, 1) := by decide +kernel
theorem dX15_symbol_78 : decode cX15_symbol 78 = .ok (.ireturn, 1) := by decide +kernel
theorem dX15_assigned_0 : decode cX15_assigned 0 = .ok (.aload_n 0, 1) := by decide +kernel
theorem dX15_assigned_1 : decode cX15_assigned 1 = .ok (.iload_n 1, 1) := by decide +kernel
theorem dX15_assigned_2 : decode cX15_assigned 2 = .ok (.invokevirtual 568, 3) := by decide +kernel
theorem dX15_assigned_5 : decode cX15_assigned 5 = .ok (.istore_n 2, 1) := by decide +kernel
theorem dX15_assigned_6 : decode cX15_assigned 6 = .ok (.aload_n 0, 1) := by decide +kernel
theorem dX15_assigned_7 : decode cX15_assigned 7 = .ok (.getfield 323, 3) := by decide +kernel
theorem dX15_assigned_10 : decode cX15_assigned 10 = .ok (.ifCond .le 4, 3) := by decide +kernel
theorem dX15_assigned_13 : decode cX15_assigned 13 = .ok (.return_, 1) := by decide +kernel
theorem dX15_assigned_14 : decode cX15_assigned 14 = .ok (.aload_n 0, 1) := by decide +kernel
theorem dX15_assigned_15 : decode cX15_assigned 15 = .ok (.getfield 68, 3) := by decide +kernel
theorem dX15_assigned_18 : decode cX15_assigned 18 = .ok (.iload_n 2, 1) := by decide +kernel
theorem dX15_assigned_19 : decode cX15_assigned 19 = .ok (.iaload, 1) := by decide +kernel
theorem dX15_assigned_20 : decode cX15_assigned 20 = .ok (.ifCond .le 7, 3) := by decide +kernel
theorem dX15_assigned_23 : decode cX15_assigned 23 = .ok (.iconst 1, 1) := by decide +kernel
theorem dX15_assigned_24 : decode cX15_assigned 24 = .ok (.goto 4, 3) := by decide +kernel
theorem dX15_assigned_27 : decode cX15_assigned 27 = .ok (.iconst 0, 1) := by decide +kernel
theorem dX15_assigned_28 : decode cX15_assigned 28 = .ok (.istore_n 3, 1) := by decide +kernel
theorem dX15_assigned_29 : decode cX15_assigned 29 = .ok (.aload_n 0, 1) := by decide +kernel
theorem dX15_assigned_30 : decode cX15_assigned 30 = .ok (.getfield 62, 3) := by decide +kernel
theorem dX15_assigned_33 : decode cX15_assigned 33 = .ok (.iload_n 2, 1) := by decide +kernel
theorem dX15_assigned_34 : decode cX15_assigned 34 = .ok (.iaload, 1) := by decide +kernel
theorem dX15_assigned_35 : decode cX15_assigned 35 = .ok (.iconst 2, 1) := by decide +kernel
theorem dX15_assigned_36 : decode cX15_assigned 36 = .ok (.if_icmp .ne 23, 3) := by decide +kernel
theorem dX15_assigned_39 : decode cX15_assigned 39 = .ok (.iload_n 3, 1) := by decide +kernel
theorem dX15_assigned_40 : decode cX15_assigned 40 = .ok (.aload_n 0, 1) := by decide +kernel
theorem dX15_assigned_41 : decode cX15_assigned 41 = .ok (.getfield 22, 3) := by decide +kernel
theorem dX15_assigned_44 : decode cX15_assigned 44 = .ok (.iload_n 1, 1) := by decide +kernel
theorem dX15_assigned_45 : decode cX15_assigned 45 = .ok (.iaload, 1) := by decide +kernel
theorem dX15_assigned_46 : decode cX15_assigned 46 = .ok (.bipush 33, 2) := by decide +kernel
theorem dX15_assigned_48 : decode cX15_assigned 48 = .ok (.if_icmp .ne 7, 3) := by decide +kernel
theorem dX15_assigned_51 : decode cX15_assigned 51 = .ok (.iconst 1, 1) := by decide +kernel
theorem dX15_assigned_52 : decode cX15_assigned 52 = .ok (.goto 4, 3) := by decide +kernel
theorem dX15_assigned_55 : decode cX15_assigned 55 = .ok (.iconst 0, 1) := by decide +kernel
theorem dX15_assigned_56 : decode cX15_assigned 56 = .ok (.if_icmp .eq 14, 3) := by decide +kernel
theorem dX15_assigned_59 : decode cX15_assigned 59 = .ok (.aload_n 0, 1) := by decide +kernel
theorem dX15_assigned_60 : decode cX15_assigned 60 = .ok (.iconst 5, 1) := by decide +kernel
theorem dX15_assigned_61 : decode cX15_assigned 61 = .ok (.aload_n 0, 1) := by decide +kernel
theorem dX15_assigned_62 : decode cX15_assigned 62 = .ok (.getfield 31, 3) := by decide +kernel
theorem dX15_assigned_65 : decode cX15_assigned 65 = .ok (.iload_n 1, 1) := by decide +kernel
theorem dX15_assigned_66 : decode cX15_assigned 66 = .ok (.iaload, 1) := by decide +kernel
theorem dX15_assigned_67 : decode cX15_assigned 67 = .ok (.invokevirtual 390, 3) := by decide +kernel
theorem dX15_assigned_70 : decode cX15_assigned 70 = .ok (.return_, 1) := by decide +kernel
theorem dX15_elementSort_0 : decode cX15_elementSort 0 = .ok (.aload_n 0, 1) := by decide +kernel
theorem dX15_elementSort_1 : decode cX15_elementSort 1 = .ok (.aload_n 0, 1) := by decide +kernel
theorem dX15_elementSort_2 : decode cX15_elementSort 2 = .ok (.getfield 25, 3) := by decide +kernel
theorem dX15_elementSort_5 : decode cX15_elementSort 5 = .ok (.iload_n 1, 1) := by decide +kernel
theorem dX15_elementSort_6 : decode cX15_elementSort 6 = .ok (.iaload, 1) := by decide +kernel
theorem dX15_elementSort_7 : decode cX15_elementSort 7 = .ok (.invokevirtual 543, 3) := by decide +kernel
theorem dX15_elementSort_10 : decode cX15_elementSort 10 = .ok (.istore_n 2, 1) := by decide +kernel
theorem dX15_elementSort_11 : decode cX15_elementSort 11 = .ok (.aload_n 0, 1) := by decide +kernel
theorem dX15_elementSort_12 : decode cX15_elementSort 12 = .ok (.aload_n 0, 1) := by decide +kernel
theorem dX15_elementSort_13 : decode cX15_elementSort 13 = .ok (.getfield 65, 3) := by decide +kernel
theorem dX15_elementSort_16 : decode cX15_elementSort 16 = .ok (.iload_n 2, 1) := by decide +kernel
theorem dX15_elementSort_17 : decode cX15_elementSort 17 = .ok (.iaload, 1) := by decide +kernel
theorem dX15_elementSort_18 : decode cX15_elementSort 18 = .ok (.invokevirtual 574, 3) := by decide +kernel
theorem dX15_elementSort_21 : decode cX15_elementSort 21 = .ok (.aload_n 0, 1) := by decide +kernel
theorem dX15_elementSort_22 : decode cX15_elementSort 22 = .ok (.dup, 1) := by decide +kernel
theorem dX15_elementSort_23 : decode cX15_elementSort 23 = .ok (.getfield 540, 3) := by decide +kernel
theorem dX15_elementSort_26 : decode cX15_elementSort 26 = .ok (.iconst 2, 1) := by decide +kernel
theorem dX15_elementSort_27 : decode cX15_elementSort 27 = .ok (.isub, 1) := by decide +kernel
theorem dX15_elementSort_28 : decode cX15_elementSort 28 = .ok (.putfield 540, 3) := by decide +kernel
theorem dX15_elementSort_31 : decode cX15_elementSort 31 = .ok (.aload_n 0, 1) := by decide +kernel
theorem dX15_elementSort_32 : decode cX15_elementSort 32 = .ok (.iload_n 1, 1) := by decide +kernel
theorem dX15_elementSort_33 : decode cX15_elementSort 33 = .ok (.iload_n 2, 1) := by decide +kernel
theorem dX15_elementSort_34 : decode cX15_elementSort 34 = .ok (.invokevirtual 571, 3) := by decide +kernel
theorem dX15_elementSort_37 : decode cX15_elementSort 37 = .ok (.aload_n 0, 1) := by decide +kernel
theorem dX15_elementSort_38 : decode cX15_elementSort 38 = .ok (.getfield 111, 3) := by decide +kernel
theorem dX15_elementSort_41 : decode cX15_elementSort 41 = .ok (.iload_n 1, 1) := by decide +kernel
theorem dX15_elementSort_42 : decode cX15_elementSort 42 = .ok (.aload_n 0, 1) := by decide +kernel
theorem dX15_elementSort_43 : decode cX15_elementSort 43 = .ok (.getfield 90, 3) := by decide +kernel
theorem dX15_elementSort_46 : decode cX15_elementSort 46 = .ok (.aload_n 0, 1) := by decide +kernel
theorem dX15_elementSort_47 : decode cX15_elementSort 47 = .ok (.getfield 540, 3) := by decide +kernel
theorem dX15_elementSort_50 : decode cX15_elementSort 50 = .ok (.baload, 1) := by decide +kernel
theorem dX15_elementSort_51 : decode cX15_elementSort 51 = .ok (.bastore, 1) := by decide +kernel
theorem dX15_elementSort_52 : decode cX15_elementSort 52 = .ok (.return_, 1) := by decide +kernel
theorem dX15_build_0 : decode cX15_build 0 = .ok (.aload_n 0, 1) := by decide +kernel
theorem dX15_build_1 : decode cX15_build 1 = .ok (.invokevirtual 669, 3) := by decide +kernel
theorem dX15_build_4 : decode cX15_build 4 = .ok (.aload_n 0, 1) := by decide +kernel
theorem dX15_build_5 : decode cX15_build 5 = .ok (.iconst 0, 1) := by decide +kernel
theorem dX15_build_6 : decode cX15_build 6 = .ok (.putfield 624, 3) := by decide +kernel
theorem dX15_build_9 : decode cX15_build 9 = .ok (.aload_n 0, 1) := by decide +kernel
theorem dX15_build_10 : decode cX15_build 10 = .ok (.iconst 0, 1) := by decide +kernel
theorem dX15_build_11 : decode cX15_build 11 = .ok (.putfield 630, 3) := by decide +kernel
theorem dX15_build_14 : decode cX15_build 14 = .ok (.aload_n 0, 1) := by decide +kernel
theorem dX15_build_15 : decode cX15_build 15 = .ok (.iconst 0, 1) := by decide +kernel
theorem dX15_build_16 : decode cX15_build 16 = .ok (.putfield 633, 3) := by decide +kernel
theorem dX15_build_19 : decode cX15_build 19 = .ok (.aload_n 0, 1) := by decide +kernel
theorem dX15_build_20 : decode cX15_build 20 = .ok (.iconst 0, 1) := by decide +kernel
theorem dX15_build_21 : decode cX15_build 21 = .ok (.putfield 672, 3) := by decide +kernel
theorem dX15_build_24 : decode cX15_build 24 = .ok (.aload_n 0, 1) := by decide +kernel
theorem dX15_build_25 : decode cX15_build 25 = .ok (.iconst 0, 1) := by decide +kernel
theorem dX15_build_26 : decode cX15_build 26 = .ok (.putfield 659, 3) := by decide +kernel
theorem dX15_build_29 : decode cX15_build 29 = .ok (.aload_n 0, 1) := by decide +kernel
theorem dX15_build_30 : decode cX15_build 30 = .ok (.iconst 0, 1) := by decide +kernel
theorem dX15_build_31 : decode cX15_build 31 = .ok (.putfield 621, 3) := by decide +kernel
theorem dX15_build_34 : decode cX15_build 34 = .ok (.aload_n 0, 1) := by decide +kernel
theorem dX15_build_35 : decode cX15_build 35 = .ok (.iconst 0, 1) := by decide +kernel
theorem dX15_build_36 : decode cX15_build 36 = .ok (.putfield 675, 3) := by decide +kernel
theorem dX15_build_39 : decode cX15_build 39 = .ok (.aload_n 0, 1) := by decide +kernel
theorem dX15_build_40 : decode cX15_build 40 = .ok (.iconst 0, 1) := by decide +kernel
theorem dX15_build_41 : decode cX15_build 41 = .ok (.putfield 678, 3) := by decide +kernel
theorem dX15_build_44 : decode cX15_build 44 = .ok (.aload_n 0, 1) := by decide +kernel
theorem dX15_build_45 : decode cX15_build 45 = .ok (.iconst 0, 1) := by decide +kernel
theorem dX15_build_46 : decode cX15_build 46 = .ok (.putfield 681, 3) := by decide +kernel
theorem dX15_build_49 : decode cX15_build 49 = .ok (.aload_n 0, 1) := by decide +kernel
theorem dX15_build_50 : decode cX15_build 50 = .ok (.iconst 0, 1) := by decide +kernel
theorem dX15_build_51 : decode cX15_build 51 = .ok (.putfield 649, 3) := by decide +kernel
theorem dX15_build_54 : decode cX15_build 54 = .ok (.iconst 0, 1) := by decide +kernel
theorem dX15_build_55 : decode cX15_build 55 = .ok (.istore_n 1, 1) := by decide +kernel
theorem dX15_build_56 : decode cX15_build 56 = .ok (.iload_n 1, 1) := by decide +kernel
theorem dX15_build_57 : decode cX15_build 57 = .ok (.aload_n 0, 1) := by decide +kernel
theorem dX15_build_58 : decode cX15_build 58 = .ok (.getfield 411, 3) := by decide +kernel
theorem dX15_build_61 : decode cX15_build 61 = .ok (.if_icmp .ge 38, 3) := by decide +kernel
theorem dX15_build_64 : decode cX15_build 64 = .ok (.aload_n 0, 1) := by decide +kernel
theorem dX15_build_65 : decode cX15_build 65 = .ok (.getfield 323, 3) := by decide +kernel
theorem dX15_build_68 : decode cX15_build 68 = .ok (.ifCond .ne 31, 3) := by decide +kernel
theorem dX15_build_71 : decode cX15_build 71 = .ok (.aload_n 0, 1) := by decide +kernel
theorem dX15_build_72 : decode cX15_build 72 = .ok (.getfield 22, 3) := by decide +kernel
theorem dX15_build_75 : decode cX15_build 75 = .ok (.iload_n 1, 1) := by decide +kernel
theorem dX15_build_76 : decode cX15_build 76 = .ok (.iaload, 1) := by decide +kernel
theorem dX15_build_77 : decode cX15_build 77 = .ok (.bipush 20, 2) := by decide +kernel
theorem dX15_build_79 : decode cX15_build 79 = .ok (.if_icmp .ge 11, 3) := by decide +kernel
theorem dX15_build_82 : decode cX15_build 82 = .ok (.aload_n 0, 1) := by decide +kernel
theorem dX15_build_83 : decode cX15_build 83 = .ok (.iload_n 1, 1) := by decide +kernel
theorem dX15_build_84 : decode cX15_build 84 = .ok (.invokevirtual 684, 3) := by decide +kernel
theorem dX15_build_87 : decode cX15_build 87 = .ok (.goto 8, 3) := by decide +kernel
theorem dX15_build_90 : decode cX15_build 90 = .ok (.aload_n 0, 1) := by decide +kernel
theorem dX15_build_91 : decode cX15_build 91 = .ok (.iload_n 1, 1) := by decide +kernel
theorem dX15_build_92 : decode cX15_build 92 = .ok (.invokevirtual 687, 3) := by decide +kernel
theorem dX15_build_95 : decode cX15_build 95 = .ok (.istore_n 1, 1) := by decide +kernel
theorem dX15_build_96 : decode cX15_build 96 = .ok (.goto (-40), 3) := by decide +kernel
theorem dX15_build_99 : decode cX15_build 99 = .ok (.return_, 1) := by decide +kernel
theorem dX15_inputsOfAll_0 : decode cX15_inputsOfAll 0 = .ok (.aload_n 0, 1) := by decide +kernel
theorem dX15_inputsOfAll_1 : decode cX15_inputsOfAll 1 = .ok (.iconst 0, 1) := by decide +kernel
theorem dX15_inputsOfAll_2 : decode cX15_inputsOfAll 2 = .ok (.putfield 663, 3) := by decide +kernel
theorem dX15_inputsOfAll_5 : decode cX15_inputsOfAll 5 = .ok (.aload_n 0, 1) := by decide +kernel
theorem dX15_inputsOfAll_6 : decode cX15_inputsOfAll 6 = .ok (.iconst 0, 1) := by decide +kernel
theorem dX15_inputsOfAll_7 : decode cX15_inputsOfAll 7 = .ok (.putfield 618, 3) := by decide +kernel
theorem dX15_inputsOfAll_10 : decode cX15_inputsOfAll 10 = .ok (.iconst 0, 1) := by decide +kernel
theorem dX15_inputsOfAll_11 : decode cX15_inputsOfAll 11 = .ok (.istore_n 1, 1) := by decide +kernel
theorem dX15_inputsOfAll_12 : decode cX15_inputsOfAll 12 = .ok (.iload_n 1, 1) := by decide +kernel
theorem dX15_inputsOfAll_13 : decode cX15_inputsOfAll 13 = .ok (.aload_n 0, 1) := by decide +kernel
theorem dX15_inputsOfAll_14 : decode cX15_inputsOfAll 14 = .ok (.getfield 411, 3) := by decide +kernel
theorem dX15_inputsOfAll_17 : decode cX15_inputsOfAll 17 = .ok (.if_icmp .ge 142, 3) := by decide +kernel
theorem dX15_inputsOfAll_20 : decode cX15_inputsOfAll 20 = .ok (.aload_n 0, 1) := by decide +kernel
theorem dX15_inputsOfAll_21 : decode cX15_inputsOfAll 21 = .ok (.getfield 22, 3) := by decide +kernel
theorem dX15_inputsOfAll_24 : decode cX15_inputsOfAll 24 = .ok (.iload_n 1, 1) := by decide +kernel
theorem dX15_inputsOfAll_25 : decode cX15_inputsOfAll 25 = .ok (.iaload, 1) := by decide +kernel
theorem dX15_inputsOfAll_26 : decode cX15_inputsOfAll 26 = .ok (.bipush 23, 2) := by decide +kernel
theorem dX15_inputsOfAll_28 : decode cX15_inputsOfAll 28 = .ok (.if_icmp .ne 125, 3) := by decide +kernel
theorem dX15_inputsOfAll_31 : decode cX15_inputsOfAll 31 = .ok (.aload_n 0, 1) := by decide +kernel
theorem dX15_inputsOfAll_32 : decode cX15_inputsOfAll 32 = .ok (.getfield 34, 3) := by decide +kernel
theorem dX15_inputsOfAll_35 : decode cX15_inputsOfAll 35 = .ok (.iload_n 1, 1) := by decide +kernel
theorem dX15_inputsOfAll_36 : decode cX15_inputsOfAll 36 = .ok (.laload, 1) := by decide +kernel
theorem dX15_inputsOfAll_37 : decode cX15_inputsOfAll 37 = .ok (.ldc2_w 606, 3) := by decide +kernel
theorem dX15_inputsOfAll_40 : decode cX15_inputsOfAll 40 = .ok (.land, 1) := by decide +kernel
theorem dX15_inputsOfAll_41 : decode cX15_inputsOfAll 41 = .ok (.l2i, 1) := by decide +kernel
theorem dX15_inputsOfAll_42 : decode cX15_inputsOfAll 42 = .ok (.istore_n 2, 1) := by decide +kernel
theorem dX15_inputsOfAll_43 : decode cX15_inputsOfAll 43 = .ok (.iconst 0, 1) := by decide +kernel
theorem dX15_inputsOfAll_44 : decode cX15_inputsOfAll 44 = .ok (.istore_n 3, 1) := by decide +kernel
theorem dX15_inputsOfAll_45 : decode cX15_inputsOfAll 45 = .ok (.iload_n 3, 1) := by decide +kernel
theorem dX15_inputsOfAll_46 : decode cX15_inputsOfAll 46 = .ok (.iload_n 2, 1) := by decide +kernel
theorem dX15_inputsOfAll_47 : decode cX15_inputsOfAll 47 = .ok (.ifCond .ne 7, 3) := by decide +kernel
theorem dX15_inputsOfAll_50 : decode cX15_inputsOfAll 50 = .ok (.iconst 1, 1) := by decide +kernel
theorem dX15_inputsOfAll_51 : decode cX15_inputsOfAll 51 = .ok (.goto 4, 3) := by decide +kernel
theorem dX15_inputsOfAll_54 : decode cX15_inputsOfAll 54 = .ok (.iload_n 2, 1) := by decide +kernel
theorem dX15_inputsOfAll_55 : decode cX15_inputsOfAll 55 = .ok (.if_icmp .ge 98, 3) := by decide +kernel
theorem dX15_inputsOfAll_58 : decode cX15_inputsOfAll 58 = .ok (.aload_n 0, 1) := by decide +kernel
theorem dX15_inputsOfAll_59 : decode cX15_inputsOfAll 59 = .ok (.getfield 136, 3) := by decide +kernel
theorem dX15_inputsOfAll_62 : decode cX15_inputsOfAll 62 = .ok (.aload_n 0, 1) := by decide +kernel
theorem dX15_inputsOfAll_63 : decode cX15_inputsOfAll 63 = .ok (.getfield 663, 3) := by decide +kernel
theorem dX15_inputsOfAll_66 : decode cX15_inputsOfAll 66 = .ok (.aload_n 0, 1) := by decide +kernel
theorem dX15_inputsOfAll_67 : decode cX15_inputsOfAll 67 = .ok (.getfield 34, 3) := by decide +kernel
theorem dX15_inputsOfAll_70 : decode cX15_inputsOfAll 70 = .ok (.iload_n 1, 1) := by decide +kernel
theorem dX15_inputsOfAll_71 : decode cX15_inputsOfAll 71 = .ok (.laload, 1) := by decide +kernel
theorem dX15_inputsOfAll_72 : decode cX15_inputsOfAll 72 = .ok (.bipush 8, 2) := by decide +kernel
theorem dX15_inputsOfAll_74 : decode cX15_inputsOfAll 74 = .ok (.lshr, 1) := by decide +kernel
theorem dX15_inputsOfAll_75 : decode cX15_inputsOfAll 75 = .ok (.l2i, 1) := by decide +kernel
theorem dX15_inputsOfAll_76 : decode cX15_inputsOfAll 76 = .ok (.iastore, 1) := by decide +kernel
theorem dX15_inputsOfAll_77 : decode cX15_inputsOfAll 77 = .ok (.aload_n 0, 1) := by decide +kernel
theorem dX15_inputsOfAll_78 : decode cX15_inputsOfAll 78 = .ok (.getfield 139, 3) := by decide +kernel
theorem dX15_inputsOfAll_81 : decode cX15_inputsOfAll 81 = .ok (.aload_n 0, 1) := by decide +kernel
theorem dX15_inputsOfAll_82 : decode cX15_inputsOfAll 82 = .ok (.getfield 663, 3) := by decide +kernel
theorem dX15_inputsOfAll_85 : decode cX15_inputsOfAll 85 = .ok (.aload_n 0, 1) := by decide +kernel
theorem dX15_inputsOfAll_86 : decode cX15_inputsOfAll 86 = .ok (.aload_n 0, 1) := by decide +kernel
theorem dX15_inputsOfAll_87 : decode cX15_inputsOfAll 87 = .ok (.getfield 28, 3) := by decide +kernel
theorem dX15_inputsOfAll_90 : decode cX15_inputsOfAll 90 = .ok (.iload_n 1, 1) := by decide +kernel
theorem dX15_inputsOfAll_91 : decode cX15_inputsOfAll 91 = .ok (.iaload, 1) := by decide +kernel
theorem dX15_inputsOfAll_92 : decode cX15_inputsOfAll 92 = .ok (.invokevirtual 666, 3) := by decide +kernel
theorem dX15_inputsOfAll_95 : decode cX15_inputsOfAll 95 = .ok (.iastore, 1) := by decide +kernel
theorem dX15_inputsOfAll_96 : decode cX15_inputsOfAll 96 = .ok (.aload_n 0, 1) := by decide +kernel
theorem dX15_inputsOfAll_97 : decode cX15_inputsOfAll 97 = .ok (.getfield 142, 3) := by decide +kernel
theorem dX15_inputsOfAll_100 : decode cX15_inputsOfAll 100 = .ok (.aload_n 0, 1) := by decide +kernel
theorem dX15_inputsOfAll_101 : decode cX15_inputsOfAll 101 = .ok (.getfield 663, 3) := by decide +kernel
theorem dX15_inputsOfAll_104 : decode cX15_inputsOfAll 104 = .ok (.aload_n 0, 1) := by decide +kernel
theorem dX15_inputsOfAll_105 : decode cX15_inputsOfAll 105 = .ok (.getfield 618, 3) := by decide +kernel
theorem dX15_inputsOfAll_108 : decode cX15_inputsOfAll 108 = .ok (.iastore, 1) := by decide +kernel
theorem dX15_inputsOfAll_109 : decode cX15_inputsOfAll 109 = .ok (.aload_n 0, 1) := by decide +kernel
theorem dX15_inputsOfAll_110 : decode cX15_inputsOfAll 110 = .ok (.getfield 145, 3) := by decide +kernel
theorem dX15_inputsOfAll_113 : decode cX15_inputsOfAll 113 = .ok (.aload_n 0, 1) := by decide +kernel
theorem dX15_inputsOfAll_114 : decode cX15_inputsOfAll 114 = .ok (.getfield 663, 3) := by decide +kernel
theorem dX15_inputsOfAll_117 : decode cX15_inputsOfAll 117 = .ok (.lconst 0, 1) := by decide +kernel
theorem dX15_inputsOfAll_118 : decode cX15_inputsOfAll 118 = .ok (.lastore, 1) := by decide +kernel
theorem dX15_inputsOfAll_119 : decode cX15_inputsOfAll 119 = .ok (.aload_n 0, 1) := by decide +kernel
theorem dX15_inputsOfAll_120 : decode cX15_inputsOfAll 120 = .ok (.dup, 1) := by decide +kernel
theorem dX15_inputsOfAll_121 : decode cX15_inputsOfAll 121 = .ok (.getfield 618, 3) := by decide +kernel
theorem dX15_inputsOfAll_124 : decode cX15_inputsOfAll 124 = .ok (.aload_n 0, 1) := by decide +kernel
theorem dX15_inputsOfAll_125 : decode cX15_inputsOfAll 125 = .ok (.getfield 139, 3) := by decide +kernel
theorem dX15_inputsOfAll_128 : decode cX15_inputsOfAll 128 = .ok (.aload_n 0, 1) := by decide +kernel
theorem dX15_inputsOfAll_129 : decode cX15_inputsOfAll 129 = .ok (.getfield 663, 3) := by decide +kernel
theorem dX15_inputsOfAll_132 : decode cX15_inputsOfAll 132 = .ok (.iaload, 1) := by decide +kernel
theorem dX15_inputsOfAll_133 : decode cX15_inputsOfAll 133 = .ok (.iadd, 1) := by decide +kernel
theorem dX15_inputsOfAll_134 : decode cX15_inputsOfAll 134 = .ok (.putfield 618, 3) := by decide +kernel
theorem dX15_inputsOfAll_137 : decode cX15_inputsOfAll 137 = .ok (.aload_n 0, 1) := by decide +kernel
theorem dX15_inputsOfAll_138 : decode cX15_inputsOfAll 138 = .ok (.dup, 1) := by decide +kernel
theorem dX15_inputsOfAll_139 : decode cX15_inputsOfAll 139 = .ok (.getfield 663, 3) := by decide +kernel
theorem dX15_inputsOfAll_142 : decode cX15_inputsOfAll 142 = .ok (.iconst 1, 1) := by decide +kernel
theorem dX15_inputsOfAll_143 : decode cX15_inputsOfAll 143 = .ok (.iadd, 1) := by decide +kernel
theorem dX15_inputsOfAll_144 : decode cX15_inputsOfAll 144 = .ok (.putfield 663, 3) := by decide +kernel
theorem dX15_inputsOfAll_147 : decode cX15_inputsOfAll 147 = .ok (.iinc 3 1, 3) := by decide +kernel
theorem dX15_inputsOfAll_150 : decode cX15_inputsOfAll 150 = .ok (.goto (-105), 3) := by decide +kernel
theorem dX15_inputsOfAll_153 : decode cX15_inputsOfAll 153 = .ok (.iinc 1 1, 3) := by decide +kernel
theorem dX15_inputsOfAll_156 : decode cX15_inputsOfAll 156 = .ok (.goto (-144), 3) := by decide +kernel
theorem dX15_inputsOfAll_159 : decode cX15_inputsOfAll 159 = .ok (.return_, 1) := by decide +kernel
theorem dX15_widthOf_0 : decode cX15_widthOf 0 = .ok (.iload_n 1, 1) := by decide +kernel
theorem dX15_widthOf_1 : decode cX15_widthOf 1 = .ok (.ifCond .ne 10, 3) := by decide +kernel
theorem dX15_widthOf_4 : decode cX15_widthOf 4 = .ok (.aload_n 0, 1) := by decide +kernel
theorem dX15_widthOf_5 : decode cX15_widthOf 5 = .ok (.getfield 303, 3) := by decide +kernel
theorem dX15_widthOf_8 : decode cX15_widthOf 8 = .ok (.goto 4, 3) := by decide +kernel
theorem dX15_widthOf_11 : decode cX15_widthOf 11 = .ok (.iconst 1, 1) := by decide +kernel
theorem dX15_widthOf_12 : decode cX15_widthOf 12 = .ok (.ireturn, 1) := by decide +kernel
theorem dX15_operand_0 : decode cX15_operand 0 = .ok (.aload_n 0, 1) := by decide +kernel
theorem dX15_operand_1 : decode cX15_operand 1 = .ok (.getfield 22, 3) := by decide +kernel
theorem dX15_operand_4 : decode cX15_operand 4 = .ok (.iload_n 1, 1) := by decide +kernel
theorem dX15_operand_5 : decode cX15_operand 5 = .ok (.iaload, 1) := by decide +kernel
theorem dX15_operand_6 : decode cX15_operand 6 = .ok (.tableswitch 429 1 14 #[70, 77, 102, 102, 132, 429, 140, 429, 148, 203, 240, 315, 328, 336], 70) := by decide +kernel
theorem dX15_operand_76 : decode cX15_operand 76 = .ok (.aload_n 0, 1) := by decide +kernel
theorem dX15_operand_77 : decode cX15_operand 77 = .ok (.invokevirtual 690, 3) := by decide +kernel
theorem dX15_operand_80 : decode cX15_operand 80 = .ok (.goto 355, 3) := by decide +kernel
theorem dX15_operand_83 : decode cX15_operand 83 = .ok (.aload_n 0, 1) := by decide +kernel
theorem dX15_operand_84 : decode cX15_operand 84 = .ok (.aload_n 0, 1) := by decide +kernel
theorem dX15_operand_85 : decode cX15_operand 85 = .ok (.getfield 34, 3) := by decide +kernel
theorem dX15_operand_88 : decode cX15_operand 88 = .ok (.iload_n 1, 1) := by decide +kernel
theorem dX15_operand_89 : decode cX15_operand 89 = .ok (.laload, 1) := by decide +kernel
theorem dX15_operand_90 : decode cX15_operand 90 = .ok (.aload_n 0, 1) := by decide +kernel
theorem dX15_operand_91 : decode cX15_operand 91 = .ok (.getfield 303, 3) := by decide +kernel
theorem dX15_operand_94 : decode cX15_operand 94 = .ok (.invokevirtual 693, 3) := by decide +kernel
theorem dX15_operand_97 : decode cX15_operand 97 = .ok (.aload_n 0, 1) := by decide +kernel
theorem dX15_operand_98 : decode cX15_operand 98 = .ok (.aload_n 0, 1) := by decide +kernel
theorem dX15_operand_99 : decode cX15_operand 99 = .ok (.getfield 303, 3) := by decide +kernel
theorem dX15_operand_102 : decode cX15_operand 102 = .ok (.invokevirtual 697, 3) := by decide +kernel
theorem dX15_operand_105 : decode cX15_operand 105 = .ok (.goto 330, 3) := by decide +kernel
theorem dX15_operand_108 : decode cX15_operand 108 = .ok (.aload_n 0, 1) := by decide +kernel
theorem dX15_operand_109 : decode cX15_operand 109 = .ok (.getfield 167, 3) := by decide +kernel
theorem dX15_operand_112 : decode cX15_operand 112 = .ok (.iconst 0, 1) := by decide +kernel
theorem dX15_operand_113 : decode cX15_operand 113 = .ok (.aload_n 0, 1) := by decide +kernel
theorem dX15_operand_114 : decode cX15_operand 114 = .ok (.getfield 22, 3) := by decide +kernel
theorem dX15_operand_117 : decode cX15_operand 117 = .ok (.iload_n 1, 1) := by decide +kernel
theorem dX15_operand_118 : decode cX15_operand 118 = .ok (.iaload, 1) := by decide +kernel
theorem dX15_operand_119 : decode cX15_operand 119 = .ok (.iconst 3, 1) := by decide +kernel
theorem dX15_operand_120 : decode cX15_operand 120 = .ok (.if_icmp .ne 7, 3) := by decide +kernel
theorem dX15_operand_123 : decode cX15_operand 123 = .ok (.iconst (-1), 1) := by decide +kernel
theorem dX15_operand_124 : decode cX15_operand 124 = .ok (.goto 5, 3) := by decide +kernel
theorem dX15_operand_127 : decode cX15_operand 127 = .ok (.bipush (-2), 2) := by decide +kernel
theorem dX15_operand_129 : decode cX15_operand 129 = .ok (.iastore, 1) := by decide +kernel
theorem dX15_operand_130 : decode cX15_operand 130 = .ok (.aload_n 0, 1) := by decide +kernel
theorem dX15_operand_131 : decode cX15_operand 131 = .ok (.iconst 1, 1) := by decide +kernel
theorem dX15_operand_132 : decode cX15_operand 132 = .ok (.invokevirtual 697, 3) := by decide +kernel
theorem dX15_operand_135 : decode cX15_operand 135 = .ok (.goto 300, 3) := by decide +kernel
theorem dX15_operand_138 : decode cX15_operand 138 = .ok (.aload_n 0, 1) := by decide +kernel
theorem dX15_operand_139 : decode cX15_operand 139 = .ok (.iload_n 1, 1) := by decide +kernel
theorem dX15_operand_140 : decode cX15_operand 140 = .ok (.invokevirtual 700, 3) := by decide +kernel
theorem dX15_operand_143 : decode cX15_operand 143 = .ok (.goto 292, 3) := by decide +kernel
theorem dX15_operand_146 : decode cX15_operand 146 = .ok (.aload_n 0, 1) := by decide +kernel
theorem dX15_operand_147 : decode cX15_operand 147 = .ok (.iload_n 1, 1) := by decide +kernel
theorem dX15_operand_148 : decode cX15_operand 148 = .ok (.invokevirtual 703, 3) := by decide +kernel
theorem dX15_operand_151 : decode cX15_operand 151 = .ok (.goto 284, 3) := by decide +kernel
theorem dX15_operand_154 : decode cX15_operand 154 = .ok (.aload_n 0, 1) := by decide +kernel
theorem dX15_operand_155 : decode cX15_operand 155 = .ok (.getfield 99, 3) := by decide +kernel
theorem dX15_operand_158 : decode cX15_operand 158 = .ok (.iload_n 1, 1) := by decide +kernel
theorem dX15_operand_159 : decode cX15_operand 159 = .ok (.iaload, 1) := by decide +kernel
theorem dX15_operand_160 : decode cX15_operand 160 = .ok (.istore_n 2, 1) := by decide +kernel
theorem dX15_operand_161 : decode cX15_operand 161 = .ok (.aload_n 0, 1) := by decide +kernel
theorem dX15_operand_162 : decode cX15_operand 162 = .ok (.getfield 225, 3) := by decide +kernel
theorem dX15_operand_165 : decode cX15_operand 165 = .ok (.aload_n 0, 1) := by decide +kernel
theorem dX15_operand_166 : decode cX15_operand 166 = .ok (.getfield 681, 3) := by decide +kernel
theorem dX15_operand_169 : decode cX15_operand 169 = .ok (.aload_n 0, 1) := by decide +kernel
theorem dX15_operand_170 : decode cX15_operand 170 = .ok (.getfield 649, 3) := by decide +kernel
theorem dX15_operand_173 : decode cX15_operand 173 = .ok (.aload_n 0, 1) := by decide +kernel
theorem dX15_operand_174 : decode cX15_operand 174 = .ok (.getfield 28, 3) := by decide +kernel
theorem dX15_operand_177 : decode cX15_operand 177 = .ok (.iload_n 2, 1) := by decide +kernel
theorem dX15_operand_178 : decode cX15_operand 178 = .ok (.iaload, 1) := by decide +kernel
theorem dX15_operand_179 : decode cX15_operand 179 = .ok (.isub, 1) := by decide +kernel
theorem dX15_operand_180 : decode cX15_operand 180 = .ok (.iastore, 1) := by decide +kernel
theorem dX15_operand_181 : decode cX15_operand 181 = .ok (.aload_n 0, 1) := by decide +kernel
theorem dX15_operand_182 : decode cX15_operand 182 = .ok (.getfield 228, 3) := by decide +kernel
theorem dX15_operand_185 : decode cX15_operand 185 = .ok (.aload_n 0, 1) := by decide +kernel
theorem dX15_operand_186 : decode cX15_operand 186 = .ok (.getfield 681, 3) := by decide +kernel
theorem dX15_operand_189 : decode cX15_operand 189 = .ok (.iload_n 1, 1) := by decide +kernel
