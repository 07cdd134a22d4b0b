set_option maxRecDepth 100000
theorem dX8_init_0 : decode cX8_init 0 = .ok (.aload_n 0, 1) := by decide +kernel
theorem dX8_init_1 : decode cX8_init 1 = .ok (.invokespecial 3, 3) := by decide +kernel
theorem dX8_init_4 : decode cX8_init 4 = .ok (.aload_n 0, 1) := by decide +kernel
theorem dX8_init_5 : decode cX8_init 5 = .ok (.sipush 4000, 3) := by decide +kernel
theorem dX8_init_8 : decode cX8_init 8 = .ok (.newarray .byte, 2) := by decide +kernel
theorem dX8_init_10 : decode cX8_init 10 = .ok (.putfield 9, 3) := by decide +kernel
theorem dX8_init_13 : decode cX8_init 13 = .ok (.aload_n 0, 1) := by decide +kernel
theorem dX8_init_14 : decode cX8_init 14 = .ok (.iload_n 1, 1) := by decide +kernel
theorem dX8_init_15 : decode cX8_init 15 = .ok (.putfield 15, 3) := by decide +kernel
theorem dX8_init_18 : decode cX8_init 18 = .ok (.aload_n 0, 1) := by decide +kernel
theorem dX8_init_19 : decode cX8_init 19 = .ok (.aload_n 2, 1) := by decide +kernel
theorem dX8_init_20 : decode cX8_init 20 = .ok (.putfield 19, 3) := by decide +kernel
theorem dX8_init_23 : decode cX8_init 23 = .ok (.aload_n 0, 1) := by decide +kernel
theorem dX8_init_24 : decode cX8_init 24 = .ok (.aload_n 3, 1) := by decide +kernel
theorem dX8_init_25 : decode cX8_init 25 = .ok (.putfield 23, 3) := by decide +kernel
theorem dX8_init_28 : decode cX8_init 28 = .ok (.aload_n 0, 1) := by decide +kernel
theorem dX8_init_29 : decode cX8_init 29 = .ok (.aload 4, 2) := by decide +kernel
theorem dX8_init_31 : decode cX8_init 31 = .ok (.putfield 27, 3) := by decide +kernel
theorem dX8_init_34 : decode cX8_init 34 = .ok (.return_, 1) := by decide +kernel
theorem dX8_read_0 : decode cX8_read 0 = .ok (.aload_n 1, 1) := by decide +kernel
theorem dX8_read_1 : decode cX8_read 1 = .ok (.iconst 0, 1) := by decide +kernel
theorem dX8_read_2 : decode cX8_read 2 = .ok (.aload_n 0, 1) := by decide +kernel
theorem dX8_read_3 : decode cX8_read 3 = .ok (.getfield 9, 3) := by decide +kernel
theorem dX8_read_6 : decode cX8_read 6 = .ok (.iconst 0, 1) := by decide +kernel
theorem dX8_read_7 : decode cX8_read 7 = .ok (.iload_n 2, 1) := by decide +kernel
theorem dX8_read_8 : decode cX8_read 8 = .ok (.invokestatic 133, 3) := by decide +kernel
theorem dX8_read_11 : decode cX8_read 11 = .ok (.aload_n 0, 1) := by decide +kernel
theorem dX8_read_12 : decode cX8_read 12 = .ok (.iload_n 2, 1) := by decide +kernel
theorem dX8_read_13 : decode cX8_read 13 = .ok (.putfield 34, 3) := by decide +kernel
theorem dX8_read_16 : decode cX8_read 16 = .ok (.aload_n 0, 1) := by decide +kernel
theorem dX8_read_17 : decode cX8_read 17 = .ok (.iconst 0, 1) := by decide +kernel
theorem dX8_read_18 : decode cX8_read 18 = .ok (.putfield 31, 3) := by decide +kernel
theorem dX8_read_21 : decode cX8_read 21 = .ok (.aload_n 0, 1) := by decide +kernel
theorem dX8_read_22 : decode cX8_read 22 = .ok (.iconst 0, 1) := by decide +kernel
theorem dX8_read_23 : decode cX8_read 23 = .ok (.putfield 130, 3) := by decide +kernel
theorem dX8_read_26 : decode cX8_read 26 = .ok (.aload_n 0, 1) := by decide +kernel
theorem dX8_read_27 : decode cX8_read 27 = .ok (.iconst 0, 1) := by decide +kernel
theorem dX8_read_28 : decode cX8_read 28 = .ok (.putfield 139, 3) := by decide +kernel
theorem dX8_read_31 : decode cX8_read 31 = .ok (.aload_n 0, 1) := by decide +kernel
theorem dX8_read_32 : decode cX8_read 32 = .ok (.iconst 0, 1) := by decide +kernel
theorem dX8_read_33 : decode cX8_read 33 = .ok (.putfield 142, 3) := by decide +kernel
theorem dX8_read_36 : decode cX8_read 36 = .ok (.aload_n 0, 1) := by decide +kernel
theorem dX8_read_37 : decode cX8_read 37 = .ok (.invokevirtual 93, 3) := by decide +kernel
theorem dX8_read_40 : decode cX8_read 40 = .ok (.aload_n 0, 1) := by decide +kernel
theorem dX8_read_41 : decode cX8_read 41 = .ok (.getfield 31, 3) := by decide +kernel
theorem dX8_read_44 : decode cX8_read 44 = .ok (.aload_n 0, 1) := by decide +kernel
theorem dX8_read_45 : decode cX8_read 45 = .ok (.getfield 34, 3) := by decide +kernel
theorem dX8_read_48 : decode cX8_read 48 = .ok (.if_icmp .ge 24, 3) := by decide +kernel
theorem dX8_read_51 : decode cX8_read 51 = .ok (.aload_n 0, 1) := by decide +kernel
theorem dX8_read_52 : decode cX8_read 52 = .ok (.getfield 27, 3) := by decide +kernel
theorem dX8_read_55 : decode cX8_read 55 = .ok (.invokevirtual 96, 3) := by decide +kernel
theorem dX8_read_58 : decode cX8_read 58 = .ok (.ifCond .ne 14, 3) := by decide +kernel
theorem dX8_read_61 : decode cX8_read 61 = .ok (.aload_n 0, 1) := by decide +kernel
theorem dX8_read_62 : decode cX8_read 62 = .ok (.invokevirtual 145, 3) := by decide +kernel
theorem dX8_read_65 : decode cX8_read 65 = .ok (.aload_n 0, 1) := by decide +kernel
theorem dX8_read_66 : decode cX8_read 66 = .ok (.invokevirtual 93, 3) := by decide +kernel
theorem dX8_read_69 : decode cX8_read 69 = .ok (.goto (-29), 3) := by decide +kernel
theorem dX8_read_72 : decode cX8_read 72 = .ok (.aload_n 0, 1) := by decide +kernel
theorem dX8_read_73 : decode cX8_read 73 = .ok (.getfield 19, 3) := by decide +kernel
theorem dX8_read_76 : decode cX8_read 76 = .ok (.getstatic 148, 3) := by decide +kernel
theorem dX8_read_79 : decode cX8_read 79 = .ok (.iconst 0, 1) := by decide +kernel
theorem dX8_read_80 : decode cX8_read 80 = .ok (.aload_n 0, 1) := by decide +kernel
theorem dX8_read_81 : decode cX8_read 81 = .ok (.getfield 34, 3) := by decide +kernel
theorem dX8_read_84 : decode cX8_read 84 = .ok (.iconst 0, 1) := by decide +kernel
theorem dX8_read_85 : decode cX8_read 85 = .ok (.invokevirtual 154, 3) := by decide +kernel
theorem dX8_read_88 : decode cX8_read 88 = .ok (.istore_n 3, 1) := by decide +kernel
theorem dX8_read_89 : decode cX8_read 89 = .ok (.return_, 1) := by decide +kernel
theorem dX8_skip_0 : decode cX8_skip 0 = .ok (.iconst 0, 1) := by decide +kernel
theorem dX8_skip_1 : decode cX8_skip 1 = .ok (.istore_n 1, 1) := by decide +kernel
theorem dX8_skip_2 : decode cX8_skip 2 = .ok (.aload_n 0, 1) := by decide +kernel
theorem dX8_skip_3 : decode cX8_skip 3 = .ok (.getfield 31, 3) := by decide +kernel
theorem dX8_skip_6 : decode cX8_skip 6 = .ok (.aload_n 0, 1) := by decide +kernel
theorem dX8_skip_7 : decode cX8_skip 7 = .ok (.getfield 34, 3) := by decide +kernel
theorem dX8_skip_10 : decode cX8_skip 10 = .ok (.if_icmp .ge 114, 3) := by decide +kernel
theorem dX8_skip_13 : decode cX8_skip 13 = .ok (.iload_n 1, 1) := by decide +kernel
theorem dX8_skip_14 : decode cX8_skip 14 = .ok (.ifCond .ne 59, 3) := by decide +kernel
theorem dX8_skip_17 : decode cX8_skip 17 = .ok (.aload_n 0, 1) := by decide +kernel
theorem dX8_skip_18 : decode cX8_skip 18 = .ok (.getfield 9, 3) := by decide +kernel
theorem dX8_skip_21 : decode cX8_skip 21 = .ok (.aload_n 0, 1) := by decide +kernel
theorem dX8_skip_22 : decode cX8_skip 22 = .ok (.getfield 31, 3) := by decide +kernel
theorem dX8_skip_25 : decode cX8_skip 25 = .ok (.baload, 1) := by decide +kernel
theorem dX8_skip_26 : decode cX8_skip 26 = .ok (.bipush 32, 2) := by decide +kernel
theorem dX8_skip_28 : decode cX8_skip 28 = .ok (.if_icmp .eq 45, 3) := by decide +kernel
theorem dX8_skip_31 : decode cX8_skip 31 = .ok (.aload_n 0, 1) := by decide +kernel
theorem dX8_skip_32 : decode cX8_skip 32 = .ok (.getfield 9, 3) := by decide +kernel
theorem dX8_skip_35 : decode cX8_skip 35 = .ok (.aload_n 0, 1) := by decide +kernel
theorem dX8_skip_36 : decode cX8_skip 36 = .ok (.getfield 31, 3) := by decide +kernel
theorem dX8_skip_39 : decode cX8_skip 39 = .ok (.baload, 1) := by decide +kernel
theorem dX8_skip_40 : decode cX8_skip 40 = .ok (.bipush 9, 2) := by decide +kernel
theorem dX8_skip_42 : decode cX8_skip 42 = .ok (.if_icmp .eq 31, 3) := by decide +kernel
theorem dX8_skip_45 : decode cX8_skip 45 = .ok (.aload_n 0, 1) := by decide +kernel
theorem dX8_skip_46 : decode cX8_skip 46 = .ok (.getfield 9, 3) := by decide +kernel
theorem dX8_skip_49 : decode cX8_skip 49 = .ok (.aload_n 0, 1) := by decide +kernel
theorem dX8_skip_50 : decode cX8_skip 50 = .ok (.getfield 31, 3) := by decide +kernel
theorem dX8_skip_53 : decode cX8_skip 53 = .ok (.baload, 1) := by decide +kernel
theorem dX8_skip_54 : decode cX8_skip 54 = .ok (.bipush 10, 2) := by decide +kernel
theorem dX8_skip_56 : decode cX8_skip 56 = .ok (.if_icmp .eq 17, 3) := by decide +kernel
theorem dX8_skip_59 : decode cX8_skip 59 = .ok (.aload_n 0, 1) := by decide +kernel
theorem dX8_skip_60 : decode cX8_skip 60 = .ok (.getfield 9, 3) := by decide +kernel
theorem dX8_skip_63 : decode cX8_skip 63 = .ok (.aload_n 0, 1) := by decide +kernel
theorem dX8_skip_64 : decode cX8_skip 64 = .ok (.getfield 31, 3) := by decide +kernel
theorem dX8_skip_67 : decode cX8_skip 67 = .ok (.baload, 1) := by decide +kernel
theorem dX8_skip_68 : decode cX8_skip 68 = .ok (.bipush 35, 2) := by decide +kernel
theorem dX8_skip_70 : decode cX8_skip 70 = .ok (.if_icmp .ne 54, 3) := by decide +kernel
theorem dX8_skip_73 : decode cX8_skip 73 = .ok (.aload_n 0, 1) := by decide +kernel
theorem dX8_skip_74 : decode cX8_skip 74 = .ok (.getfield 9, 3) := by decide +kernel
theorem dX8_skip_77 : decode cX8_skip 77 = .ok (.aload_n 0, 1) := by decide +kernel
theorem dX8_skip_78 : decode cX8_skip 78 = .ok (.getfield 31, 3) := by decide +kernel
theorem dX8_skip_81 : decode cX8_skip 81 = .ok (.baload, 1) := by decide +kernel
theorem dX8_skip_82 : decode cX8_skip 82 = .ok (.bipush 35, 2) := by decide +kernel
theorem dX8_skip_84 : decode cX8_skip 84 = .ok (.if_icmp .eq 21, 3) := by decide +kernel
theorem dX8_skip_87 : decode cX8_skip 87 = .ok (.iload_n 1, 1) := by decide +kernel
theorem dX8_skip_88 : decode cX8_skip 88 = .ok (.ifCond .eq 21, 3) := by decide +kernel
theorem dX8_skip_91 : decode cX8_skip 91 = .ok (.aload_n 0, 1) := by decide +kernel
theorem dX8_skip_92 : decode cX8_skip 92 = .ok (.getfield 9, 3) := by decide +kernel
theorem dX8_skip_95 : decode cX8_skip 95 = .ok (.aload_n 0, 1) := by decide +kernel
theorem dX8_skip_96 : decode cX8_skip 96 = .ok (.getfield 31, 3) := by decide +kernel
theorem dX8_skip_99 : decode cX8_skip 99 = .ok (.baload, 1) := by decide +kernel
theorem dX8_skip_100 : decode cX8_skip 100 = .ok (.bipush 10, 2) := by decide +kernel
theorem dX8_skip_102 : decode cX8_skip 102 = .ok (.if_icmp .eq 7, 3) := by decide +kernel
theorem dX8_skip_105 : decode cX8_skip 105 = .ok (.iconst 1, 1) := by decide +kernel
theorem dX8_skip_106 : decode cX8_skip 106 = .ok (.goto 4, 3) := by decide +kernel
theorem dX8_skip_109 : decode cX8_skip 109 = .ok (.iconst 0, 1) := by decide +kernel
theorem dX8_skip_110 : decode cX8_skip 110 = .ok (.istore_n 1, 1) := by decide +kernel
theorem dX8_skip_111 : decode cX8_skip 111 = .ok (.aload_n 0, 1) := by decide +kernel
theorem dX8_skip_112 : decode cX8_skip 112 = .ok (.dup, 1) := by decide +kernel
theorem dX8_skip_113 : decode cX8_skip 113 = .ok (.getfield 31, 3) := by decide +kernel
theorem dX8_skip_116 : decode cX8_skip 116 = .ok (.iconst 1, 1) := by decide +kernel
theorem dX8_skip_117 : decode cX8_skip 117 = .ok (.iadd, 1) := by decide +kernel
theorem dX8_skip_118 : decode cX8_skip 118 = .ok (.putfield 31, 3) := by decide +kernel
theorem dX8_skip_121 : decode cX8_skip 121 = .ok (.goto (-119), 3) := by decide +kernel
theorem dX8_skip_124 : decode cX8_skip 124 = .ok (.return_, 1) := by decide +kernel
theorem dX8_item_0 : decode cX8_item 0 = .ok (.aload_n 0, 1) := by decide +kernel
theorem dX8_item_1 : decode cX8_item 1 = .ok (.ldc 63, 2) := by decide +kernel
theorem dX8_item_3 : decode cX8_item 3 = .ok (.invokevirtual 65, 3) := by decide +kernel
theorem dX8_item_6 : decode cX8_item 6 = .ok (.ifCond .eq 10, 3) := by decide +kernel
theorem dX8_item_9 : decode cX8_item 9 = .ok (.aload_n 0, 1) := by decide +kernel
theorem dX8_item_10 : decode cX8_item 10 = .ok (.invokevirtual 160, 3) := by decide +kernel
theorem dX8_item_13 : decode cX8_item 13 = .ok (.goto 39, 3) := by decide +kernel
theorem dX8_item_16 : decode cX8_item 16 = .ok (.aload_n 0, 1) := by decide +kernel
theorem dX8_item_17 : decode cX8_item 17 = .ok (.ldc 73, 2) := by decide +kernel
theorem dX8_item_19 : decode cX8_item 19 = .ok (.invokevirtual 65, 3) := by decide +kernel
theorem dX8_item_22 : decode cX8_item 22 = .ok (.ifCond .eq 10, 3) := by decide +kernel
theorem dX8_item_25 : decode cX8_item 25 = .ok (.aload_n 0, 1) := by decide +kernel
theorem dX8_item_26 : decode cX8_item 26 = .ok (.invokevirtual 162, 3) := by decide +kernel
theorem dX8_item_29 : decode cX8_item 29 = .ok (.goto 23, 3) := by decide +kernel
theorem dX8_item_32 : decode cX8_item 32 = .ok (.aload_n 0, 1) := by decide +kernel
theorem dX8_item_33 : decode cX8_item 33 = .ok (.ldc 83, 2) := by decide +kernel
theorem dX8_item_35 : decode cX8_item 35 = .ok (.invokevirtual 65, 3) := by decide +kernel
theorem dX8_item_38 : decode cX8_item 38 = .ok (.ifCond .eq 10, 3) := by decide +kernel
theorem dX8_item_41 : decode cX8_item 41 = .ok (.aload_n 0, 1) := by decide +kernel
theorem dX8_item_42 : decode cX8_item 42 = .ok (.invokevirtual 164, 3) := by decide +kernel
theorem dX8_item_45 : decode cX8_item 45 = .ok (.goto 7, 3) := by decide +kernel
theorem dX8_item_48 : decode cX8_item 48 = .ok (.aload_n 0, 1) := by decide +kernel
theorem dX8_item_49 : decode cX8_item 49 = .ok (.invokevirtual 166, 3) := by decide +kernel
theorem dX8_item_52 : decode cX8_item 52 = .ok (.return_, 1) := by decide +kernel
theorem dX8_isWord_0 : decode cX8_isWord 0 = .ok (.aload_n 1, 1) := by decide +kernel
theorem dX8_isWord_1 : decode cX8_isWord 1 = .ok (.invokevirtual 50, 3) := by decide +kernel
theorem dX8_isWord_4 : decode cX8_isWord 4 = .ok (.istore_n 2, 1) := by decide +kernel
theorem dX8_isWord_5 : decode cX8_isWord 5 = .ok (.aload_n 0, 1) := by decide +kernel
theorem dX8_isWord_6 : decode cX8_isWord 6 = .ok (.invokevirtual 56, 3) := by decide +kernel
theorem dX8_isWord_9 : decode cX8_isWord 9 = .ok (.aload_n 0, 1) := by decide +kernel
theorem dX8_isWord_10 : decode cX8_isWord 10 = .ok (.getfield 31, 3) := by decide +kernel
theorem dX8_isWord_13 : decode cX8_isWord 13 = .ok (.isub, 1) := by decide +kernel
theorem dX8_isWord_14 : decode cX8_isWord 14 = .ok (.iload_n 2, 1) := by decide +kernel
theorem dX8_isWord_15 : decode cX8_isWord 15 = .ok (.if_icmp .eq 5, 3) := by decide +kernel
theorem dX8_isWord_18 : decode cX8_isWord 18 = .ok (.iconst 0, 1) := by decide +kernel
theorem dX8_isWord_19 : decode cX8_isWord 19 = .ok (.ireturn, 1) := by decide +kernel
theorem dX8_isWord_20 : decode cX8_isWord 20 = .ok (.iconst 0, 1) := by decide +kernel
theorem dX8_isWord_21 : decode cX8_isWord 21 = .ok (.istore_n 3, 1) := by decide +kernel
theorem dX8_isWord_22 : decode cX8_isWord 22 = .ok (.iload_n 3, 1) := by decide +kernel
theorem dX8_isWord_23 : decode cX8_isWord 23 = .ok (.iload_n 2, 1) := by decide +kernel
theorem dX8_isWord_24 : decode cX8_isWord 24 = .ok (.if_icmp .ge 30, 3) := by decide +kernel
theorem dX8_isWord_27 : decode cX8_isWord 27 = .ok (.aload_n 0, 1) := by decide +kernel
theorem dX8_isWord_28 : decode cX8_isWord 28 = .ok (.getfield 9, 3) := by decide +kernel
theorem dX8_isWord_31 : decode cX8_isWord 31 = .ok (.aload_n 0, 1) := by decide +kernel
theorem dX8_isWord_32 : decode cX8_isWord 32 = .ok (.getfield 31, 3) := by decide +kernel
theorem dX8_isWord_35 : decode cX8_isWord 35 = .ok (.iload_n 3, 1) := by decide +kernel
theorem dX8_isWord_36 : decode cX8_isWord 36 = .ok (.iadd, 1) := by decide +kernel
theorem dX8_isWord_37 : decode cX8_isWord 37 = .ok (.baload, 1) := by decide +kernel
theorem dX8_isWord_38 : decode cX8_isWord 38 = .ok (.aload_n 1, 1) := by decide +kernel
theorem dX8_isWord_39 : decode cX8_isWord 39 = .ok (.iload_n 3, 1) := by decide +kernel
theorem dX8_isWord_40 : decode cX8_isWord 40 = .ok (.invokevirtual 59, 3) := by decide +kernel
theorem dX8_isWord_43 : decode cX8_isWord 43 = .ok (.if_icmp .eq 5, 3) := by decide +kernel
theorem dX8_isWord_46 : decode cX8_isWord 46 = .ok (.iconst 0, 1) := by decide +kernel
theorem dX8_isWord_47 : decode cX8_isWord 47 = .ok (.ireturn, 1) := by decide +kernel
theorem dX8_isWord_48 : decode cX8_isWord 48 = .ok (.iinc 3 1, 3) := by decide +kernel
theorem dX8_isWord_51 : decode cX8_isWord 51 = .ok (.goto (-29), 3) := by decide +kernel
theorem dX8_isWord_54 : decode cX8_isWord 54 = .ok (.iconst 1, 1) := by decide +kernel
theorem dX8_isWord_55 : decode cX8_isWord 55 = .ok (.ireturn, 1) := by decide +kernel
theorem dX8_wordEnd_0 : decode cX8_wordEnd 0 = .ok (.aload_n 0, 1) := by decide +kernel
theorem dX8_wordEnd_1 : decode cX8_wordEnd 1 = .ok (.getfield 31, 3) := by decide +kernel
theorem dX8_wordEnd_4 : decode cX8_wordEnd 4 = .ok (.istore_n 1, 1) := by decide +kernel
theorem dX8_wordEnd_5 : decode cX8_wordEnd 5 = .ok (.iload_n 1, 1) := by decide +kernel
theorem dX8_wordEnd_6 : decode cX8_wordEnd 6 = .ok (.aload_n 0, 1) := by decide +kernel
theorem dX8_wordEnd_7 : decode cX8_wordEnd 7 = .ok (.getfield 34, 3) := by decide +kernel
theorem dX8_wordEnd_10 : decode cX8_wordEnd 10 = .ok (.if_icmp .ge 53, 3) := by decide +kernel
theorem dX8_wordEnd_13 : decode cX8_wordEnd 13 = .ok (.aload_n 0, 1) := by decide +kernel
theorem dX8_wordEnd_14 : decode cX8_wordEnd 14 = .ok (.getfield 9, 3) := by decide +kernel
theorem dX8_wordEnd_17 : decode cX8_wordEnd 17 = .ok (.iload_n 1, 1) := by decide +kernel
theorem dX8_wordEnd_18 : decode cX8_wordEnd 18 = .ok (.baload, 1) := by decide +kernel
theorem dX8_wordEnd_19 : decode cX8_wordEnd 19 = .ok (.invokestatic 43, 3) := by decide +kernel
theorem dX8_wordEnd_22 : decode cX8_wordEnd 22 = .ok (.ifCond .eq 41, 3) := by decide +kernel
theorem dX8_wordEnd_25 : decode cX8_wordEnd 25 = .ok (.iload_n 1, 1) := by decide +kernel
theorem dX8_wordEnd_26 : decode cX8_wordEnd 26 = .ok (.aload_n 0, 1) := by decide +kernel
theorem dX8_wordEnd_27 : decode cX8_wordEnd 27 = .ok (.getfield 34, 3) := by decide +kernel
theorem dX8_wordEnd_30 : decode cX8_wordEnd 30 = .ok (.if_icmp .ge 33, 3) := by decide +kernel
theorem dX8_wordEnd_33 : decode cX8_wordEnd 33 = .ok (.aload_n 0, 1) := by decide +kernel
theorem dX8_wordEnd_34 : decode cX8_wordEnd 34 = .ok (.getfield 9, 3) := by decide +kernel
theorem dX8_wordEnd_37 : decode cX8_wordEnd 37 = .ok (.iload_n 1, 1) := by decide +kernel
theorem dX8_wordEnd_38 : decode cX8_wordEnd 38 = .ok (.baload, 1) := by decide +kernel
theorem dX8_wordEnd_39 : decode cX8_wordEnd 39 = .ok (.invokestatic 43, 3) := by decide +kernel
theorem dX8_wordEnd_42 : decode cX8_wordEnd 42 = .ok (.ifCond .ne 15, 3) := by decide +kernel
theorem dX8_wordEnd_45 : decode cX8_wordEnd 45 = .ok (.aload_n 0, 1) := by decide +kernel
theorem dX8_wordEnd_46 : decode cX8_wordEnd 46 = .ok (.getfield 9, 3) := by decide +kernel
theorem dX8_wordEnd_49 : decode cX8_wordEnd 49 = .ok (.iload_n 1, 1) := by decide +kernel
theorem dX8_wordEnd_50 : decode cX8_wordEnd 50 = .ok (.baload, 1) := by decide +kernel
theorem dX8_wordEnd_51 : decode cX8_wordEnd 51 = .ok (.invokestatic 47, 3) := by decide +kernel
theorem dX8_wordEnd_54 : decode cX8_wordEnd 54 = .ok (.ifCond .eq 9, 3) := by decide +kernel
theorem dX8_wordEnd_57 : decode cX8_wordEnd 57 = .ok (.iinc 1 1, 3) := by decide +kernel
theorem dX8_wordEnd_60 : decode cX8_wordEnd 60 = .ok (.goto (-35), 3) := by decide +kernel
theorem dX8_wordEnd_63 : decode cX8_wordEnd 63 = .ok (.iload_n 1, 1) := by decide +kernel
theorem dX8_wordEnd_64 : decode cX8_wordEnd 64 = .ok (.ireturn, 1) := by decide +kernel
theorem dX8_isLetter_0 : decode cX8_isLetter 0 = .ok (.iload_n 0, 1) := by decide +kernel
theorem dX8_isLetter_1 : decode cX8_isLetter 1 = .ok (.bipush 97, 2) := by decide +kernel
theorem dX8_isLetter_3 : decode cX8_isLetter 3 = .ok (.if_icmp .lt 9, 3) := by decide +kernel
theorem dX8_isLetter_6 : decode cX8_isLetter 6 = .ok (.iload_n 0, 1) := by decide +kernel
theorem dX8_isLetter_7 : decode cX8_isLetter 7 = .ok (.bipush 122, 2) := by decide +kernel
theorem dX8_isLetter_9 : decode cX8_isLetter 9 = .ok (.if_icmp .le 21, 3) := by decide +kernel
theorem dX8_isLetter_12 : decode cX8_isLetter 12 = .ok (.iload_n 0, 1) := by decide +kernel
theorem dX8_isLetter_13 : decode cX8_isLetter 13 = .ok (.bipush 65, 2) := by decide +kernel
theorem dX8_isLetter_15 : decode cX8_isLetter 15 = .ok (.if_icmp .lt 9, 3) := by decide +kernel
theorem dX8_isLetter_18 : decode cX8_isLetter 18 = .ok (.iload_n 0, 1) := by decide +kernel
theorem dX8_isLetter_19 : decode cX8_isLetter 19 = .ok (.bipush 90, 2) := by decide +kernel
theorem dX8_isLetter_21 : decode cX8_isLetter 21 = .ok (.if_icmp .le 9, 3) := by decide +kernel
theorem dX8_isLetter_24 : decode cX8_isLetter 24 = .ok (.iload_n 0, 1) := by decide +kernel
theorem dX8_isLetter_25 : decode cX8_isLetter 25 = .ok (.bipush 95, 2) := by decide +kernel
theorem dX8_isLetter_27 : decode cX8_isLetter 27 = .ok (.if_icmp .ne 7, 3) := by decide +kernel
theorem dX8_isLetter_30 : decode cX8_isLetter 30 = .ok (.iconst 1, 1) := by decide +kernel
theorem dX8_isLetter_31 : decode cX8_isLetter 31 = .ok (.goto 4, 3) := by decide +kernel
theorem dX8_isLetter_34 : decode cX8_isLetter 34 = .ok (.iconst 0, 1) := by decide +kernel
theorem dX8_isLetter_35 : decode cX8_isLetter 35 = .ok (.ireturn, 1) := by decide +kernel
theorem dX8_isDigit_0 : decode cX8_isDigit 0 = .ok (.iload_n 0, 1) := by decide +kernel
theorem dX8_isDigit_1 : decode cX8_isDigit 1 = .ok (.bipush 48, 2) := by decide +kernel
theorem dX8_isDigit_3 : decode cX8_isDigit 3 = .ok (.if_icmp .lt 13, 3) := by decide +kernel
theorem dX8_isDigit_6 : decode cX8_isDigit 6 = .ok (.iload_n 0, 1) := by decide +kernel
theorem dX8_isDigit_7 : decode cX8_isDigit 7 = .ok (.bipush 57, 2) := by decide +kernel
theorem dX8_isDigit_9 : decode cX8_isDigit 9 = .ok (.if_icmp .gt 7, 3) := by decide +kernel
theorem dX8_isDigit_12 : decode cX8_isDigit 12 = .ok (.iconst 1, 1) := by decide +kernel
theorem dX8_isDigit_13 : decode cX8_isDigit 13 = .ok (.goto 4, 3) := by decide +kernel
theorem dX8_isDigit_16 : decode cX8_isDigit 16 = .ok (.iconst 0, 1) := by decide +kernel
theorem dX8_isDigit_17 : decode cX8_isDigit 17 = .ok (.ireturn, 1) := by decide +kernel
theorem dX8_input_0 : decode cX8_input 0 = .ok (.aload_n 0, 1) := by decide +kernel
theorem dX8_input_1 : decode cX8_input 1 = .ok (.dup, 1) := by decide +kernel
theorem dX8_input_2 : decode cX8_input 2 = .ok (.getfield 31, 3) := by decide +kernel
theorem dX8_input_5 : decode cX8_input 5 = .ok (.iconst 5, 1) := by decide +kernel
theorem dX8_input_6 : decode cX8_input 6 = .ok (.iadd, 1) := by decide +kernel
theorem dX8_input_7 : decode cX8_input 7 = .ok (.putfield 31, 3) := by decide +kernel
theorem dX8_input_10 : decode cX8_input 10 = .ok (.aload_n 0, 1) := by decide +kernel
theorem dX8_input_11 : decode cX8_input 11 = .ok (.invokevirtual 186, 3) := by decide +kernel
theorem dX8_input_14 : decode cX8_input 14 = .ok (.istore_n 1, 1) := by decide +kernel
theorem dX8_input_15 : decode cX8_input 15 = .ok (.aload_n 0, 1) := by decide +kernel
theorem dX8_input_16 : decode cX8_input 16 = .ok (.getfield 114, 3) := by decide +kernel
theorem dX8_input_19 : decode cX8_input 19 = .ok (.istore_n 2, 1) := by decide +kernel
theorem dX8_input_20 : decode cX8_input 20 = .ok (.aload_n 0, 1) := by decide +kernel
theorem dX8_input_21 : decode cX8_input 21 = .ok (.ldc 69, 2) := by decide +kernel
theorem dX8_input_23 : decode cX8_input 23 = .ok (.invokevirtual 189, 3) := by decide +kernel
theorem dX8_input_26 : decode cX8_input 26 = .ok (.aload_n 0, 1) := by decide +kernel
theorem dX8_input_27 : decode cX8_input 27 = .ok (.lconst 0, 1) := by decide +kernel
theorem dX8_input_28 : decode cX8_input 28 = .ok (.aload_n 0, 1) := by decide +kernel
theorem dX8_input_29 : decode cX8_input 29 = .ok (.getfield 15, 3) := by decide +kernel
theorem dX8_input_32 : decode cX8_input 32 = .ok (.iconst 1, 1) := by decide +kernel
theorem dX8_input_33 : decode cX8_input 33 = .ok (.isub, 1) := by decide +kernel
theorem dX8_input_34 : decode cX8_input 34 = .ok (.i2l, 1) := by decide +kernel
theorem dX8_input_35 : decode cX8_input 35 = .ok (.invokevirtual 179, 3) := by decide +kernel
theorem dX8_input_38 : decode cX8_input 38 = .ok (.istore_n 3, 1) := by decide +kernel
theorem dX8_input_39 : decode cX8_input 39 = .ok (.aload_n 0, 1) := by decide +kernel
theorem dX8_input_40 : decode cX8_input 40 = .ok (.bipush 58, 2) := by decide +kernel
theorem dX8_input_42 : decode cX8_input 42 = .ok (.invokevirtual 182, 3) := by decide +kernel
theorem dX8_input_45 : decode cX8_input 45 = .ok (.aload_n 0, 1) := by decide +kernel
theorem dX8_input_46 : decode cX8_input 46 = .ok (.invokevirtual 193, 3) := by decide +kernel
theorem dX8_input_49 : decode cX8_input 49 = .ok (.aload_n 0, 1) := by decide +kernel
theorem dX8_input_50 : decode cX8_input 50 = .ok (.getfield 27, 3) := by decide +kernel
theorem dX8_input_53 : decode cX8_input 53 = .ok (.invokevirtual 96, 3) := by decide +kernel
theorem dX8_input_56 : decode cX8_input 56 = .ok (.ifCond .eq 4, 3) := by decide +kernel
theorem dX8_input_59 : decode cX8_input 59 = .ok (.return_, 1) := by decide +kernel
theorem dX8_input_60 : decode cX8_input 60 = .ok (.aload_n 0, 1) := by decide +kernel
theorem dX8_input_61 : decode cX8_input 61 = .ok (.dup, 1) := by decide +kernel
theorem dX8_input_62 : decode cX8_input 62 = .ok (.getfield 139, 3) := by decide +kernel
theorem dX8_input_65 : decode cX8_input 65 = .ok (.iconst 1, 1) := by decide +kernel
theorem dX8_input_66 : decode cX8_input 66 = .ok (.aload_n 0, 1) := by decide +kernel
theorem dX8_input_67 : decode cX8_input 67 = .ok (.getfield 174, 3) := by decide +kernel
theorem dX8_input_70 : decode cX8_input 70 = .ok (.invokestatic 196, 3) := by decide +kernel
theorem dX8_input_73 : decode cX8_input 73 = .ok (.iadd, 1) := by decide +kernel
theorem dX8_input_74 : decode cX8_input 74 = .ok (.putfield 139, 3) := by decide +kernel
theorem dX8_input_77 : decode cX8_input 77 = .ok (.aload_n 0, 1) := by decide +kernel
theorem dX8_input_78 : decode cX8_input 78 = .ok (.getfield 139, 3) := by decide +kernel
theorem dX8_input_81 : decode cX8_input 81 = .ok (.sipush 256, 3) := by decide +kernel
theorem dX8_input_84 : decode cX8_input 84 = .ok (.if_icmp .le 12, 3) := by decide +kernel
theorem dX8_input_87 : decode cX8_input 87 = .ok (.aload_n 0, 1) := by decide +kernel
theorem dX8_input_88 : decode cX8_input 88 = .ok (.getfield 27, 3) := by decide +kernel
theorem dX8_input_91 : decode cX8_input 91 = .ok (.iconst 2, 1) := by decide +kernel
theorem dX8_input_92 : decode cX8_input 92 = .ok (.iload_n 2, 1) := by decide +kernel
theorem dX8_input_93 : decode cX8_input 93 = .ok (.invokevirtual 37, 3) := by decide +kernel
theorem dX8_input_96 : decode cX8_input 96 = .ok (.aload_n 0, 1) := by decide +kernel
theorem dX8_input_97 : decode cX8_input 97 = .ok (.bipush 59, 2) := by decide +kernel
theorem dX8_input_99 : decode cX8_input 99 = .ok (.invokevirtual 182, 3) := by decide +kernel
theorem dX8_input_102 : decode cX8_input 102 = .ok (.aload_n 0, 1) := by decide +kernel
theorem dX8_input_103 : decode cX8_input 103 = .ok (.getfield 19, 3) := by decide +kernel
theorem dX8_input_106 : decode cX8_input 106 = .ok (.getstatic 202, 3) := by decide +kernel
theorem dX8_input_109 : decode cX8_input 109 = .ok (.iload_n 1, 1) := by decide +kernel
theorem dX8_input_110 : decode cX8_input 110 = .ok (.iload_n 2, 1) := by decide +kernel
theorem dX8_input_111 : decode cX8_input 111 = .ok (.sipush 256, 3) := by decide +kernel
theorem dX8_input_114 : decode cX8_input 114 = .ok (.iload_n 3, 1) := by decide +kernel
theorem dX8_input_115 : decode cX8_input 115 = .ok (.imul, 1) := by decide +kernel
theorem dX8_input_116 : decode cX8_input 116 = .ok (.iconst 2, 1) := by decide +kernel
theorem dX8_input_117 : decode cX8_input 117 = .ok (.aload_n 0, 1) := by decide +kernel
theorem dX8_input_118 : decode cX8_input 118 = .ok (.getfield 174, 3) := by decide +kernel
theorem dX8_input_121 : decode cX8_input 121 = .ok (.imul, 1) := by decide +kernel
theorem dX8_input_122 : decode cX8_input 122 = .ok (.iadd, 1) := by decide +kernel
theorem dX8_input_123 : decode cX8_input 123 = .ok (.aload_n 0, 1) := by decide +kernel
theorem dX8_input_124 : decode cX8_input 124 = .ok (.getfield 172, 3) := by decide +kernel
theorem dX8_input_127 : decode cX8_input 127 = .ok (.iadd, 1) := by decide +kernel
theorem dX8_input_128 : decode cX8_input 128 = .ok (.invokevirtual 154, 3) := by decide +kernel
theorem dX8_input_131 : decode cX8_input 131 = .ok (.istore 4, 2) := by decide +kernel
theorem dX8_input_133 : decode cX8_input 133 = .ok (.return_, 1) := by decide +kernel
theorem dX8_name_0 : decode cX8_name 0 = .ok (.aload_n 0, 1) := by decide +kernel
theorem dX8_name_1 : decode cX8_name 1 = .ok (.invokevirtual 93, 3) := by decide +kernel
theorem dX8_name_4 : decode cX8_name 4 = .ok (.aload_n 0, 1) := by decide +kernel
theorem dX8_name_5 : decode cX8_name 5 = .ok (.getfield 27, 3) := by decide +kernel
theorem dX8_name_8 : decode cX8_name 8 = .ok (.invokevirtual 96, 3) := by decide +kernel
theorem dX8_name_11 : decode cX8_name 11 = .ok (.ifCond .eq 5, 3) := by decide +kernel
theorem dX8_name_14 : decode cX8_name 14 = .ok (.iconst 0, 1) := by decide +kernel
theorem dX8_name_15 : decode cX8_name 15 = .ok (.ireturn, 1) := by decide +kernel
theorem dX8_name_16 : decode cX8_name 16 = .ok (.aload_n 0, 1) := by decide +kernel
theorem dX8_name_17 : decode cX8_name 17 = .ok (.invokevirtual 56, 3) := by decide +kernel
theorem dX8_name_20 : decode cX8_name 20 = .ok (.istore_n 1, 1) := by decide +kernel
theorem dX8_name_21 : decode cX8_name 21 = .ok (.aload_n 0, 1) := by decide +kernel
theorem dX8_name_22 : decode cX8_name 22 = .ok (.aload_n 0, 1) := by decide +kernel
theorem dX8_name_23 : decode cX8_name 23 = .ok (.getfield 31, 3) := by decide +kernel
theorem dX8_name_26 : decode cX8_name 26 = .ok (.putfield 114, 3) := by decide +kernel
theorem dX8_name_29 : decode cX8_name 29 = .ok (.iload_n 1, 1) := by decide +kernel
theorem dX8_name_30 : decode cX8_name 30 = .ok (.aload_n 0, 1) := by decide +kernel
theorem dX8_name_31 : decode cX8_name 31 = .ok (.getfield 31, 3) := by decide +kernel
theorem dX8_name_34 : decode cX8_name 34 = .ok (.if_icmp .eq 10, 3) := by decide +kernel
theorem dX8_name_37 : decode cX8_name 37 = .ok (.aload_n 0, 1) := by decide +kernel
theorem dX8_name_38 : decode cX8_name 38 = .ok (.invokevirtual 117, 3) := by decide +kernel
theorem dX8_name_41 : decode cX8_name 41 = .ok (.ifCond .eq 10, 3) := by decide +kernel
theorem dX8_name_44 : decode cX8_name 44 = .ok (.aload_n 0, 1) := by decide +kernel
theorem dX8_name_45 : decode cX8_name 45 = .ok (.invokevirtual 100, 3) := by decide +kernel
theorem dX8_name_48 : decode cX8_name 48 = .ok (.goto 26, 3) := by decide +kernel
theorem dX8_name_51 : decode cX8_name 51 = .ok (.iload_n 1, 1) := by decide +kernel
theorem dX8_name_52 : decode cX8_name 52 = .ok (.aload_n 0, 1) := by decide +kernel
theorem dX8_name_53 : decode cX8_name 53 = .ok (.getfield 31, 3) := by decide +kernel
theorem dX8_name_56 : decode cX8_name 56 = .ok (.isub, 1) := by decide +kernel
theorem dX8_name_57 : decode cX8_name 57 = .ok (.bipush 16, 2) := by decide +kernel
theorem dX8_name_59 : decode cX8_name 59 = .ok (.if_icmp .le 15, 3) := by decide +kernel
theorem dX8_name_62 : decode cX8_name 62 = .ok (.aload_n 0, 1) := by decide +kernel
theorem dX8_name_63 : decode cX8_name 63 = .ok (.getfield 27, 3) := by decide +kernel
theorem dX8_name_66 : decode cX8_name 66 = .ok (.iconst 2, 1) := by decide +kernel
theorem dX8_name_67 : decode cX8_name 67 = .ok (.aload_n 0, 1) := by decide +kernel
theorem dX8_name_68 : decode cX8_name 68 = .ok (.getfield 31, 3) := by decide +kernel
theorem dX8_name_71 : decode cX8_name 71 = .ok (.invokevirtual 37, 3) := by decide +kernel
theorem dX8_name_74 : decode cX8_name 74 = .ok (.aload_n 0, 1) := by decide +kernel
theorem dX8_name_75 : decode cX8_name 75 = .ok (.getfield 27, 3) := by decide +kernel
theorem dX8_name_78 : decode cX8_name 78 = .ok (.invokevirtual 96, 3) := by decide +kernel
theorem dX8_name_81 : decode cX8_name 81 = .ok (.ifCond .eq 5, 3) := by decide +kernel
theorem dX8_name_84 : decode cX8_name 84 = .ok (.iconst 0, 1) := by decide +kernel
theorem dX8_name_85 : decode cX8_name 85 = .ok (.ireturn, 1) := by decide +kernel
theorem dX8_name_86 : decode cX8_name 86 = .ok (.aload_n 0, 1) := by decide +kernel
theorem dX8_name_87 : decode cX8_name 87 = .ok (.getfield 23, 3) := by decide +kernel
theorem dX8_name_90 : decode cX8_name 90 = .ok (.aload_n 0, 1) := by decide +kernel
theorem dX8_name_91 : decode cX8_name 91 = .ok (.getfield 9, 3) := by decide +kernel
theorem dX8_name_94 : decode cX8_name 94 = .ok (.aload_n 0, 1) := by decide +kernel
theorem dX8_name_95 : decode cX8_name 95 = .ok (.getfield 31, 3) := by decide +kernel
theorem dX8_name_98 : decode cX8_name 98 = .ok (.iload_n 1, 1) := by decide +kernel
theorem dX8_name_99 : decode cX8_name 99 = .ok (.aload_n 0, 1) := by decide +kernel
theorem dX8_name_100 : decode cX8_name 100 = .ok (.getfield 31, 3) := by decide +kernel
theorem dX8_name_103 : decode cX8_name 103 = .ok (.isub, 1) := by decide +kernel
theorem dX8_name_104 : decode cX8_name 104 = .ok (.invokevirtual 120, 3) := by decide +kernel
theorem dX8_name_107 : decode cX8_name 107 = .ok (.istore_n 2, 1) := by decide +kernel
theorem dX8_name_108 : decode cX8_name 108 = .ok (.aload_n 0, 1) := by decide +kernel
theorem dX8_name_109 : decode cX8_name 109 = .ok (.iload_n 1, 1) := by decide +kernel
theorem dX8_name_110 : decode cX8_name 110 = .ok (.putfield 31, 3) := by decide +kernel
theorem dX8_name_113 : decode cX8_name 113 = .ok (.iload_n 2, 1) := by decide +kernel
theorem dX8_name_114 : decode cX8_name 114 = .ok (.ireturn, 1) := by decide +kernel
theorem dX8_isKeyword_0 : decode cX8_isKeyword 0 = .ok (.aload_n 0, 1) := by decide +kernel
theorem dX8_isKeyword_1 : decode cX8_isKeyword 1 = .ok (.ldc 63, 2) := by decide +kernel
theorem dX8_isKeyword_3 : decode cX8_isKeyword 3 = .ok (.invokevirtual 65, 3) := by decide +kernel
theorem dX8_isKeyword_6 : decode cX8_isKeyword 6 = .ok (.ifCond .ne 111, 3) := by decide +kernel
theorem dX8_isKeyword_9 : decode cX8_isKeyword 9 = .ok (.aload_n 0, 1) := by decide +kernel
theorem dX8_isKeyword_10 : decode cX8_isKeyword 10 = .ok (.ldc 69, 2) := by decide +kernel
theorem dX8_isKeyword_12 : decode cX8_isKeyword 12 = .ok (.invokevirtual 65, 3) := by decide +kernel
theorem dX8_isKeyword_15 : decode cX8_isKeyword 15 = .ok (.ifCond .ne 102, 3) := by decide +kernel
theorem dX8_isKeyword_18 : decode cX8_isKeyword 18 = .ok (.aload_n 0, 1) := by decide +kernel
theorem dX8_isKeyword_19 : decode cX8_isKeyword 19 = .ok (.ldc 71, 2) := by decide +kernel
theorem dX8_isKeyword_21 : decode cX8_isKeyword 21 = .ok (.invokevirtual 65, 3) := by decide +kernel
theorem dX8_isKeyword_24 : decode cX8_isKeyword 24 = .ok (.ifCond .ne 93, 3) := by decide +kernel
theorem dX8_isKeyword_27 : decode cX8_isKeyword 27 = .ok (.aload_n 0, 1) := by decide +kernel
theorem dX8_isKeyword_28 : decode cX8_isKeyword 28 = .ok (.ldc 73, 2) := by decide +kernel
theorem dX8_isKeyword_30 : decode cX8_isKeyword 30 = .ok (.invokevirtual 65, 3) := by decide +kernel
theorem dX8_isKeyword_33 : decode cX8_isKeyword 33 = .ok (.ifCond .ne 84, 3) := by decide +kernel
theorem dX8_isKeyword_36 : decode cX8_isKeyword 36 = .ok (.aload_n 0, 1) := by decide +kernel
theorem dX8_isKeyword_37 : decode cX8_isKeyword 37 = .ok (.ldc 75, 2) := by decide +kernel
theorem dX8_isKeyword_39 : decode cX8_isKeyword 39 = .ok (.invokevirtual 65, 3) := by decide +kernel
theorem dX8_isKeyword_42 : decode cX8_isKeyword 42 = .ok (.ifCond .ne 75, 3) := by decide +kernel
theorem dX8_isKeyword_45 : decode cX8_isKeyword 45 = .ok (.aload_n 0, 1) := by decide +kernel
theorem dX8_isKeyword_46 : decode cX8_isKeyword 46 = .ok (.ldc 77, 2) := by decide +kernel
theorem dX8_isKeyword_48 : decode cX8_isKeyword 48 = .ok (.invokevirtual 65, 3) := by decide +kernel
theorem dX8_isKeyword_51 : decode cX8_isKeyword 51 = .ok (.ifCond .ne 66, 3) := by decide +kernel
theorem dX8_isKeyword_54 : decode cX8_isKeyword 54 = .ok (.aload_n 0, 1) := by decide +kernel
theorem dX8_isKeyword_55 : decode cX8_isKeyword 55 = .ok (.ldc 79, 2) := by decide +kernel
theorem dX8_isKeyword_57 : decode cX8_isKeyword 57 = .ok (.invokevirtual 65, 3) := by decide +kernel
theorem dX8_isKeyword_60 : decode cX8_isKeyword 60 = .ok (.ifCond .ne 57, 3) := by decide +kernel
theorem dX8_isKeyword_63 : decode cX8_isKeyword 63 = .ok (.aload_n 0, 1) := by decide +kernel
theorem dX8_isKeyword_64 : decode cX8_isKeyword 64 = .ok (.ldc 81, 2) := by decide +kernel
theorem dX8_isKeyword_66 : decode cX8_isKeyword 66 = .ok (.invokevirtual 65, 3) := by decide +kernel
theorem dX8_isKeyword_69 : decode cX8_isKeyword 69 = .ok (.ifCond .ne 48, 3) := by decide +kernel
theorem dX8_isKeyword_72 : decode cX8_isKeyword 72 = .ok (.aload_n 0, 1) := by decide +kernel
theorem dX8_isKeyword_73 : decode cX8_isKeyword 73 = .ok (.ldc 83, 2) := by decide +kernel
theorem dX8_isKeyword_75 : decode cX8_isKeyword 75 = .ok (.invokevirtual 65, 3) := by decide +kernel
theorem dX8_isKeyword_78 : decode cX8_isKeyword 78 = .ok (.ifCond .ne 39, 3) := by decide +kernel
theorem dX8_isKeyword_81 : decode cX8_isKeyword 81 = .ok (.aload_n 0, 1) := by decide +kernel
theorem dX8_isKeyword_82 : decode cX8_isKeyword 82 = .ok (.ldc 85, 2) := by decide +kernel
theorem dX8_isKeyword_84 : decode cX8_isKeyword 84 = .ok (.invokevirtual 65, 3) := by decide +kernel
theorem dX8_isKeyword_87 : decode cX8_isKeyword 87 = .ok (.ifCond .ne 30, 3) := by decide +kernel
theorem dX8_isKeyword_90 : decode cX8_isKeyword 90 = .ok (.aload_n 0, 1) := by decide +kernel
theorem dX8_isKeyword_91 : decode cX8_isKeyword 91 = .ok (.ldc 87, 2) := by decide +kernel
theorem dX8_isKeyword_93 : decode cX8_isKeyword 93 = .ok (.invokevirtual 65, 3) := by decide +kernel
theorem dX8_isKeyword_96 : decode cX8_isKeyword 96 = .ok (.ifCond .ne 21, 3) := by decide +kernel
theorem dX8_isKeyword_99 : decode cX8_isKeyword 99 = .ok (.aload_n 0, 1) := by decide +kernel
theorem dX8_isKeyword_100 : decode cX8_isKeyword 100 = .ok (.ldc 89, 2) := by decide +kernel
theorem dX8_isKeyword_102 : decode cX8_isKeyword 102 = .ok (.invokevirtual 65, 3) := by decide +kernel
theorem dX8_isKeyword_105 : decode cX8_isKeyword 105 = .ok (.ifCond .ne 12, 3) := by decide +kernel
theorem dX8_isKeyword_108 : decode cX8_isKeyword 108 = .ok (.aload_n 0, 1) := by decide +kernel
theorem dX8_isKeyword_109 : decode cX8_isKeyword 109 = .ok (.ldc 91, 2) := by decide +kernel
theorem dX8_isKeyword_111 : decode cX8_isKeyword 111 = .ok (.invokevirtual 65, 3) := by decide +kernel
theorem dX8_isKeyword_114 : decode cX8_isKeyword 114 = .ok (.ifCond .eq 7, 3) := by decide +kernel
theorem dX8_isKeyword_117 : decode cX8_isKeyword 117 = .ok (.iconst 1, 1) := by decide +kernel
theorem dX8_isKeyword_118 : decode cX8_isKeyword 118 = .ok (.goto 4, 3) := by decide +kernel
theorem dX8_isKeyword_121 : decode cX8_isKeyword 121 = .ok (.iconst 0, 1) := by decide +kernel
theorem dX8_isKeyword_122 : decode cX8_isKeyword 122 = .ok (.ireturn, 1) := by decide +kernel
theorem dX8_bad_0 : decode cX8_bad 0 = .ok (.aload_n 0, 1) := by decide +kernel
theorem dX8_bad_1 : decode cX8_bad 1 = .ok (.getfield 27, 3) := by decide +kernel
theorem dX8_bad_4 : decode cX8_bad 4 = .ok (.iconst 1, 1) := by decide +kernel
theorem dX8_bad_5 : decode cX8_bad 5 = .ok (.aload_n 0, 1) := by decide +kernel
theorem dX8_bad_6 : decode cX8_bad 6 = .ok (.getfield 31, 3) := by decide +kernel
theorem dX8_bad_9 : decode cX8_bad 9 = .ok (.invokevirtual 37, 3) := by decide +kernel
theorem dX8_bad_12 : decode cX8_bad 12 = .ok (.return_, 1) := by decide +kernel
theorem dX8_word_0 : decode cX8_word 0 = .ok (.aload_n 0, 1) := by decide +kernel
theorem dX8_word_1 : decode cX8_word 1 = .ok (.invokevirtual 93, 3) := by decide +kernel
theorem dX8_word_4 : decode cX8_word 4 = .ok (.aload_n 0, 1) := by decide +kernel
theorem dX8_word_5 : decode cX8_word 5 = .ok (.getfield 27, 3) := by decide +kernel
theorem dX8_word_8 : decode cX8_word 8 = .ok (.invokevirtual 96, 3) := by decide +kernel
theorem dX8_word_11 : decode cX8_word 11 = .ok (.ifCond .eq 4, 3) := by decide +kernel
theorem dX8_word_14 : decode cX8_word 14 = .ok (.return_, 1) := by decide +kernel
theorem dX8_word_15 : decode cX8_word 15 = .ok (.aload_n 0, 1) := by decide +kernel
theorem dX8_word_16 : decode cX8_word 16 = .ok (.aload_n 1, 1) := by decide +kernel
theorem dX8_word_17 : decode cX8_word 17 = .ok (.invokevirtual 65, 3) := by decide +kernel
theorem dX8_word_20 : decode cX8_word 20 = .ok (.ifCond .eq 19, 3) := by decide +kernel
theorem dX8_word_23 : decode cX8_word 23 = .ok (.aload_n 0, 1) := by decide +kernel
theorem dX8_word_24 : decode cX8_word 24 = .ok (.dup, 1) := by decide +kernel
theorem dX8_word_25 : decode cX8_word 25 = .ok (.getfield 31, 3) := by decide +kernel
theorem dX8_word_28 : decode cX8_word 28 = .ok (.aload_n 1, 1) := by decide +kernel
theorem dX8_word_29 : decode cX8_word 29 = .ok (.invokevirtual 50, 3) := by decide +kernel
theorem dX8_word_32 : decode cX8_word 32 = .ok (.iadd, 1) := by decide +kernel
theorem dX8_word_33 : decode cX8_word 33 = .ok (.putfield 31, 3) := by decide +kernel
theorem dX8_word_36 : decode cX8_word 36 = .ok (.goto 7, 3) := by decide +kernel
theorem dX8_word_39 : decode cX8_word 39 = .ok (.aload_n 0, 1) := by decide +kernel
theorem dX8_word_40 : decode cX8_word 40 = .ok (.invokevirtual 100, 3) := by decide +kernel
theorem dX8_word_43 : decode cX8_word 43 = .ok (.return_, 1) := by decide +kernel
theorem dX8_number_0 : decode cX8_number 0 = .ok (.aload_n 0, 1) := by decide +kernel
theorem dX8_number_1 : decode cX8_number 1 = .ok (.invokevirtual 93, 3) := by decide +kernel
theorem dX8_number_4 : decode cX8_number 4 = .ok (.aload_n 0, 1) := by decide +kernel
theorem dX8_number_5 : decode cX8_number 5 = .ok (.getfield 27, 3) := by decide +kernel
theorem dX8_number_8 : decode cX8_number 8 = .ok (.invokevirtual 96, 3) := by decide +kernel
theorem dX8_number_11 : decode cX8_number 11 = .ok (.ifCond .eq 5, 3) := by decide +kernel
theorem dX8_number_14 : decode cX8_number 14 = .ok (.iconst 0, 1) := by decide +kernel
theorem dX8_number_15 : decode cX8_number 15 = .ok (.ireturn, 1) := by decide +kernel
theorem dX8_number_16 : decode cX8_number 16 = .ok (.aload_n 0, 1) := by decide +kernel
theorem dX8_number_17 : decode cX8_number 17 = .ok (.aload_n 0, 1) := by decide +kernel
theorem dX8_number_18 : decode cX8_number 18 = .ok (.getfield 31, 3) := by decide +kernel
theorem dX8_number_21 : decode cX8_number 21 = .ok (.putfield 114, 3) := by decide +kernel
theorem dX8_number_24 : decode cX8_number 24 = .ok (.aload_n 0, 1) := by decide +kernel
theorem dX8_number_25 : decode cX8_number 25 = .ok (.iconst 0, 1) := by decide +kernel
theorem dX8_number_26 : decode cX8_number 26 = .ok (.invokevirtual 103, 3) := by decide +kernel
theorem dX8_number_29 : decode cX8_number 29 = .ok (.invokestatic 47, 3) := by decide +kernel
theorem dX8_number_32 : decode cX8_number 32 = .ok (.ifCond .ne 9, 3) := by decide +kernel
theorem dX8_number_35 : decode cX8_number 35 = .ok (.aload_n 0, 1) := by decide +kernel
theorem dX8_number_36 : decode cX8_number 36 = .ok (.invokevirtual 100, 3) := by decide +kernel
theorem dX8_number_39 : decode cX8_number 39 = .ok (.iconst 0, 1) := by decide +kernel
theorem dX8_number_40 : decode cX8_number 40 = .ok (.ireturn, 1) := by decide +kernel
theorem dX8_number_41 : decode cX8_number 41 = .ok (.lconst 0, 1) := by decide +kernel
theorem dX8_number_42 : decode cX8_number 42 = .ok (.lstore 5, 2) := by decide +kernel
theorem dX8_number_44 : decode cX8_number 44 = .ok (.iconst 0, 1) := by decide +kernel
theorem dX8_number_45 : decode cX8_number 45 = .ok (.istore 7, 2) := by decide +kernel
theorem dX8_number_47 : decode cX8_number 47 = .ok (.aload_n 0, 1) := by decide +kernel
theorem dX8_number_48 : decode cX8_number 48 = .ok (.iload 7, 2) := by decide +kernel
theorem dX8_number_50 : decode cX8_number 50 = .ok (.invokevirtual 103, 3) := by decide +kernel
theorem dX8_number_53 : decode cX8_number 53 = .ok (.invokestatic 47, 3) := by decide +kernel
theorem dX8_number_56 : decode cX8_number 56 = .ok (.ifCond .eq 41, 3) := by decide +kernel
theorem dX8_number_59 : decode cX8_number 59 = .ok (.iload 7, 2) := by decide +kernel
theorem dX8_number_61 : decode cX8_number 61 = .ok (.bipush 10, 2) := by decide +kernel
theorem dX8_number_63 : decode cX8_number 63 = .ok (.if_icmp .ge 24, 3) := by decide +kernel
theorem dX8_number_66 : decode cX8_number 66 = .ok (.ldc2_w 126, 3) := by decide +kernel
theorem dX8_number_69 : decode cX8_number 69 = .ok (.lload 5, 2) := by decide +kernel
theorem dX8_number_71 : decode cX8_number 71 = .ok (.lmul, 1) := by decide +kernel
theorem dX8_number_72 : decode cX8_number 72 = .ok (.aload_n 0, 1) := by decide +kernel
theorem dX8_number_73 : decode cX8_number 73 = .ok (.iload 7, 2) := by decide +kernel
theorem dX8_number_75 : decode cX8_number 75 = .ok (.invokevirtual 103, 3) := by decide +kernel
theorem dX8_number_78 : decode cX8_number 78 = .ok (.i2l, 1) := by decide +kernel
theorem dX8_number_79 : decode cX8_number 79 = .ok (.ladd, 1) := by decide +kernel
theorem dX8_number_80 : decode cX8_number 80 = .ok (.ldc2_w 128, 3) := by decide +kernel
theorem dX8_number_83 : decode cX8_number 83 = .ok (.lsub, 1) := by decide +kernel
theorem dX8_number_84 : decode cX8_number 84 = .ok (.goto 5, 3) := by decide +kernel
theorem dX8_number_87 : decode cX8_number 87 = .ok (.lload 5, 2) := by decide +kernel
theorem dX8_number_89 : decode cX8_number 89 = .ok (.lstore 5, 2) := by decide +kernel
theorem dX8_number_91 : decode cX8_number 91 = .ok (.iinc 7 1, 3) := by decide +kernel
theorem dX8_number_94 : decode cX8_number 94 = .ok (.goto (-47), 3) := by decide +kernel
theorem dX8_number_97 : decode cX8_number 97 = .ok (.iload 7, 2) := by decide +kernel
theorem dX8_number_99 : decode cX8_number 99 = .ok (.bipush 10, 2) := by decide +kernel
theorem dX8_number_101 : decode cX8_number 101 = .ok (.if_icmp .gt 17, 3) := by decide +kernel
theorem dX8_number_104 : decode cX8_number 104 = .ok (.lload 5, 2) := by decide +kernel
theorem dX8_number_106 : decode cX8_number 106 = .ok (.lload_n 1, 1) := by decide +kernel
theorem dX8_number_107 : decode cX8_number 107 = .ok (.lcmp, 1) := by decide +kernel
theorem dX8_number_108 : decode cX8_number 108 = .ok (.ifCond .lt 10, 3) := by decide +kernel
theorem dX8_number_111 : decode cX8_number 111 = .ok (.lload 5, 2) := by decide +kernel
theorem dX8_number_113 : decode cX8_number 113 = .ok (.lload_n 3, 1) := by decide +kernel
theorem dX8_number_114 : decode cX8_number 114 = .ok (.lcmp, 1) := by decide +kernel
theorem dX8_number_115 : decode cX8_number 115 = .ok (.ifCond .le 15, 3) := by decide +kernel
theorem dX8_number_118 : decode cX8_number 118 = .ok (.aload_n 0, 1) := by decide +kernel
theorem dX8_number_119 : decode cX8_number 119 = .ok (.getfield 27, 3) := by decide +kernel
theorem dX8_number_122 : decode cX8_number 122 = .ok (.iconst 2, 1) := by decide +kernel
theorem dX8_number_123 : decode cX8_number 123 = .ok (.aload_n 0, 1) := by decide +kernel
theorem dX8_number_124 : decode cX8_number 124 = .ok (.getfield 31, 3) := by decide +kernel
theorem dX8_number_127 : decode cX8_number 127 = .ok (.invokevirtual 37, 3) := by decide +kernel
theorem dX8_number_130 : decode cX8_number 130 = .ok (.aload_n 0, 1) := by decide +kernel
theorem dX8_number_131 : decode cX8_number 131 = .ok (.dup, 1) := by decide +kernel
theorem dX8_number_132 : decode cX8_number 132 = .ok (.getfield 31, 3) := by decide +kernel
theorem dX8_number_135 : decode cX8_number 135 = .ok (.iload 7, 2) := by decide +kernel
theorem dX8_number_137 : decode cX8_number 137 = .ok (.iadd, 1) := by decide +kernel
theorem dX8_number_138 : decode cX8_number 138 = .ok (.putfield 31, 3) := by decide +kernel
theorem dX8_number_141 : decode cX8_number 141 = .ok (.lload 5, 2) := by decide +kernel
theorem dX8_number_143 : decode cX8_number 143 = .ok (.l2i, 1) := by decide +kernel
theorem dX8_number_144 : decode cX8_number 144 = .ok (.ireturn, 1) := by decide +kernel
theorem dX8_look_0 : decode cX8_look 0 = .ok (.aload_n 0, 1) := by decide +kernel
theorem dX8_look_1 : decode cX8_look 1 = .ok (.getfield 31, 3) := by decide +kernel
theorem dX8_look_4 : decode cX8_look 4 = .ok (.iload_n 1, 1) := by decide +kernel
theorem dX8_look_5 : decode cX8_look 5 = .ok (.iadd, 1) := by decide +kernel
theorem dX8_look_6 : decode cX8_look 6 = .ok (.aload_n 0, 1) := by decide +kernel
theorem dX8_look_7 : decode cX8_look 7 = .ok (.getfield 34, 3) := by decide +kernel
theorem dX8_look_10 : decode cX8_look 10 = .ok (.if_icmp .ge 17, 3) := by decide +kernel
theorem dX8_look_13 : decode cX8_look 13 = .ok (.aload_n 0, 1) := by decide +kernel
theorem dX8_look_14 : decode cX8_look 14 = .ok (.getfield 9, 3) := by decide +kernel
theorem dX8_look_17 : decode cX8_look 17 = .ok (.aload_n 0, 1) := by decide +kernel
theorem dX8_look_18 : decode cX8_look 18 = .ok (.getfield 31, 3) := by decide +kernel
theorem dX8_look_21 : decode cX8_look 21 = .ok (.iload_n 1, 1) := by decide +kernel
theorem dX8_look_22 : decode cX8_look 22 = .ok (.iadd, 1) := by decide +kernel
theorem dX8_look_23 : decode cX8_look 23 = .ok (.baload, 1) := by decide +kernel
theorem dX8_look_24 : decode cX8_look 24 = .ok (.goto 4, 3) := by decide +kernel
theorem dX8_look_27 : decode cX8_look 27 = .ok (.iconst (-1), 1) := by decide +kernel
theorem dX8_look_28 : decode cX8_look 28 = .ok (.ireturn, 1) := by decide +kernel
theorem dX8_sign_0 : decode cX8_sign 0 = .ok (.aload_n 0, 1) := by decide +kernel
theorem dX8_sign_1 : decode cX8_sign 1 = .ok (.invokevirtual 93, 3) := by decide +kernel
theorem dX8_sign_4 : decode cX8_sign 4 = .ok (.aload_n 0, 1) := by decide +kernel
theorem dX8_sign_5 : decode cX8_sign 5 = .ok (.getfield 27, 3) := by decide +kernel
theorem dX8_sign_8 : decode cX8_sign 8 = .ok (.invokevirtual 96, 3) := by decide +kernel
theorem dX8_sign_11 : decode cX8_sign 11 = .ok (.ifCond .eq 4, 3) := by decide +kernel
theorem dX8_sign_14 : decode cX8_sign 14 = .ok (.return_, 1) := by decide +kernel
theorem dX8_sign_15 : decode cX8_sign 15 = .ok (.iload_n 1, 1) := by decide +kernel
theorem dX8_sign_16 : decode cX8_sign 16 = .ok (.bipush 61, 2) := by decide +kernel
theorem dX8_sign_18 : decode cX8_sign 18 = .ok (.if_icmp .ne 13, 3) := by decide +kernel
theorem dX8_sign_21 : decode cX8_sign 21 = .ok (.aload_n 0, 1) := by decide +kernel
theorem dX8_sign_22 : decode cX8_sign 22 = .ok (.iload_n 1, 1) := by decide +kernel
theorem dX8_sign_23 : decode cX8_sign 23 = .ok (.bipush 61, 2) := by decide +kernel
theorem dX8_sign_25 : decode cX8_sign 25 = .ok (.invokevirtual 110, 3) := by decide +kernel
theorem dX8_sign_28 : decode cX8_sign 28 = .ok (.goto 8, 3) := by decide +kernel
theorem dX8_sign_31 : decode cX8_sign 31 = .ok (.aload_n 0, 1) := by decide +kernel
theorem dX8_sign_32 : decode cX8_sign 32 = .ok (.iload_n 1, 1) := by decide +kernel
theorem dX8_sign_33 : decode cX8_sign 33 = .ok (.invokevirtual 107, 3) := by decide +kernel
theorem dX8_sign_36 : decode cX8_sign 36 = .ok (.istore_n 2, 1) := by decide +kernel
theorem dX8_sign_37 : decode cX8_sign 37 = .ok (.iload_n 2, 1) := by decide +kernel
theorem dX8_sign_38 : decode cX8_sign 38 = .ok (.ifCond .eq 16, 3) := by decide +kernel
theorem dX8_sign_41 : decode cX8_sign 41 = .ok (.aload_n 0, 1) := by decide +kernel
theorem dX8_sign_42 : decode cX8_sign 42 = .ok (.dup, 1) := by decide +kernel
theorem dX8_sign_43 : decode cX8_sign 43 = .ok (.getfield 31, 3) := by decide +kernel
theorem dX8_sign_46 : decode cX8_sign 46 = .ok (.iconst 1, 1) := by decide +kernel
theorem dX8_sign_47 : decode cX8_sign 47 = .ok (.iadd, 1) := by decide +kernel
theorem dX8_sign_48 : decode cX8_sign 48 = .ok (.putfield 31, 3) := by decide +kernel
theorem dX8_sign_51 : decode cX8_sign 51 = .ok (.goto 7, 3) := by decide +kernel
theorem dX8_sign_54 : decode cX8_sign 54 = .ok (.aload_n 0, 1) := by decide +kernel
theorem dX8_sign_55 : decode cX8_sign 55 = .ok (.invokevirtual 100, 3) := by decide +kernel
theorem dX8_sign_58 : decode cX8_sign 58 = .ok (.return_, 1) := by decide +kernel
theorem dX8_isAlone_0 : decode cX8_isAlone 0 = .ok (.aload_n 0, 1) := by decide +kernel
theorem dX8_isAlone_1 : decode cX8_isAlone 1 = .ok (.iload_n 1, 1) := by decide +kernel
theorem dX8_isAlone_2 : decode cX8_isAlone 2 = .ok (.invokevirtual 107, 3) := by decide +kernel
theorem dX8_isAlone_5 : decode cX8_isAlone 5 = .ok (.ifCond .eq 16, 3) := by decide +kernel
theorem dX8_isAlone_8 : decode cX8_isAlone 8 = .ok (.aload_n 0, 1) := by decide +kernel
theorem dX8_isAlone_9 : decode cX8_isAlone 9 = .ok (.iconst 1, 1) := by decide +kernel
theorem dX8_isAlone_10 : decode cX8_isAlone 10 = .ok (.invokevirtual 103, 3) := by decide +kernel
theorem dX8_isAlone_13 : decode cX8_isAlone 13 = .ok (.iload_n 2, 1) := by decide +kernel
theorem dX8_isAlone_14 : decode cX8_isAlone 14 = .ok (.if_icmp .eq 7, 3) := by decide +kernel
theorem dX8_isAlone_17 : decode cX8_isAlone 17 = .ok (.iconst 1, 1) := by decide +kernel
theorem dX8_isAlone_18 : decode cX8_isAlone 18 = .ok (.goto 4, 3) := by decide +kernel
theorem dX8_isAlone_21 : decode cX8_isAlone 21 = .ok (.iconst 0, 1) := by decide +kernel
theorem dX8_isAlone_22 : decode cX8_isAlone 22 = .ok (.ireturn, 1) := by decide +kernel
theorem dX8_isSign_0 : decode cX8_isSign 0 = .ok (.aload_n 0, 1) := by decide +kernel
theorem dX8_isSign_1 : decode cX8_isSign 1 = .ok (.invokevirtual 93, 3) := by decide +kernel
theorem dX8_isSign_4 : decode cX8_isSign 4 = .ok (.aload_n 0, 1) := by decide +kernel
theorem dX8_isSign_5 : decode cX8_isSign 5 = .ok (.iconst 0, 1) := by decide +kernel
theorem dX8_isSign_6 : decode cX8_isSign 6 = .ok (.invokevirtual 103, 3) := by decide +kernel
theorem dX8_isSign_9 : decode cX8_isSign 9 = .ok (.iload_n 1, 1) := by decide +kernel
theorem dX8_isSign_10 : decode cX8_isSign 10 = .ok (.if_icmp .ne 7, 3) := by decide +kernel
theorem dX8_isSign_13 : decode cX8_isSign 13 = .ok (.iconst 1, 1) := by decide +kernel
theorem dX8_isSign_14 : decode cX8_isSign 14 = .ok (.goto 4, 3) := by decide +kernel
theorem dX8_isSign_17 : decode cX8_isSign 17 = .ok (.iconst 0, 1) := by decide +kernel
theorem dX8_isSign_18 : decode cX8_isSign 18 = .ok (.ireturn, 1) := by decide +kernel
theorem dX8_type_0 : decode cX8_type 0 = .ok (.aload_n 0, 1) := by decide +kernel
theorem dX8_type_1 : decode cX8_type 1 = .ok (.aload_n 0, 1) := by decide +kernel
theorem dX8_type_2 : decode cX8_type 2 = .ok (.invokevirtual 169, 3) := by decide +kernel
theorem dX8_type_5 : decode cX8_type 5 = .ok (.putfield 172, 3) := by decide +kernel
theorem dX8_type_8 : decode cX8_type 8 = .ok (.aload_n 0, 1) := by decide +kernel
theorem dX8_type_9 : decode cX8_type 9 = .ok (.iconst 0, 1) := by decide +kernel
theorem dX8_type_10 : decode cX8_type 10 = .ok (.putfield 174, 3) := by decide +kernel
theorem dX8_type_13 : decode cX8_type 13 = .ok (.aload_n 0, 1) := by decide +kernel
theorem dX8_type_14 : decode cX8_type 14 = .ok (.getfield 27, 3) := by decide +kernel
theorem dX8_type_17 : decode cX8_type 17 = .ok (.invokevirtual 96, 3) := by decide +kernel
theorem dX8_type_20 : decode cX8_type 20 = .ok (.ifCond .ne 12, 3) := by decide +kernel
theorem dX8_type_23 : decode cX8_type 23 = .ok (.aload_n 0, 1) := by decide +kernel
theorem dX8_type_24 : decode cX8_type 24 = .ok (.bipush 91, 2) := by decide +kernel
theorem dX8_type_26 : decode cX8_type 26 = .ok (.invokevirtual 107, 3) := by decide +kernel
theorem dX8_type_29 : decode cX8_type 29 = .ok (.ifCond .ne 4, 3) := by decide +kernel
theorem dX8_type_32 : decode cX8_type 32 = .ok (.return_, 1) := by decide +kernel
theorem dX8_type_33 : decode cX8_type 33 = .ok (.aload_n 0, 1) := by decide +kernel
theorem dX8_type_34 : decode cX8_type 34 = .ok (.dup, 1) := by decide +kernel
theorem dX8_type_35 : decode cX8_type 35 = .ok (.getfield 31, 3) := by decide +kernel
theorem dX8_type_38 : decode cX8_type 38 = .ok (.iconst 1, 1) := by decide +kernel
theorem dX8_type_39 : decode cX8_type 39 = .ok (.iadd, 1) := by decide +kernel
theorem dX8_type_40 : decode cX8_type 40 = .ok (.putfield 31, 3) := by decide +kernel
theorem dX8_type_43 : decode cX8_type 43 = .ok (.aload_n 0, 1) := by decide +kernel
theorem dX8_type_44 : decode cX8_type 44 = .ok (.aload_n 0, 1) := by decide +kernel
theorem dX8_type_45 : decode cX8_type 45 = .ok (.lconst 1, 1) := by decide +kernel
theorem dX8_type_46 : decode cX8_type 46 = .ok (.ldc2_w 177, 3) := by decide +kernel
theorem dX8_type_49 : decode cX8_type 49 = .ok (.invokevirtual 179, 3) := by decide +kernel
theorem dX8_type_52 : decode cX8_type 52 = .ok (.putfield 174, 3) := by decide +kernel
theorem dX8_type_55 : decode cX8_type 55 = .ok (.aload_n 0, 1) := by decide +kernel
theorem dX8_type_56 : decode cX8_type 56 = .ok (.bipush 93, 2) := by decide +kernel
theorem dX8_type_58 : decode cX8_type 58 = .ok (.invokevirtual 182, 3) := by decide +kernel
theorem dX8_type_61 : decode cX8_type 61 = .ok (.return_, 1) := by decide +kernel
theorem dX8_sort_0 : decode cX8_sort 0 = .ok (.aload_n 0, 1) := by decide +kernel
theorem dX8_sort_1 : decode cX8_sort 1 = .ok (.invokevirtual 93, 3) := by decide +kernel
theorem dX8_sort_4 : decode cX8_sort 4 = .ok (.aload_n 0, 1) := by decide +kernel
theorem dX8_sort_5 : decode cX8_sort 5 = .ok (.getfield 27, 3) := by decide +kernel
theorem dX8_sort_8 : decode cX8_sort 8 = .ok (.invokevirtual 96, 3) := by decide +kernel
theorem dX8_sort_11 : decode cX8_sort 11 = .ok (.ifCond .eq 5, 3) := by decide +kernel
theorem dX8_sort_14 : decode cX8_sort 14 = .ok (.iconst 0, 1) := by decide +kernel
theorem dX8_sort_15 : decode cX8_sort 15 = .ok (.ireturn, 1) := by decide +kernel
theorem dX8_sort_16 : decode cX8_sort 16 = .ok (.aload_n 0, 1) := by decide +kernel
theorem dX8_sort_17 : decode cX8_sort 17 = .ok (.ldc 87, 2) := by decide +kernel
theorem dX8_sort_19 : decode cX8_sort 19 = .ok (.invokevirtual 65, 3) := by decide +kernel
theorem dX8_sort_22 : decode cX8_sort 22 = .ok (.istore_n 1, 1) := by decide +kernel
theorem dX8_sort_23 : decode cX8_sort 23 = .ok (.iload_n 1, 1) := by decide +kernel
theorem dX8_sort_24 : decode cX8_sort 24 = .ok (.ifCond .ne 18, 3) := by decide +kernel
theorem dX8_sort_27 : decode cX8_sort 27 = .ok (.aload_n 0, 1) := by decide +kernel
theorem dX8_sort_28 : decode cX8_sort 28 = .ok (.ldc 85, 2) := by decide +kernel
theorem dX8_sort_30 : decode cX8_sort 30 = .ok (.invokevirtual 65, 3) := by decide +kernel
theorem dX8_sort_33 : decode cX8_sort 33 = .ok (.ifCond .ne 9, 3) := by decide +kernel
theorem dX8_sort_36 : decode cX8_sort 36 = .ok (.aload_n 0, 1) := by decide +kernel
theorem dX8_sort_37 : decode cX8_sort 37 = .ok (.invokevirtual 100, 3) := by decide +kernel
theorem dX8_sort_40 : decode cX8_sort 40 = .ok (.iconst 0, 1) := by decide +kernel
theorem dX8_sort_41 : decode cX8_sort 41 = .ok (.ireturn, 1) := by decide +kernel
theorem dX8_sort_42 : decode cX8_sort 42 = .ok (.aload_n 0, 1) := by decide +kernel
theorem dX8_sort_43 : decode cX8_sort 43 = .ok (.dup, 1) := by decide +kernel
theorem dX8_sort_44 : decode cX8_sort 44 = .ok (.getfield 31, 3) := by decide +kernel
theorem dX8_sort_47 : decode cX8_sort 47 = .ok (.iconst 3, 1) := by decide +kernel
theorem dX8_sort_48 : decode cX8_sort 48 = .ok (.iadd, 1) := by decide +kernel
theorem dX8_sort_49 : decode cX8_sort 49 = .ok (.putfield 31, 3) := by decide +kernel
theorem dX8_sort_52 : decode cX8_sort 52 = .ok (.iload_n 1, 1) := by decide +kernel
theorem dX8_sort_53 : decode cX8_sort 53 = .ok (.ifCond .eq 7, 3) := by decide +kernel
theorem dX8_sort_56 : decode cX8_sort 56 = .ok (.iconst 1, 1) := by decide +kernel
theorem dX8_sort_57 : decode cX8_sort 57 = .ok (.goto 4, 3) := by decide +kernel
theorem dX8_sort_60 : decode cX8_sort 60 = .ok (.iconst 0, 1) := by decide +kernel
theorem dX8_sort_61 : decode cX8_sort 61 = .ok (.ireturn, 1) := by decide +kernel
theorem dX8_def_0 : decode cX8_def 0 = .ok (.aload_n 0, 1) := by decide +kernel
theorem dX8_def_1 : decode cX8_def 1 = .ok (.dup, 1) := by decide +kernel
theorem dX8_def_2 : decode cX8_def 2 = .ok (.getfield 31, 3) := by decide +kernel
theorem dX8_def_5 : decode cX8_def 5 = .ok (.iconst 3, 1) := by decide +kernel
theorem dX8_def_6 : decode cX8_def 6 = .ok (.iadd, 1) := by decide +kernel
theorem dX8_def_7 : decode cX8_def 7 = .ok (.putfield 31, 3) := by decide +kernel
theorem dX8_def_10 : decode cX8_def 10 = .ok (.aload_n 0, 1) := by decide +kernel
theorem dX8_def_11 : decode cX8_def 11 = .ok (.invokevirtual 186, 3) := by decide +kernel
theorem dX8_def_14 : decode cX8_def 14 = .ok (.istore_n 1, 1) := by decide +kernel
theorem dX8_def_15 : decode cX8_def 15 = .ok (.aload_n 0, 1) := by decide +kernel
theorem dX8_def_16 : decode cX8_def 16 = .ok (.getfield 19, 3) := by decide +kernel
theorem dX8_def_19 : decode cX8_def 19 = .ok (.getstatic 205, 3) := by decide +kernel
theorem dX8_def_22 : decode cX8_def 22 = .ok (.iload_n 1, 1) := by decide +kernel
theorem dX8_def_23 : decode cX8_def 23 = .ok (.aload_n 0, 1) := by decide +kernel
theorem dX8_def_24 : decode cX8_def 24 = .ok (.getfield 114, 3) := by decide +kernel
theorem dX8_def_27 : decode cX8_def 27 = .ok (.iconst 0, 1) := by decide +kernel
theorem dX8_def_28 : decode cX8_def 28 = .ok (.invokevirtual 154, 3) := by decide +kernel
theorem dX8_def_31 : decode cX8_def 31 = .ok (.istore_n 2, 1) := by decide +kernel
theorem dX8_def_32 : decode cX8_def 32 = .ok (.aload_n 0, 1) := by decide +kernel
theorem dX8_def_33 : decode cX8_def 33 = .ok (.bipush 40, 2) := by decide +kernel
theorem dX8_def_35 : decode cX8_def 35 = .ok (.invokevirtual 182, 3) := by decide +kernel
theorem dX8_def_38 : decode cX8_def 38 = .ok (.aload_n 0, 1) := by decide +kernel
theorem dX8_def_39 : decode cX8_def 39 = .ok (.getfield 27, 3) := by decide +kernel
theorem dX8_def_42 : decode cX8_def 42 = .ok (.invokevirtual 96, 3) := by decide +kernel
theorem dX8_def_45 : decode cX8_def 45 = .ok (.ifCond .ne 25, 3) := by decide +kernel
theorem dX8_def_48 : decode cX8_def 48 = .ok (.aload_n 0, 1) := by decide +kernel
theorem dX8_def_49 : decode cX8_def 49 = .ok (.bipush 41, 2) := by decide +kernel
theorem dX8_def_51 : decode cX8_def 51 = .ok (.invokevirtual 107, 3) := by decide +kernel
theorem dX8_def_54 : decode cX8_def 54 = .ok (.ifCond .eq 16, 3) := by decide +kernel
theorem dX8_def_57 : decode cX8_def 57 = .ok (.aload_n 0, 1) := by decide +kernel
theorem dX8_def_58 : decode cX8_def 58 = .ok (.dup, 1) := by decide +kernel
theorem dX8_def_59 : decode cX8_def 59 = .ok (.getfield 31, 3) := by decide +kernel
theorem dX8_def_62 : decode cX8_def 62 = .ok (.iconst 1, 1) := by decide +kernel
theorem dX8_def_63 : decode cX8_def 63 = .ok (.iadd, 1) := by decide +kernel
theorem dX8_def_64 : decode cX8_def 64 = .ok (.putfield 31, 3) := by decide +kernel
theorem dX8_def_67 : decode cX8_def 67 = .ok (.goto 7, 3) := by decide +kernel
theorem dX8_def_70 : decode cX8_def 70 = .ok (.aload_n 0, 1) := by decide +kernel
theorem dX8_def_71 : decode cX8_def 71 = .ok (.invokevirtual 208, 3) := by decide +kernel
theorem dX8_def_74 : decode cX8_def 74 = .ok (.aload_n 0, 1) := by decide +kernel
theorem dX8_def_75 : decode cX8_def 75 = .ok (.bipush 58, 2) := by decide +kernel
theorem dX8_def_77 : decode cX8_def 77 = .ok (.invokevirtual 182, 3) := by decide +kernel
theorem dX8_def_80 : decode cX8_def 80 = .ok (.aload_n 0, 1) := by decide +kernel
theorem dX8_def_81 : decode cX8_def 81 = .ok (.invokevirtual 169, 3) := by decide +kernel
theorem dX8_def_84 : decode cX8_def 84 = .ok (.istore_n 3, 1) := by decide +kernel
theorem dX8_def_85 : decode cX8_def 85 = .ok (.aload_n 0, 1) := by decide +kernel
theorem dX8_def_86 : decode cX8_def 86 = .ok (.bipush 61, 2) := by decide +kernel
theorem dX8_def_88 : decode cX8_def 88 = .ok (.invokevirtual 182, 3) := by decide +kernel
theorem dX8_def_91 : decode cX8_def 91 = .ok (.aload_n 0, 1) := by decide +kernel
theorem dX8_def_92 : decode cX8_def 92 = .ok (.invokevirtual 211, 3) := by decide +kernel
theorem dX8_def_95 : decode cX8_def 95 = .ok (.aload_n 0, 1) := by decide +kernel
theorem dX8_def_96 : decode cX8_def 96 = .ok (.bipush 59, 2) := by decide +kernel
theorem dX8_def_98 : decode cX8_def 98 = .ok (.invokevirtual 182, 3) := by decide +kernel
theorem dX8_def_101 : decode cX8_def 101 = .ok (.aload_n 0, 1) := by decide +kernel
theorem dX8_def_102 : decode cX8_def 102 = .ok (.getfield 19, 3) := by decide +kernel
theorem dX8_def_105 : decode cX8_def 105 = .ok (.getstatic 214, 3) := by decide +kernel
theorem dX8_def_108 : decode cX8_def 108 = .ok (.iload_n 1, 1) := by decide +kernel
theorem dX8_def_109 : decode cX8_def 109 = .ok (.aload_n 0, 1) := by decide +kernel
theorem dX8_def_110 : decode cX8_def 110 = .ok (.getfield 31, 3) := by decide +kernel
theorem dX8_def_113 : decode cX8_def 113 = .ok (.iload_n 3, 1) := by decide +kernel
theorem dX8_def_114 : decode cX8_def 114 = .ok (.invokevirtual 154, 3) := by decide +kernel
theorem dX8_def_117 : decode cX8_def 117 = .ok (.istore 4, 2) := by decide +kernel
theorem dX8_def_119 : decode cX8_def 119 = .ok (.aload_n 0, 1) := by decide +kernel
theorem dX8_def_120 : decode cX8_def 120 = .ok (.getfield 19, 3) := by decide +kernel
theorem dX8_def_123 : decode cX8_def 123 = .ok (.getfield 217, 3) := by decide +kernel
theorem dX8_def_126 : decode cX8_def 126 = .ok (.iload_n 2, 1) := by decide +kernel
theorem dX8_def_127 : decode cX8_def 127 = .ok (.iload 4, 2) := by decide +kernel
theorem dX8_def_129 : decode cX8_def 129 = .ok (.iastore, 1) := by decide +kernel
theorem dX8_def_130 : decode cX8_def 130 = .ok (.return_, 1) := by decide +kernel
theorem dX8_params_0 : decode cX8_params 0 = .ok (.iconst 1, 1) := by decide +kernel
theorem dX8_params_1 : decode cX8_params 1 = .ok (.istore_n 1, 1) := by decide +kernel
theorem dX8_params_2 : decode cX8_params 2 = .ok (.iload_n 1, 1) := by decide +kernel
theorem dX8_params_3 : decode cX8_params 3 = .ok (.ifCond .eq 89, 3) := by decide +kernel
theorem dX8_params_6 : decode cX8_params 6 = .ok (.aload_n 0, 1) := by decide +kernel
theorem dX8_params_7 : decode cX8_params 7 = .ok (.getfield 27, 3) := by decide +kernel
theorem dX8_params_10 : decode cX8_params 10 = .ok (.invokevirtual 96, 3) := by decide +kernel
theorem dX8_params_13 : decode cX8_params 13 = .ok (.ifCond .ne 79, 3) := by decide +kernel
theorem dX8_params_16 : decode cX8_params 16 = .ok (.aload_n 0, 1) := by decide +kernel
theorem dX8_params_17 : decode cX8_params 17 = .ok (.invokevirtual 186, 3) := by decide +kernel
theorem dX8_params_20 : decode cX8_params 20 = .ok (.istore_n 2, 1) := by decide +kernel
theorem dX8_params_21 : decode cX8_params 21 = .ok (.aload_n 0, 1) := by decide +kernel
theorem dX8_params_22 : decode cX8_params 22 = .ok (.getfield 114, 3) := by decide +kernel
theorem dX8_params_25 : decode cX8_params 25 = .ok (.istore_n 3, 1) := by decide +kernel
theorem dX8_params_26 : decode cX8_params 26 = .ok (.aload_n 0, 1) := by decide +kernel
theorem dX8_params_27 : decode cX8_params 27 = .ok (.bipush 58, 2) := by decide +kernel
theorem dX8_params_29 : decode cX8_params 29 = .ok (.invokevirtual 182, 3) := by decide +kernel
theorem dX8_params_32 : decode cX8_params 32 = .ok (.aload_n 0, 1) := by decide +kernel
theorem dX8_params_33 : decode cX8_params 33 = .ok (.getfield 19, 3) := by decide +kernel
theorem dX8_params_36 : decode cX8_params 36 = .ok (.getstatic 221, 3) := by decide +kernel
theorem dX8_params_39 : decode cX8_params 39 = .ok (.iload_n 2, 1) := by decide +kernel
theorem dX8_params_40 : decode cX8_params 40 = .ok (.iload_n 3, 1) := by decide +kernel
theorem dX8_params_41 : decode cX8_params 41 = .ok (.aload_n 0, 1) := by decide +kernel
theorem dX8_params_42 : decode cX8_params 42 = .ok (.invokevirtual 169, 3) := by decide +kernel
theorem dX8_params_45 : decode cX8_params 45 = .ok (.invokevirtual 154, 3) := by decide +kernel
theorem dX8_params_48 : decode cX8_params 48 = .ok (.istore 4, 2) := by decide +kernel
theorem dX8_params_50 : decode cX8_params 50 = .ok (.aload_n 0, 1) := by decide +kernel
theorem dX8_params_51 : decode cX8_params 51 = .ok (.getfield 27, 3) := by decide +kernel
theorem dX8_params_54 : decode cX8_params 54 = .ok (.invokevirtual 96, 3) := by decide +kernel
theorem dX8_params_57 : decode cX8_params 57 = .ok (.ifCond .ne 16, 3) := by decide +kernel
theorem dX8_params_60 : decode cX8_params 60 = .ok (.aload_n 0, 1) := by decide +kernel
theorem dX8_params_61 : decode cX8_params 61 = .ok (.bipush 44, 2) := by decide +kernel
theorem dX8_params_63 : decode cX8_params 63 = .ok (.invokevirtual 107, 3) := by decide +kernel
theorem dX8_params_66 : decode cX8_params 66 = .ok (.ifCond .eq 7, 3) := by decide +kernel
theorem dX8_params_69 : decode cX8_params 69 = .ok (.iconst 1, 1) := by decide +kernel
theorem dX8_params_70 : decode cX8_params 70 = .ok (.goto 4, 3) := by decide +kernel
theorem dX8_params_73 : decode cX8_params 73 = .ok (.iconst 0, 1) := by decide +kernel
theorem dX8_params_74 : decode cX8_params 74 = .ok (.istore_n 1, 1) := by decide +kernel
theorem dX8_params_75 : decode cX8_params 75 = .ok (.iload_n 1, 1) := by decide +kernel
theorem dX8_params_76 : decode cX8_params 76 = .ok (.ifCond .eq 13, 3) := by decide +kernel
theorem dX8_params_79 : decode cX8_params 79 = .ok (.aload_n 0, 1) := by decide +kernel
theorem dX8_params_80 : decode cX8_params 80 = .ok (.dup, 1) := by decide +kernel
theorem dX8_params_81 : decode cX8_params 81 = .ok (.getfield 31, 3) := by decide +kernel
theorem dX8_params_84 : decode cX8_params 84 = .ok (.iconst 1, 1) := by decide +kernel
theorem dX8_params_85 : decode cX8_params 85 = .ok (.iadd, 1) := by decide +kernel
theorem dX8_params_86 : decode cX8_params 86 = .ok (.putfield 31, 3) := by decide +kernel
theorem dX8_params_89 : decode cX8_params 89 = .ok (.goto (-87), 3) := by decide +kernel
theorem dX8_params_92 : decode cX8_params 92 = .ok (.aload_n 0, 1) := by decide +kernel
theorem dX8_params_93 : decode cX8_params 93 = .ok (.bipush 41, 2) := by decide +kernel
theorem dX8_params_95 : decode cX8_params 95 = .ok (.invokevirtual 182, 3) := by decide +kernel
theorem dX8_params_98 : decode cX8_params 98 = .ok (.return_, 1) := by decide +kernel
theorem dX8_expr_0 : decode cX8_expr 0 = .ok (.aload_n 0, 1) := by decide +kernel
theorem dX8_expr_1 : decode cX8_expr 1 = .ok (.getfield 27, 3) := by decide +kernel
theorem dX8_expr_4 : decode cX8_expr 4 = .ok (.invokevirtual 96, 3) := by decide +kernel
theorem dX8_expr_7 : decode cX8_expr 7 = .ok (.ifCond .eq 4, 3) := by decide +kernel
theorem dX8_expr_10 : decode cX8_expr 10 = .ok (.return_, 1) := by decide +kernel
theorem dX8_expr_11 : decode cX8_expr 11 = .ok (.aload_n 0, 1) := by decide +kernel
theorem dX8_expr_12 : decode cX8_expr 12 = .ok (.iconst 0, 1) := by decide +kernel
theorem dX8_expr_13 : decode cX8_expr 13 = .ok (.invokevirtual 299, 3) := by decide +kernel
theorem dX8_expr_16 : decode cX8_expr 16 = .ok (.aload_n 0, 1) := by decide +kernel
theorem dX8_expr_17 : decode cX8_expr 17 = .ok (.getfield 27, 3) := by decide +kernel
theorem dX8_expr_20 : decode cX8_expr 20 = .ok (.invokevirtual 96, 3) := by decide +kernel
theorem dX8_expr_23 : decode cX8_expr 23 = .ok (.ifCond .ne 12, 3) := by decide +kernel
theorem dX8_expr_26 : decode cX8_expr 26 = .ok (.aload_n 0, 1) := by decide +kernel
theorem dX8_expr_27 : decode cX8_expr 27 = .ok (.bipush 63, 2) := by decide +kernel
theorem dX8_expr_29 : decode cX8_expr 29 = .ok (.invokevirtual 107, 3) := by decide +kernel
theorem dX8_expr_32 : decode cX8_expr 32 = .ok (.ifCond .ne 4, 3) := by decide +kernel
theorem dX8_expr_35 : decode cX8_expr 35 = .ok (.return_, 1) := by decide +kernel
theorem dX8_expr_36 : decode cX8_expr 36 = .ok (.aload_n 0, 1) := by decide +kernel
theorem dX8_expr_37 : decode cX8_expr 37 = .ok (.getfield 31, 3) := by decide +kernel
theorem dX8_expr_40 : decode cX8_expr 40 = .ok (.istore_n 1, 1) := by decide +kernel
theorem dX8_expr_41 : decode cX8_expr 41 = .ok (.aload_n 0, 1) := by decide +kernel
theorem dX8_expr_42 : decode cX8_expr 42 = .ok (.iload_n 1, 1) := by decide +kernel
theorem dX8_expr_43 : decode cX8_expr 43 = .ok (.invokevirtual 254, 3) := by decide +kernel
theorem dX8_expr_46 : decode cX8_expr 46 = .ok (.aload_n 0, 1) := by decide +kernel
theorem dX8_expr_47 : decode cX8_expr 47 = .ok (.dup, 1) := by decide +kernel
theorem dX8_expr_48 : decode cX8_expr 48 = .ok (.getfield 31, 3) := by decide +kernel
theorem dX8_expr_51 : decode cX8_expr 51 = .ok (.iconst 1, 1) := by decide +kernel
theorem dX8_expr_52 : decode cX8_expr 52 = .ok (.iadd, 1) := by decide +kernel
theorem dX8_expr_53 : decode cX8_expr 53 = .ok (.putfield 31, 3) := by decide +kernel
theorem dX8_expr_56 : decode cX8_expr 56 = .ok (.aload_n 0, 1) := by decide +kernel
theorem dX8_expr_57 : decode cX8_expr 57 = .ok (.invokevirtual 211, 3) := by decide +kernel
theorem dX8_expr_60 : decode cX8_expr 60 = .ok (.aload_n 0, 1) := by decide +kernel
theorem dX8_expr_61 : decode cX8_expr 61 = .ok (.bipush 58, 2) := by decide +kernel
theorem dX8_expr_63 : decode cX8_expr 63 = .ok (.invokevirtual 182, 3) := by decide +kernel
theorem dX8_expr_66 : decode cX8_expr 66 = .ok (.aload_n 0, 1) := by decide +kernel
theorem dX8_expr_67 : decode cX8_expr 67 = .ok (.invokevirtual 211, 3) := by decide +kernel
theorem dX8_expr_70 : decode cX8_expr 70 = .ok (.aload_n 0, 1) := by decide +kernel
theorem dX8_expr_71 : decode cX8_expr 71 = .ok (.dup, 1) := by decide +kernel
theorem dX8_expr_72 : decode cX8_expr 72 = .ok (.getfield 130, 3) := by decide +kernel
theorem dX8_expr_75 : decode cX8_expr 75 = .ok (.iconst 1, 1) := by decide +kernel
theorem dX8_expr_76 : decode cX8_expr 76 = .ok (.isub, 1) := by decide +kernel
theorem dX8_expr_77 : decode cX8_expr 77 = .ok (.putfield 130, 3) := by decide +kernel
theorem dX8_expr_80 : decode cX8_expr 80 = .ok (.aload_n 0, 1) := by decide +kernel
theorem dX8_expr_81 : decode cX8_expr 81 = .ok (.getfield 19, 3) := by decide +kernel
theorem dX8_expr_84 : decode cX8_expr 84 = .ok (.getstatic 302, 3) := by decide +kernel
theorem dX8_expr_87 : decode cX8_expr 87 = .ok (.iconst 0, 1) := by decide +kernel
theorem dX8_expr_88 : decode cX8_expr 88 = .ok (.iload_n 1, 1) := by decide +kernel
theorem dX8_expr_89 : decode cX8_expr 89 = .ok (.iconst 0, 1) := by decide +kernel
theorem dX8_expr_90 : decode cX8_expr 90 = .ok (.invokevirtual 154, 3) := by decide +kernel
theorem dX8_expr_93 : decode cX8_expr 93 = .ok (.istore_n 2, 1) := by decide +kernel
theorem dX8_expr_94 : decode cX8_expr 94 = .ok (.return_, 1) := by decide +kernel
theorem dX8_row_0 : decode cX8_row 0 = .ok (.aload_n 0, 1) := by decide +kernel
theorem dX8_row_1 : decode cX8_row 1 = .ok (.invokevirtual 371, 3) := by decide +kernel
theorem dX8_row_4 : decode cX8_row 4 = .ok (.aload_n 0, 1) := by decide +kernel
theorem dX8_row_5 : decode cX8_row 5 = .ok (.getfield 27, 3) := by decide +kernel
theorem dX8_row_8 : decode cX8_row 8 = .ok (.invokevirtual 96, 3) := by decide +kernel
theorem dX8_row_11 : decode cX8_row 11 = .ok (.ifCond .eq 4, 3) := by decide +kernel
theorem dX8_row_14 : decode cX8_row 14 = .ok (.return_, 1) := by decide +kernel
theorem dX8_row_15 : decode cX8_row 15 = .ok (.aload_n 0, 1) := by decide +kernel
theorem dX8_row_16 : decode cX8_row 16 = .ok (.invokevirtual 374, 3) := by decide +kernel
theorem dX8_row_19 : decode cX8_row 19 = .ok (.aload_n 0, 1) := by decide +kernel
theorem dX8_row_20 : decode cX8_row 20 = .ok (.getfield 27, 3) := by decide +kernel
theorem dX8_row_23 : decode cX8_row 23 = .ok (.invokevirtual 96, 3) := by decide +kernel
theorem dX8_row_26 : decode cX8_row 26 = .ok (.ifCond .ne 92, 3) := by decide +kernel
theorem dX8_row_29 : decode cX8_row 29 = .ok (.aload_n 0, 1) := by decide +kernel
theorem dX8_row_30 : decode cX8_row 30 = .ok (.getfield 311, 3) := by decide +kernel
theorem dX8_row_33 : decode cX8_row 33 = .ok (.iload_n 1, 1) := by decide +kernel
theorem dX8_row_34 : decode cX8_row 34 = .ok (.if_icmp .lt 84, 3) := by decide +kernel
theorem dX8_row_37 : decode cX8_row 37 = .ok (.aload_n 0, 1) := by decide +kernel
theorem dX8_row_38 : decode cX8_row 38 = .ok (.getfield 305, 3) := by decide +kernel
theorem dX8_row_41 : decode cX8_row 41 = .ok (.astore_n 2, 1) := by decide +kernel
theorem dX8_row_42 : decode cX8_row 42 = .ok (.aload_n 0, 1) := by decide +kernel
theorem dX8_row_43 : decode cX8_row 43 = .ok (.getfield 31, 3) := by decide +kernel
theorem dX8_row_46 : decode cX8_row 46 = .ok (.istore_n 3, 1) := by decide +kernel
theorem dX8_row_47 : decode cX8_row 47 = .ok (.aload_n 0, 1) := by decide +kernel
theorem dX8_row_48 : decode cX8_row 48 = .ok (.getfield 311, 3) := by decide +kernel
theorem dX8_row_51 : decode cX8_row 51 = .ok (.iconst 1, 1) := by decide +kernel
theorem dX8_row_52 : decode cX8_row 52 = .ok (.iadd, 1) := by decide +kernel
theorem dX8_row_53 : decode cX8_row 53 = .ok (.istore 4, 2) := by decide +kernel
theorem dX8_row_55 : decode cX8_row 55 = .ok (.aload_n 0, 1) := by decide +kernel
theorem dX8_row_56 : decode cX8_row 56 = .ok (.dup, 1) := by decide +kernel
theorem dX8_row_57 : decode cX8_row 57 = .ok (.getfield 31, 3) := by decide +kernel
theorem dX8_row_60 : decode cX8_row 60 = .ok (.aload_n 0, 1) := by decide +kernel
theorem dX8_row_61 : decode cX8_row 61 = .ok (.getfield 308, 3) := by decide +kernel
theorem dX8_row_64 : decode cX8_row 64 = .ok (.iadd, 1) := by decide +kernel
theorem dX8_row_65 : decode cX8_row 65 = .ok (.putfield 31, 3) := by decide +kernel
theorem dX8_row_68 : decode cX8_row 68 = .ok (.iload 4, 2) := by decide +kernel
theorem dX8_row_70 : decode cX8_row 70 = .ok (.bipush 10, 2) := by decide +kernel
theorem dX8_row_72 : decode cX8_row 72 = .ok (.if_icmp .ge 12, 3) := by decide +kernel
theorem dX8_row_75 : decode cX8_row 75 = .ok (.aload_n 0, 1) := by decide +kernel
theorem dX8_row_76 : decode cX8_row 76 = .ok (.iload 4, 2) := by decide +kernel
theorem dX8_row_78 : decode cX8_row 78 = .ok (.invokevirtual 299, 3) := by decide +kernel
theorem dX8_row_81 : decode cX8_row 81 = .ok (.goto 7, 3) := by decide +kernel
theorem dX8_row_84 : decode cX8_row 84 = .ok (.aload_n 0, 1) := by decide +kernel
theorem dX8_row_85 : decode cX8_row 85 = .ok (.invokevirtual 371, 3) := by decide +kernel
theorem dX8_row_88 : decode cX8_row 88 = .ok (.aload_n 0, 1) := by decide +kernel
theorem dX8_row_89 : decode cX8_row 89 = .ok (.getfield 19, 3) := by decide +kernel
theorem dX8_row_92 : decode cX8_row 92 = .ok (.aload_n 2, 1) := by decide +kernel
theorem dX8_row_93 : decode cX8_row 93 = .ok (.iconst 0, 1) := by decide +kernel
theorem dX8_row_94 : decode cX8_row 94 = .ok (.iload_n 3, 1) := by decide +kernel
theorem dX8_row_95 : decode cX8_row 95 = .ok (.iconst 0, 1) := by decide +kernel
theorem dX8_row_96 : decode cX8_row 96 = .ok (.invokevirtual 154, 3) := by decide +kernel
theorem dX8_row_99 : decode cX8_row 99 = .ok (.istore 5, 2) := by decide +kernel
theorem dX8_row_101 : decode cX8_row 101 = .ok (.aload_n 0, 1) := by decide +kernel
theorem dX8_row_102 : decode cX8_row 102 = .ok (.getfield 27, 3) := by decide +kernel
theorem dX8_row_105 : decode cX8_row 105 = .ok (.invokevirtual 96, 3) := by decide +kernel
theorem dX8_row_108 : decode cX8_row 108 = .ok (.ifCond .ne 7, 3) := by decide +kernel
theorem dX8_row_111 : decode cX8_row 111 = .ok (.aload_n 0, 1) := by decide +kernel
theorem dX8_row_112 : decode cX8_row 112 = .ok (.invokevirtual 374, 3) := by decide +kernel
theorem dX8_row_115 : decode cX8_row 115 = .ok (.goto (-96), 3) := by decide +kernel
theorem dX8_row_118 : decode cX8_row 118 = .ok (.return_, 1) := by decide +kernel
theorem dX8_factor_0 : decode cX8_factor 0 = .ok (.aload_n 0, 1) := by decide +kernel
theorem dX8_factor_1 : decode cX8_factor 1 = .ok (.invokevirtual 93, 3) := by decide +kernel
theorem dX8_factor_4 : decode cX8_factor 4 = .ok (.aload_n 0, 1) := by decide +kernel
theorem dX8_factor_5 : decode cX8_factor 5 = .ok (.getfield 27, 3) := by decide +kernel
theorem dX8_factor_8 : decode cX8_factor 8 = .ok (.invokevirtual 96, 3) := by decide +kernel
theorem dX8_factor_11 : decode cX8_factor 11 = .ok (.ifCond .eq 4, 3) := by decide +kernel
theorem dX8_factor_14 : decode cX8_factor 14 = .ok (.return_, 1) := by decide +kernel
theorem dX8_factor_15 : decode cX8_factor 15 = .ok (.aload_n 0, 1) := by decide +kernel
theorem dX8_factor_16 : decode cX8_factor 16 = .ok (.getfield 31, 3) := by decide +kernel
theorem dX8_factor_19 : decode cX8_factor 19 = .ok (.istore_n 1, 1) := by decide +kernel
theorem dX8_factor_20 : decode cX8_factor 20 = .ok (.aload_n 0, 1) := by decide +kernel
theorem dX8_factor_21 : decode cX8_factor 21 = .ok (.iconst 0, 1) := by decide +kernel
theorem dX8_factor_22 : decode cX8_factor 22 = .ok (.invokevirtual 103, 3) := by decide +kernel
theorem dX8_factor_25 : decode cX8_factor 25 = .ok (.istore_n 2, 1) := by decide +kernel
theorem dX8_factor_26 : decode cX8_factor 26 = .ok (.iload_n 2, 1) := by decide +kernel
theorem dX8_factor_27 : decode cX8_factor 27 = .ok (.bipush 45, 2) := by decide +kernel
theorem dX8_factor_29 : decode cX8_factor 29 = .ok (.if_icmp .eq 25, 3) := by decide +kernel
theorem dX8_factor_32 : decode cX8_factor 32 = .ok (.iload_n 2, 1) := by decide +kernel
theorem dX8_factor_33 : decode cX8_factor 33 = .ok (.bipush 126, 2) := by decide +kernel
theorem dX8_factor_35 : decode cX8_factor 35 = .ok (.if_icmp .eq 19, 3) := by decide +kernel
theorem dX8_factor_38 : decode cX8_factor 38 = .ok (.iload_n 2, 1) := by decide +kernel
theorem dX8_factor_39 : decode cX8_factor 39 = .ok (.bipush 33, 2) := by decide +kernel
theorem dX8_factor_41 : decode cX8_factor 41 = .ok (.if_icmp .ne 83, 3) := by decide +kernel
theorem dX8_factor_44 : decode cX8_factor 44 = .ok (.aload_n 0, 1) := by decide +kernel
theorem dX8_factor_45 : decode cX8_factor 45 = .ok (.iconst 1, 1) := by decide +kernel
theorem dX8_factor_46 : decode cX8_factor 46 = .ok (.invokevirtual 103, 3) := by decide +kernel
theorem dX8_factor_49 : decode cX8_factor 49 = .ok (.bipush 61, 2) := by decide +kernel
theorem dX8_factor_51 : decode cX8_factor 51 = .ok (.if_icmp .eq 73, 3) := by decide +kernel
theorem dX8_factor_54 : decode cX8_factor 54 = .ok (.aload_n 0, 1) := by decide +kernel
theorem dX8_factor_55 : decode cX8_factor 55 = .ok (.iload_n 1, 1) := by decide +kernel
theorem dX8_factor_56 : decode cX8_factor 56 = .ok (.invokevirtual 254, 3) := by decide +kernel
theorem dX8_factor_59 : decode cX8_factor 59 = .ok (.aload_n 0, 1) := by decide +kernel
theorem dX8_factor_60 : decode cX8_factor 60 = .ok (.dup, 1) := by decide +kernel
theorem dX8_factor_61 : decode cX8_factor 61 = .ok (.getfield 31, 3) := by decide +kernel
theorem dX8_factor_64 : decode cX8_factor 64 = .ok (.iconst 1, 1) := by decide +kernel
theorem dX8_factor_65 : decode cX8_factor 65 = .ok (.iadd, 1) := by decide +kernel
theorem dX8_factor_66 : decode cX8_factor 66 = .ok (.putfield 31, 3) := by decide +kernel
theorem dX8_factor_69 : decode cX8_factor 69 = .ok (.aload_n 0, 1) := by decide +kernel
theorem dX8_factor_70 : decode cX8_factor 70 = .ok (.invokevirtual 371, 3) := by decide +kernel
theorem dX8_factor_73 : decode cX8_factor 73 = .ok (.aload_n 0, 1) := by decide +kernel
theorem dX8_factor_74 : decode cX8_factor 74 = .ok (.dup, 1) := by decide +kernel
theorem dX8_factor_75 : decode cX8_factor 75 = .ok (.getfield 130, 3) := by decide +kernel
theorem dX8_factor_78 : decode cX8_factor 78 = .ok (.iconst 1, 1) := by decide +kernel
theorem dX8_factor_79 : decode cX8_factor 79 = .ok (.isub, 1) := by decide +kernel
theorem dX8_factor_80 : decode cX8_factor 80 = .ok (.putfield 130, 3) := by decide +kernel
theorem dX8_factor_83 : decode cX8_factor 83 = .ok (.aload_n 0, 1) := by decide +kernel
theorem dX8_factor_84 : decode cX8_factor 84 = .ok (.getfield 19, 3) := by decide +kernel
theorem dX8_factor_87 : decode cX8_factor 87 = .ok (.iload_n 2, 1) := by decide +kernel
theorem dX8_factor_88 : decode cX8_factor 88 = .ok (.bipush 45, 2) := by decide +kernel
theorem dX8_factor_90 : decode cX8_factor 90 = .ok (.if_icmp .ne 9, 3) := by decide +kernel
theorem dX8_factor_93 : decode cX8_factor 93 = .ok (.getstatic 377, 3) := by decide +kernel
theorem dX8_factor_96 : decode cX8_factor 96 = .ok (.goto 18, 3) := by decide +kernel
theorem dX8_factor_99 : decode cX8_factor 99 = .ok (.iload_n 2, 1) := by decide +kernel
theorem dX8_factor_100 : decode cX8_factor 100 = .ok (.bipush 126, 2) := by decide +kernel
theorem dX8_factor_102 : decode cX8_factor 102 = .ok (.if_icmp .ne 9, 3) := by decide +kernel
theorem dX8_factor_105 : decode cX8_factor 105 = .ok (.getstatic 380, 3) := by decide +kernel
theorem dX8_factor_108 : decode cX8_factor 108 = .ok (.goto 6, 3) := by decide +kernel
theorem dX8_factor_111 : decode cX8_factor 111 = .ok (.getstatic 383, 3) := by decide +kernel
theorem dX8_factor_114 : decode cX8_factor 114 = .ok (.iconst 0, 1) := by decide +kernel
theorem dX8_factor_115 : decode cX8_factor 115 = .ok (.iload_n 1, 1) := by decide +kernel
theorem dX8_factor_116 : decode cX8_factor 116 = .ok (.iconst 0, 1) := by decide +kernel
theorem dX8_factor_117 : decode cX8_factor 117 = .ok (.invokevirtual 154, 3) := by decide +kernel
theorem dX8_factor_120 : decode cX8_factor 120 = .ok (.istore_n 3, 1) := by decide +kernel
theorem dX8_factor_121 : decode cX8_factor 121 = .ok (.goto 222, 3) := by decide +kernel
theorem dX8_factor_124 : decode cX8_factor 124 = .ok (.iload_n 2, 1) := by decide +kernel
theorem dX8_factor_125 : decode cX8_factor 125 = .ok (.bipush 40, 2) := by decide +kernel
theorem dX8_factor_127 : decode cX8_factor 127 = .ok (.if_icmp .ne 38, 3) := by decide +kernel
theorem dX8_factor_130 : decode cX8_factor 130 = .ok (.aload_n 0, 1) := by decide +kernel
theorem dX8_factor_131 : decode cX8_factor 131 = .ok (.getfield 19, 3) := by decide +kernel
theorem dX8_factor_134 : decode cX8_factor 134 = .ok (.getstatic 386, 3) := by decide +kernel
theorem dX8_factor_137 : decode cX8_factor 137 = .ok (.iconst 0, 1) := by decide +kernel
theorem dX8_factor_138 : decode cX8_factor 138 = .ok (.iload_n 1, 1) := by decide +kernel
theorem dX8_factor_139 : decode cX8_factor 139 = .ok (.iconst 0, 1) := by decide +kernel
theorem dX8_factor_140 : decode cX8_factor 140 = .ok (.invokevirtual 154, 3) := by decide +kernel
theorem dX8_factor_143 : decode cX8_factor 143 = .ok (.istore_n 3, 1) := by decide +kernel
theorem dX8_factor_144 : decode cX8_factor 144 = .ok (.aload_n 0, 1) := by decide +kernel
theorem dX8_factor_145 : decode cX8_factor 145 = .ok (.invokevirtual 272, 3) := by decide +kernel
theorem dX8_factor_148 : decode cX8_factor 148 = .ok (.aload_n 0, 1) := by decide +kernel
theorem dX8_factor_149 : decode cX8_factor 149 = .ok (.getfield 19, 3) := by decide +kernel
theorem dX8_factor_152 : decode cX8_factor 152 = .ok (.getstatic 389, 3) := by decide +kernel
theorem dX8_factor_155 : decode cX8_factor 155 = .ok (.iconst 0, 1) := by decide +kernel
theorem dX8_factor_156 : decode cX8_factor 156 = .ok (.iload_n 1, 1) := by decide +kernel
theorem dX8_factor_157 : decode cX8_factor 157 = .ok (.iconst 0, 1) := by decide +kernel
theorem dX8_factor_158 : decode cX8_factor 158 = .ok (.invokevirtual 154, 3) := by decide +kernel
theorem dX8_factor_161 : decode cX8_factor 161 = .ok (.istore_n 3, 1) := by decide +kernel
theorem dX8_factor_162 : decode cX8_factor 162 = .ok (.goto 181, 3) := by decide +kernel
theorem dX8_factor_165 : decode cX8_factor 165 = .ok (.iload_n 2, 1) := by decide +kernel
theorem dX8_factor_166 : decode cX8_factor 166 = .ok (.invokestatic 47, 3) := by decide +kernel
theorem dX8_factor_169 : decode cX8_factor 169 = .ok (.ifCond .eq 30, 3) := by decide +kernel
theorem dX8_factor_172 : decode cX8_factor 172 = .ok (.aload_n 0, 1) := by decide +kernel
theorem dX8_factor_173 : decode cX8_factor 173 = .ok (.lconst 0, 1) := by decide +kernel
theorem dX8_factor_174 : decode cX8_factor 174 = .ok (.ldc2_w 392, 3) := by decide +kernel
theorem dX8_factor_177 : decode cX8_factor 177 = .ok (.invokevirtual 179, 3) := by decide +kernel
theorem dX8_factor_180 : decode cX8_factor 180 = .ok (.istore_n 3, 1) := by decide +kernel
theorem dX8_factor_181 : decode cX8_factor 181 = .ok (.aload_n 0, 1) := by decide +kernel
theorem dX8_factor_182 : decode cX8_factor 182 = .ok (.getfield 19, 3) := by decide +kernel
theorem dX8_factor_185 : decode cX8_factor 185 = .ok (.getstatic 394, 3) := by decide +kernel
theorem dX8_factor_188 : decode cX8_factor 188 = .ok (.iload_n 3, 1) := by decide +kernel
theorem dX8_factor_189 : decode cX8_factor 189 = .ok (.iload_n 1, 1) := by decide +kernel
theorem dX8_factor_190 : decode cX8_factor 190 = .ok (.iconst 0, 1) := by decide +kernel
theorem dX8_factor_191 : decode cX8_factor 191 = .ok (.invokevirtual 154, 3) := by decide +kernel
theorem dX8_factor_194 : decode cX8_factor 194 = .ok (.istore 4, 2) := by decide +kernel
theorem dX8_factor_196 : decode cX8_factor 196 = .ok (.goto 147, 3) := by decide +kernel
theorem dX8_factor_199 : decode cX8_factor 199 = .ok (.aload_n 0, 1) := by decide +kernel
theorem dX8_factor_200 : decode cX8_factor 200 = .ok (.ldc 89, 2) := by decide +kernel
theorem dX8_factor_202 : decode cX8_factor 202 = .ok (.invokevirtual 65, 3) := by decide +kernel
theorem dX8_factor_205 : decode cX8_factor 205 = .ok (.ifCond .ne 12, 3) := by decide +kernel
theorem dX8_factor_208 : decode cX8_factor 208 = .ok (.aload_n 0, 1) := by decide +kernel
theorem dX8_factor_209 : decode cX8_factor 209 = .ok (.ldc 91, 2) := by decide +kernel
theorem dX8_factor_211 : decode cX8_factor 211 = .ok (.invokevirtual 65, 3) := by decide +kernel
theorem dX8_factor_214 : decode cX8_factor 214 = .ok (.ifCond .eq 43, 3) := by decide +kernel
theorem dX8_factor_217 : decode cX8_factor 217 = .ok (.aload_n 0, 1) := by decide +kernel
theorem dX8_factor_218 : decode cX8_factor 218 = .ok (.getfield 19, 3) := by decide +kernel
theorem dX8_factor_221 : decode cX8_factor 221 = .ok (.aload_n 0, 1) := by decide +kernel
theorem dX8_factor_222 : decode cX8_factor 222 = .ok (.ldc 89, 2) := by decide +kernel
theorem dX8_factor_224 : decode cX8_factor 224 = .ok (.invokevirtual 65, 3) := by decide +kernel
theorem dX8_factor_227 : decode cX8_factor 227 = .ok (.ifCond .eq 9, 3) := by decide +kernel
theorem dX8_factor_230 : decode cX8_factor 230 = .ok (.getstatic 397, 3) := by decide +kernel
theorem dX8_factor_233 : decode cX8_factor 233 = .ok (.goto 6, 3) := by decide +kernel
theorem dX8_factor_236 : decode cX8_factor 236 = .ok (.getstatic 400, 3) := by decide +kernel
theorem dX8_factor_239 : decode cX8_factor 239 = .ok (.iconst 0, 1) := by decide +kernel
theorem dX8_factor_240 : decode cX8_factor 240 = .ok (.iload_n 1, 1) := by decide +kernel
theorem dX8_factor_241 : decode cX8_factor 241 = .ok (.iconst 0, 1) := by decide +kernel
theorem dX8_factor_242 : decode cX8_factor 242 = .ok (.invokevirtual 154, 3) := by decide +kernel
theorem dX8_factor_245 : decode cX8_factor 245 = .ok (.istore_n 3, 1) := by decide +kernel
theorem dX8_factor_246 : decode cX8_factor 246 = .ok (.aload_n 0, 1) := by decide +kernel
theorem dX8_factor_247 : decode cX8_factor 247 = .ok (.aload_n 0, 1) := by decide +kernel
theorem dX8_factor_248 : decode cX8_factor 248 = .ok (.invokevirtual 56, 3) := by decide +kernel
theorem dX8_factor_251 : decode cX8_factor 251 = .ok (.putfield 31, 3) := by decide +kernel
theorem dX8_factor_254 : decode cX8_factor 254 = .ok (.goto 89, 3) := by decide +kernel
theorem dX8_factor_257 : decode cX8_factor 257 = .ok (.aload_n 0, 1) := by decide +kernel
theorem dX8_factor_258 : decode cX8_factor 258 = .ok (.ldc 85, 2) := by decide +kernel
theorem dX8_factor_260 : decode cX8_factor 260 = .ok (.invokevirtual 65, 3) := by decide +kernel
theorem dX8_factor_263 : decode cX8_factor 263 = .ok (.ifCond .eq 48, 3) := by decide +kernel
theorem dX8_factor_266 : decode cX8_factor 266 = .ok (.aload_n 0, 1) := by decide +kernel
theorem dX8_factor_267 : decode cX8_factor 267 = .ok (.dup, 1) := by decide +kernel
theorem dX8_factor_268 : decode cX8_factor 268 = .ok (.getfield 31, 3) := by decide +kernel
theorem dX8_factor_271 : decode cX8_factor 271 = .ok (.iconst 3, 1) := by decide +kernel
theorem dX8_factor_272 : decode cX8_factor 272 = .ok (.iadd, 1) := by decide +kernel
theorem dX8_factor_273 : decode cX8_factor 273 = .ok (.putfield 31, 3) := by decide +kernel
theorem dX8_factor_276 : decode cX8_factor 276 = .ok (.aload_n 0, 1) := by decide +kernel
theorem dX8_factor_277 : decode cX8_factor 277 = .ok (.getfield 19, 3) := by decide +kernel
theorem dX8_factor_280 : decode cX8_factor 280 = .ok (.getstatic 403, 3) := by decide +kernel
theorem dX8_factor_283 : decode cX8_factor 283 = .ok (.iconst 0, 1) := by decide +kernel
theorem dX8_factor_284 : decode cX8_factor 284 = .ok (.iload_n 1, 1) := by decide +kernel
theorem dX8_factor_285 : decode cX8_factor 285 = .ok (.iconst 0, 1) := by decide +kernel
theorem dX8_factor_286 : decode cX8_factor 286 = .ok (.invokevirtual 154, 3) := by decide +kernel
theorem dX8_factor_289 : decode cX8_factor 289 = .ok (.istore_n 3, 1) := by decide +kernel
theorem dX8_factor_290 : decode cX8_factor 290 = .ok (.aload_n 0, 1) := by decide +kernel
theorem dX8_factor_291 : decode cX8_factor 291 = .ok (.invokevirtual 272, 3) := by decide +kernel
theorem dX8_factor_294 : decode cX8_factor 294 = .ok (.aload_n 0, 1) := by decide +kernel
theorem dX8_factor_295 : decode cX8_factor 295 = .ok (.getfield 19, 3) := by decide +kernel
theorem dX8_factor_298 : decode cX8_factor 298 = .ok (.getstatic 406, 3) := by decide +kernel
theorem dX8_factor_301 : decode cX8_factor 301 = .ok (.iconst 0, 1) := by decide +kernel
theorem dX8_factor_302 : decode cX8_factor 302 = .ok (.iload_n 1, 1) := by decide +kernel
theorem dX8_factor_303 : decode cX8_factor 303 = .ok (.iconst 0, 1) := by decide +kernel
theorem dX8_factor_304 : decode cX8_factor 304 = .ok (.invokevirtual 154, 3) := by decide +kernel
theorem dX8_factor_307 : decode cX8_factor 307 = .ok (.istore_n 3, 1) := by decide +kernel
theorem dX8_factor_308 : decode cX8_factor 308 = .ok (.goto 35, 3) := by decide +kernel
theorem dX8_factor_311 : decode cX8_factor 311 = .ok (.aload_n 0, 1) := by decide +kernel
theorem dX8_factor_312 : decode cX8_factor 312 = .ok (.ldc 87, 2) := by decide +kernel
theorem dX8_factor_314 : decode cX8_factor 314 = .ok (.invokevirtual 65, 3) := by decide +kernel
theorem dX8_factor_317 : decode cX8_factor 317 = .ok (.ifCond .eq 21, 3) := by decide +kernel
theorem dX8_factor_320 : decode cX8_factor 320 = .ok (.aload_n 0, 1) := by decide +kernel
theorem dX8_factor_321 : decode cX8_factor 321 = .ok (.dup, 1) := by decide +kernel
theorem dX8_factor_322 : decode cX8_factor 322 = .ok (.getfield 31, 3) := by decide +kernel
theorem dX8_factor_325 : decode cX8_factor 325 = .ok (.iconst 3, 1) := by decide +kernel
theorem dX8_factor_326 : decode cX8_factor 326 = .ok (.iadd, 1) := by decide +kernel
theorem dX8_factor_327 : decode cX8_factor 327 = .ok (.putfield 31, 3) := by decide +kernel
theorem dX8_factor_330 : decode cX8_factor 330 = .ok (.aload_n 0, 1) := by decide +kernel
theorem dX8_factor_331 : decode cX8_factor 331 = .ok (.iload_n 1, 1) := by decide +kernel
theorem dX8_factor_332 : decode cX8_factor 332 = .ok (.invokevirtual 409, 3) := by decide +kernel
theorem dX8_factor_335 : decode cX8_factor 335 = .ok (.goto 8, 3) := by decide +kernel
theorem dX8_factor_338 : decode cX8_factor 338 = .ok (.aload_n 0, 1) := by decide +kernel
theorem dX8_factor_339 : decode cX8_factor 339 = .ok (.iload_n 1, 1) := by decide +kernel
theorem dX8_factor_340 : decode cX8_factor 340 = .ok (.invokevirtual 412, 3) := by decide +kernel
theorem dX8_factor_343 : decode cX8_factor 343 = .ok (.return_, 1) := by decide +kernel
theorem dX8_enter_0 : decode cX8_enter 0 = .ok (.aload_n 0, 1) := by decide +kernel
theorem dX8_enter_1 : decode cX8_enter 1 = .ok (.getfield 130, 3) := by decide +kernel
theorem dX8_enter_4 : decode cX8_enter 4 = .ok (.bipush 30, 2) := by decide +kernel
theorem dX8_enter_6 : decode cX8_enter 6 = .ok (.if_icmp .ne 12, 3) := by decide +kernel
theorem dX8_enter_9 : decode cX8_enter 9 = .ok (.aload_n 0, 1) := by decide +kernel
theorem dX8_enter_10 : decode cX8_enter 10 = .ok (.getfield 27, 3) := by decide +kernel
theorem dX8_enter_13 : decode cX8_enter 13 = .ok (.iconst 3, 1) := by decide +kernel
theorem dX8_enter_14 : decode cX8_enter 14 = .ok (.iload_n 1, 1) := by decide +kernel
theorem dX8_enter_15 : decode cX8_enter 15 = .ok (.invokevirtual 37, 3) := by decide +kernel
theorem dX8_enter_18 : decode cX8_enter 18 = .ok (.aload_n 0, 1) := by decide +kernel
theorem dX8_enter_19 : decode cX8_enter 19 = .ok (.dup, 1) := by decide +kernel
theorem dX8_enter_20 : decode cX8_enter 20 = .ok (.getfield 130, 3) := by decide +kernel
theorem dX8_enter_23 : decode cX8_enter 23 = .ok (.iconst 1, 1) := by decide +kernel
theorem dX8_enter_24 : decode cX8_enter 24 = .ok (.iadd, 1) := by decide +kernel
theorem dX8_enter_25 : decode cX8_enter 25 = .ok (.putfield 130, 3) := by decide +kernel
theorem dX8_enter_28 : decode cX8_enter 28 = .ok (.return_, 1) := by decide +kernel
theorem dX8_around_0 : decode cX8_around 0 = .ok (.aload_n 0, 1) := by decide +kernel
theorem dX8_around_1 : decode cX8_around 1 = .ok (.invokevirtual 93, 3) := by decide +kernel
theorem dX8_around_4 : decode cX8_around 4 = .ok (.aload_n 0, 1) := by decide +kernel
theorem dX8_around_5 : decode cX8_around 5 = .ok (.getfield 27, 3) := by decide +kernel
theorem dX8_around_8 : decode cX8_around 8 = .ok (.invokevirtual 96, 3) := by decide +kernel
theorem dX8_around_11 : decode cX8_around 11 = .ok (.ifCond .eq 4, 3) := by decide +kernel
theorem dX8_around_14 : decode cX8_around 14 = .ok (.return_, 1) := by decide +kernel
theorem dX8_around_15 : decode cX8_around 15 = .ok (.aload_n 0, 1) := by decide +kernel
theorem dX8_around_16 : decode cX8_around 16 = .ok (.iconst 0, 1) := by decide +kernel
theorem dX8_around_17 : decode cX8_around 17 = .ok (.invokevirtual 103, 3) := by decide +kernel
theorem dX8_around_20 : decode cX8_around 20 = .ok (.bipush 40, 2) := by decide +kernel
theorem dX8_around_22 : decode cX8_around 22 = .ok (.if_icmp .eq 8, 3) := by decide +kernel
theorem dX8_around_25 : decode cX8_around 25 = .ok (.aload_n 0, 1) := by decide +kernel
theorem dX8_around_26 : decode cX8_around 26 = .ok (.invokevirtual 100, 3) := by decide +kernel
theorem dX8_around_29 : decode cX8_around 29 = .ok (.return_, 1) := by decide +kernel
theorem dX8_around_30 : decode cX8_around 30 = .ok (.aload_n 0, 1) := by decide +kernel
theorem dX8_around_31 : decode cX8_around 31 = .ok (.aload_n 0, 1) := by decide +kernel
theorem dX8_around_32 : decode cX8_around 32 = .ok (.getfield 31, 3) := by decide +kernel
theorem dX8_around_35 : decode cX8_around 35 = .ok (.invokevirtual 254, 3) := by decide +kernel
theorem dX8_around_38 : decode cX8_around 38 = .ok (.aload_n 0, 1) := by decide +kernel
theorem dX8_around_39 : decode cX8_around 39 = .ok (.dup, 1) := by decide +kernel
theorem dX8_around_40 : decode cX8_around 40 = .ok (.getfield 31, 3) := by decide +kernel
theorem dX8_around_43 : decode cX8_around 43 = .ok (.iconst 1, 1) := by decide +kernel
theorem dX8_around_44 : decode cX8_around 44 = .ok (.iadd, 1) := by decide +kernel
theorem dX8_around_45 : decode cX8_around 45 = .ok (.putfield 31, 3) := by decide +kernel
theorem dX8_around_48 : decode cX8_around 48 = .ok (.aload_n 0, 1) := by decide +kernel
theorem dX8_around_49 : decode cX8_around 49 = .ok (.invokevirtual 211, 3) := by decide +kernel
theorem dX8_around_52 : decode cX8_around 52 = .ok (.aload_n 0, 1) := by decide +kernel
theorem dX8_around_53 : decode cX8_around 53 = .ok (.bipush 41, 2) := by decide +kernel
theorem dX8_around_55 : decode cX8_around 55 = .ok (.invokevirtual 182, 3) := by decide +kernel
theorem dX8_around_58 : decode cX8_around 58 = .ok (.aload_n 0, 1) := by decide +kernel
theorem dX8_around_59 : decode cX8_around 59 = .ok (.dup, 1) := by decide +kernel
theorem dX8_around_60 : decode cX8_around 60 = .ok (.getfield 130, 3) := by decide +kernel
theorem dX8_around_63 : decode cX8_around 63 = .ok (.iconst 1, 1) := by decide +kernel
theorem dX8_around_64 : decode cX8_around 64 = .ok (.isub, 1) := by decide +kernel
theorem dX8_around_65 : decode cX8_around 65 = .ok (.putfield 130, 3) := by decide +kernel
theorem dX8_around_68 : decode cX8_around 68 = .ok (.return_, 1) := by decide +kernel
theorem dX8_bitOf_0 : decode cX8_bitOf 0 = .ok (.aload_n 0, 1) := by decide +kernel
theorem dX8_bitOf_1 : decode cX8_bitOf 1 = .ok (.getfield 19, 3) := by decide +kernel
theorem dX8_bitOf_4 : decode cX8_bitOf 4 = .ok (.getstatic 415, 3) := by decide +kernel
theorem dX8_bitOf_7 : decode cX8_bitOf 7 = .ok (.iconst 0, 1) := by decide +kernel
theorem dX8_bitOf_8 : decode cX8_bitOf 8 = .ok (.iload_n 1, 1) := by decide +kernel
theorem dX8_bitOf_9 : decode cX8_bitOf 9 = .ok (.iconst 0, 1) := by decide +kernel
theorem dX8_bitOf_10 : decode cX8_bitOf 10 = .ok (.invokevirtual 154, 3) := by decide +kernel
theorem dX8_bitOf_13 : decode cX8_bitOf 13 = .ok (.istore_n 2, 1) := by decide +kernel
theorem dX8_bitOf_14 : decode cX8_bitOf 14 = .ok (.aload_n 0, 1) := by decide +kernel
theorem dX8_bitOf_15 : decode cX8_bitOf 15 = .ok (.invokevirtual 93, 3) := by decide +kernel
theorem dX8_bitOf_18 : decode cX8_bitOf 18 = .ok (.aload_n 0, 1) := by decide +kernel
theorem dX8_bitOf_19 : decode cX8_bitOf 19 = .ok (.iconst 0, 1) := by decide +kernel
theorem dX8_bitOf_20 : decode cX8_bitOf 20 = .ok (.invokevirtual 103, 3) := by decide +kernel
theorem dX8_bitOf_23 : decode cX8_bitOf 23 = .ok (.bipush 40, 2) := by decide +kernel
theorem dX8_bitOf_25 : decode cX8_bitOf 25 = .ok (.if_icmp .eq 8, 3) := by decide +kernel
theorem dX8_bitOf_28 : decode cX8_bitOf 28 = .ok (.aload_n 0, 1) := by decide +kernel
theorem dX8_bitOf_29 : decode cX8_bitOf 29 = .ok (.invokevirtual 100, 3) := by decide +kernel
theorem dX8_bitOf_32 : decode cX8_bitOf 32 = .ok (.return_, 1) := by decide +kernel
theorem dX8_bitOf_33 : decode cX8_bitOf 33 = .ok (.aload_n 0, 1) := by decide +kernel
theorem dX8_bitOf_34 : decode cX8_bitOf 34 = .ok (.aload_n 0, 1) := by decide +kernel
theorem dX8_bitOf_35 : decode cX8_bitOf 35 = .ok (.getfield 31, 3) := by decide +kernel
theorem dX8_bitOf_38 : decode cX8_bitOf 38 = .ok (.invokevirtual 254, 3) := by decide +kernel
theorem dX8_bitOf_41 : decode cX8_bitOf 41 = .ok (.aload_n 0, 1) := by decide +kernel
theorem dX8_bitOf_42 : decode cX8_bitOf 42 = .ok (.dup, 1) := by decide +kernel
theorem dX8_bitOf_43 : decode cX8_bitOf 43 = .ok (.getfield 31, 3) := by decide +kernel
theorem dX8_bitOf_46 : decode cX8_bitOf 46 = .ok (.iconst 1, 1) := by decide +kernel
theorem dX8_bitOf_47 : decode cX8_bitOf 47 = .ok (.iadd, 1) := by decide +kernel
theorem dX8_bitOf_48 : decode cX8_bitOf 48 = .ok (.putfield 31, 3) := by decide +kernel
theorem dX8_bitOf_51 : decode cX8_bitOf 51 = .ok (.aload_n 0, 1) := by decide +kernel
theorem dX8_bitOf_52 : decode cX8_bitOf 52 = .ok (.invokevirtual 211, 3) := by decide +kernel
theorem dX8_bitOf_55 : decode cX8_bitOf 55 = .ok (.aload_n 0, 1) := by decide +kernel
theorem dX8_bitOf_56 : decode cX8_bitOf 56 = .ok (.getfield 19, 3) := by decide +kernel
theorem dX8_bitOf_59 : decode cX8_bitOf 59 = .ok (.getstatic 418, 3) := by decide +kernel
theorem dX8_bitOf_62 : decode cX8_bitOf 62 = .ok (.iconst 0, 1) := by decide +kernel
theorem dX8_bitOf_63 : decode cX8_bitOf 63 = .ok (.iload_n 1, 1) := by decide +kernel
theorem dX8_bitOf_64 : decode cX8_bitOf 64 = .ok (.iconst 0, 1) := by decide +kernel
theorem dX8_bitOf_65 : decode cX8_bitOf 65 = .ok (.invokevirtual 154, 3) := by decide +kernel
theorem dX8_bitOf_68 : decode cX8_bitOf 68 = .ok (.istore_n 2, 1) := by decide +kernel
theorem dX8_bitOf_69 : decode cX8_bitOf 69 = .ok (.aload_n 0, 1) := by decide +kernel
theorem dX8_bitOf_70 : decode cX8_bitOf 70 = .ok (.bipush 44, 2) := by decide +kernel
theorem dX8_bitOf_72 : decode cX8_bitOf 72 = .ok (.invokevirtual 182, 3) := by decide +kernel
theorem dX8_bitOf_75 : decode cX8_bitOf 75 = .ok (.aload_n 0, 1) := by decide +kernel
theorem dX8_bitOf_76 : decode cX8_bitOf 76 = .ok (.invokevirtual 211, 3) := by decide +kernel
theorem dX8_bitOf_79 : decode cX8_bitOf 79 = .ok (.aload_n 0, 1) := by decide +kernel
theorem dX8_bitOf_80 : decode cX8_bitOf 80 = .ok (.bipush 41, 2) := by decide +kernel
theorem dX8_bitOf_82 : decode cX8_bitOf 82 = .ok (.invokevirtual 182, 3) := by decide +kernel
theorem dX8_bitOf_85 : decode cX8_bitOf 85 = .ok (.aload_n 0, 1) := by decide +kernel
theorem dX8_bitOf_86 : decode cX8_bitOf 86 = .ok (.dup, 1) := by decide +kernel
theorem dX8_bitOf_87 : decode cX8_bitOf 87 = .ok (.getfield 130, 3) := by decide +kernel
theorem dX8_bitOf_90 : decode cX8_bitOf 90 = .ok (.iconst 1, 1) := by decide +kernel
theorem dX8_bitOf_91 : decode cX8_bitOf 91 = .ok (.isub, 1) := by decide +kernel
theorem dX8_bitOf_92 : decode cX8_bitOf 92 = .ok (.putfield 130, 3) := by decide +kernel
theorem dX8_bitOf_95 : decode cX8_bitOf 95 = .ok (.aload_n 0, 1) := by decide +kernel
theorem dX8_bitOf_96 : decode cX8_bitOf 96 = .ok (.getfield 19, 3) := by decide +kernel
theorem dX8_bitOf_99 : decode cX8_bitOf 99 = .ok (.getstatic 421, 3) := by decide +kernel
theorem dX8_bitOf_102 : decode cX8_bitOf 102 = .ok (.iconst 0, 1) := by decide +kernel
theorem dX8_bitOf_103 : decode cX8_bitOf 103 = .ok (.iload_n 1, 1) := by decide +kernel
theorem dX8_bitOf_104 : decode cX8_bitOf 104 = .ok (.iconst 0, 1) := by decide +kernel
theorem dX8_bitOf_105 : decode cX8_bitOf 105 = .ok (.invokevirtual 154, 3) := by decide +kernel
theorem dX8_bitOf_108 : decode cX8_bitOf 108 = .ok (.istore_n 2, 1) := by decide +kernel
theorem dX8_bitOf_109 : decode cX8_bitOf 109 = .ok (.return_, 1) := by decide +kernel
theorem dX8_named_0 : decode cX8_named 0 = .ok (.aload_n 0, 1) := by decide +kernel
theorem dX8_named_1 : decode cX8_named 1 = .ok (.invokevirtual 186, 3) := by decide +kernel
theorem dX8_named_4 : decode cX8_named 4 = .ok (.istore_n 2, 1) := by decide +kernel
theorem dX8_named_5 : decode cX8_named 5 = .ok (.aload_n 0, 1) := by decide +kernel
theorem dX8_named_6 : decode cX8_named 6 = .ok (.getfield 27, 3) := by decide +kernel
theorem dX8_named_9 : decode cX8_named 9 = .ok (.invokevirtual 96, 3) := by decide +kernel
theorem dX8_named_12 : decode cX8_named 12 = .ok (.ifCond .eq 4, 3) := by decide +kernel
theorem dX8_named_15 : decode cX8_named 15 = .ok (.return_, 1) := by decide +kernel
theorem dX8_named_16 : decode cX8_named 16 = .ok (.aload_n 0, 1) := by decide +kernel
theorem dX8_named_17 : decode cX8_named 17 = .ok (.bipush 91, 2) := by decide +kernel
theorem dX8_named_19 : decode cX8_named 19 = .ok (.invokevirtual 107, 3) := by decide +kernel
theorem dX8_named_22 : decode cX8_named 22 = .ok (.ifCond .eq 72, 3) := by decide +kernel
theorem dX8_named_25 : decode cX8_named 25 = .ok (.aload_n 0, 1) := by decide +kernel
theorem dX8_named_26 : decode cX8_named 26 = .ok (.getfield 19, 3) := by decide +kernel
theorem dX8_named_29 : decode cX8_named 29 = .ok (.getstatic 424, 3) := by decide +kernel
theorem dX8_named_32 : decode cX8_named 32 = .ok (.iload_n 2, 1) := by decide +kernel
theorem dX8_named_33 : decode cX8_named 33 = .ok (.iload_n 1, 1) := by decide +kernel
theorem dX8_named_34 : decode cX8_named 34 = .ok (.iconst 0, 1) := by decide +kernel
theorem dX8_named_35 : decode cX8_named 35 = .ok (.invokevirtual 154, 3) := by decide +kernel
theorem dX8_named_38 : decode cX8_named 38 = .ok (.istore_n 3, 1) := by decide +kernel
theorem dX8_named_39 : decode cX8_named 39 = .ok (.aload_n 0, 1) := by decide +kernel
theorem dX8_named_40 : decode cX8_named 40 = .ok (.aload_n 0, 1) := by decide +kernel
theorem dX8_named_41 : decode cX8_named 41 = .ok (.getfield 31, 3) := by decide +kernel
theorem dX8_named_44 : decode cX8_named 44 = .ok (.invokevirtual 254, 3) := by decide +kernel
theorem dX8_named_47 : decode cX8_named 47 = .ok (.aload_n 0, 1) := by decide +kernel
theorem dX8_named_48 : decode cX8_named 48 = .ok (.dup, 1) := by decide +kernel
theorem dX8_named_49 : decode cX8_named 49 = .ok (.getfield 31, 3) := by decide +kernel
theorem dX8_named_52 : decode cX8_named 52 = .ok (.iconst 1, 1) := by decide +kernel
theorem dX8_named_53 : decode cX8_named 53 = .ok (.iadd, 1) := by decide +kernel
theorem dX8_named_54 : decode cX8_named 54 = .ok (.putfield 31, 3) := by decide +kernel
theorem dX8_named_57 : decode cX8_named 57 = .ok (.aload_n 0, 1) := by decide +kernel
theorem dX8_named_58 : decode cX8_named 58 = .ok (.invokevirtual 211, 3) := by decide +kernel
theorem dX8_named_61 : decode cX8_named 61 = .ok (.aload_n 0, 1) := by decide +kernel
theorem dX8_named_62 : decode cX8_named 62 = .ok (.bipush 93, 2) := by decide +kernel
theorem dX8_named_64 : decode cX8_named 64 = .ok (.invokevirtual 182, 3) := by decide +kernel
theorem dX8_named_67 : decode cX8_named 67 = .ok (.aload_n 0, 1) := by decide +kernel
theorem dX8_named_68 : decode cX8_named 68 = .ok (.dup, 1) := by decide +kernel
theorem dX8_named_69 : decode cX8_named 69 = .ok (.getfield 130, 3) := by decide +kernel
theorem dX8_named_72 : decode cX8_named 72 = .ok (.iconst 1, 1) := by decide +kernel
theorem dX8_named_73 : decode cX8_named 73 = .ok (.isub, 1) := by decide +kernel
theorem dX8_named_74 : decode cX8_named 74 = .ok (.putfield 130, 3) := by decide +kernel
theorem dX8_named_77 : decode cX8_named 77 = .ok (.aload_n 0, 1) := by decide +kernel
theorem dX8_named_78 : decode cX8_named 78 = .ok (.getfield 19, 3) := by decide +kernel
theorem dX8_named_81 : decode cX8_named 81 = .ok (.getstatic 427, 3) := by decide +kernel
theorem dX8_named_84 : decode cX8_named 84 = .ok (.iload_n 2, 1) := by decide +kernel
theorem dX8_named_85 : decode cX8_named 85 = .ok (.iload_n 1, 1) := by decide +kernel
theorem dX8_named_86 : decode cX8_named 86 = .ok (.iconst 0, 1) := by decide +kernel
theorem dX8_named_87 : decode cX8_named 87 = .ok (.invokevirtual 154, 3) := by decide +kernel
theorem dX8_named_90 : decode cX8_named 90 = .ok (.istore_n 3, 1) := by decide +kernel
theorem dX8_named_91 : decode cX8_named 91 = .ok (.goto 36, 3) := by decide +kernel
theorem dX8_named_94 : decode cX8_named 94 = .ok (.aload_n 0, 1) := by decide +kernel
theorem dX8_named_95 : decode cX8_named 95 = .ok (.iconst 0, 1) := by decide +kernel
theorem dX8_named_96 : decode cX8_named 96 = .ok (.invokevirtual 103, 3) := by decide +kernel
theorem dX8_named_99 : decode cX8_named 99 = .ok (.bipush 40, 2) := by decide +kernel
theorem dX8_named_101 : decode cX8_named 101 = .ok (.if_icmp .ne 12, 3) := by decide +kernel
theorem dX8_named_104 : decode cX8_named 104 = .ok (.aload_n 0, 1) := by decide +kernel
theorem dX8_named_105 : decode cX8_named 105 = .ok (.iload_n 2, 1) := by decide +kernel
theorem dX8_named_106 : decode cX8_named 106 = .ok (.iload_n 1, 1) := by decide +kernel
theorem dX8_named_107 : decode cX8_named 107 = .ok (.invokevirtual 430, 3) := by decide +kernel
theorem dX8_named_110 : decode cX8_named 110 = .ok (.goto 17, 3) := by decide +kernel
theorem dX8_named_113 : decode cX8_named 113 = .ok (.aload_n 0, 1) := by decide +kernel
theorem dX8_named_114 : decode cX8_named 114 = .ok (.getfield 19, 3) := by decide +kernel
theorem dX8_named_117 : decode cX8_named 117 = .ok (.getstatic 433, 3) := by decide +kernel
theorem dX8_named_120 : decode cX8_named 120 = .ok (.iload_n 2, 1) := by decide +kernel
theorem dX8_named_121 : decode cX8_named 121 = .ok (.iload_n 1, 1) := by decide +kernel
theorem dX8_named_122 : decode cX8_named 122 = .ok (.iconst 0, 1) := by decide +kernel
theorem dX8_named_123 : decode cX8_named 123 = .ok (.invokevirtual 154, 3) := by decide +kernel
theorem dX8_named_126 : decode cX8_named 126 = .ok (.istore_n 3, 1) := by decide +kernel
theorem dX8_named_127 : decode cX8_named 127 = .ok (.return_, 1) := by decide +kernel
theorem dX8_call_0 : decode cX8_call 0 = .ok (.aload_n 0, 1) := by decide +kernel
theorem dX8_call_1 : decode cX8_call 1 = .ok (.getfield 19, 3) := by decide +kernel
theorem dX8_call_4 : decode cX8_call 4 = .ok (.getstatic 436, 3) := by decide +kernel
theorem dX8_call_7 : decode cX8_call 7 = .ok (.iload_n 1, 1) := by decide +kernel
theorem dX8_call_8 : decode cX8_call 8 = .ok (.iload_n 2, 1) := by decide +kernel
theorem dX8_call_9 : decode cX8_call 9 = .ok (.iconst 0, 1) := by decide +kernel
theorem dX8_call_10 : decode cX8_call 10 = .ok (.invokevirtual 154, 3) := by decide +kernel
theorem dX8_call_13 : decode cX8_call 13 = .ok (.istore_n 3, 1) := by decide +kernel
theorem dX8_call_14 : decode cX8_call 14 = .ok (.aload_n 0, 1) := by decide +kernel
theorem dX8_call_15 : decode cX8_call 15 = .ok (.aload_n 0, 1) := by decide +kernel
theorem dX8_call_16 : decode cX8_call 16 = .ok (.getfield 31, 3) := by decide +kernel
theorem dX8_call_19 : decode cX8_call 19 = .ok (.invokevirtual 254, 3) := by decide +kernel
theorem dX8_call_22 : decode cX8_call 22 = .ok (.aload_n 0, 1) := by decide +kernel
theorem dX8_call_23 : decode cX8_call 23 = .ok (.dup, 1) := by decide +kernel
theorem dX8_call_24 : decode cX8_call 24 = .ok (.getfield 31, 3) := by decide +kernel
theorem dX8_call_27 : decode cX8_call 27 = .ok (.iconst 1, 1) := by decide +kernel
theorem dX8_call_28 : decode cX8_call 28 = .ok (.iadd, 1) := by decide +kernel
theorem dX8_call_29 : decode cX8_call 29 = .ok (.putfield 31, 3) := by decide +kernel
theorem dX8_call_32 : decode cX8_call 32 = .ok (.iconst 0, 1) := by decide +kernel
theorem dX8_call_33 : decode cX8_call 33 = .ok (.istore 4, 2) := by decide +kernel
theorem dX8_call_35 : decode cX8_call 35 = .ok (.aload_n 0, 1) := by decide +kernel
theorem dX8_call_36 : decode cX8_call 36 = .ok (.bipush 41, 2) := by decide +kernel
theorem dX8_call_38 : decode cX8_call 38 = .ok (.invokevirtual 107, 3) := by decide +kernel
theorem dX8_call_41 : decode cX8_call 41 = .ok (.ifCond .ne 7, 3) := by decide +kernel
theorem dX8_call_44 : decode cX8_call 44 = .ok (.iconst 1, 1) := by decide +kernel
theorem dX8_call_45 : decode cX8_call 45 = .ok (.goto 4, 3) := by decide +kernel
theorem dX8_call_48 : decode cX8_call 48 = .ok (.iconst 0, 1) := by decide +kernel
theorem dX8_call_49 : decode cX8_call 49 = .ok (.istore 5, 2) := by decide +kernel
theorem dX8_call_51 : decode cX8_call 51 = .ok (.iload 5, 2) := by decide +kernel
theorem dX8_call_53 : decode cX8_call 53 = .ok (.ifCond .eq 80, 3) := by decide +kernel
theorem dX8_call_56 : decode cX8_call 56 = .ok (.aload_n 0, 1) := by decide +kernel
theorem dX8_call_57 : decode cX8_call 57 = .ok (.getfield 27, 3) := by decide +kernel
theorem dX8_call_60 : decode cX8_call 60 = .ok (.invokevirtual 96, 3) := by decide +kernel
theorem dX8_call_63 : decode cX8_call 63 = .ok (.ifCond .ne 70, 3) := by decide +kernel
theorem dX8_call_66 : decode cX8_call 66 = .ok (.aload_n 0, 1) := by decide +kernel
theorem dX8_call_67 : decode cX8_call 67 = .ok (.invokevirtual 211, 3) := by decide +kernel
theorem dX8_call_70 : decode cX8_call 70 = .ok (.aload_n 0, 1) := by decide +kernel
theorem dX8_call_71 : decode cX8_call 71 = .ok (.getfield 19, 3) := by decide +kernel
theorem dX8_call_74 : decode cX8_call 74 = .ok (.getstatic 439, 3) := by decide +kernel
theorem dX8_call_77 : decode cX8_call 77 = .ok (.iload_n 1, 1) := by decide +kernel
theorem dX8_call_78 : decode cX8_call 78 = .ok (.iload_n 2, 1) := by decide +kernel
theorem dX8_call_79 : decode cX8_call 79 = .ok (.iload 4, 2) := by decide +kernel
theorem dX8_call_81 : decode cX8_call 81 = .ok (.invokevirtual 154, 3) := by decide +kernel
theorem dX8_call_84 : decode cX8_call 84 = .ok (.istore 6, 2) := by decide +kernel
theorem dX8_call_86 : decode cX8_call 86 = .ok (.iinc 4 1, 3) := by decide +kernel
theorem dX8_call_89 : decode cX8_call 89 = .ok (.aload_n 0, 1) := by decide +kernel
theorem dX8_call_90 : decode cX8_call 90 = .ok (.getfield 27, 3) := by decide +kernel
theorem dX8_call_93 : decode cX8_call 93 = .ok (.invokevirtual 96, 3) := by decide +kernel
theorem dX8_call_96 : decode cX8_call 96 = .ok (.ifCond .ne 16, 3) := by decide +kernel
theorem dX8_call_99 : decode cX8_call 99 = .ok (.aload_n 0, 1) := by decide +kernel
theorem dX8_call_100 : decode cX8_call 100 = .ok (.bipush 44, 2) := by decide +kernel
theorem dX8_call_102 : decode cX8_call 102 = .ok (.invokevirtual 107, 3) := by decide +kernel
theorem dX8_call_105 : decode cX8_call 105 = .ok (.ifCond .eq 7, 3) := by decide +kernel
theorem dX8_call_108 : decode cX8_call 108 = .ok (.iconst 1, 1) := by decide +kernel
theorem dX8_call_109 : decode cX8_call 109 = .ok (.goto 4, 3) := by decide +kernel
theorem dX8_call_112 : decode cX8_call 112 = .ok (.iconst 0, 1) := by decide +kernel
theorem dX8_call_113 : decode cX8_call 113 = .ok (.istore 5, 2) := by decide +kernel
theorem dX8_call_115 : decode cX8_call 115 = .ok (.iload 5, 2) := by decide +kernel
theorem dX8_call_117 : decode cX8_call 117 = .ok (.ifCond .eq 13, 3) := by decide +kernel
theorem dX8_call_120 : decode cX8_call 120 = .ok (.aload_n 0, 1) := by decide +kernel
theorem dX8_call_121 : decode cX8_call 121 = .ok (.dup, 1) := by decide +kernel
theorem dX8_call_122 : decode cX8_call 122 = .ok (.getfield 31, 3) := by decide +kernel
theorem dX8_call_125 : decode cX8_call 125 = .ok (.iconst 1, 1) := by decide +kernel
theorem dX8_call_126 : decode cX8_call 126 = .ok (.iadd, 1) := by decide +kernel
theorem dX8_call_127 : decode cX8_call 127 = .ok (.putfield 31, 3) := by decide +kernel
theorem dX8_call_130 : decode cX8_call 130 = .ok (.goto (-79), 3) := by decide +kernel
theorem dX8_call_133 : decode cX8_call 133 = .ok (.aload_n 0, 1) := by decide +kernel
theorem dX8_call_134 : decode cX8_call 134 = .ok (.bipush 41, 2) := by decide +kernel
theorem dX8_call_136 : decode cX8_call 136 = .ok (.invokevirtual 182, 3) := by decide +kernel
theorem dX8_call_139 : decode cX8_call 139 = .ok (.aload_n 0, 1) := by decide +kernel
theorem dX8_call_140 : decode cX8_call 140 = .ok (.dup, 1) := by decide +kernel
theorem dX8_call_141 : decode cX8_call 141 = .ok (.getfield 130, 3) := by decide +kernel
theorem dX8_call_144 : decode cX8_call 144 = .ok (.iconst 1, 1) := by decide +kernel
theorem dX8_call_145 : decode cX8_call 145 = .ok (.isub, 1) := by decide +kernel
theorem dX8_call_146 : decode cX8_call 146 = .ok (.putfield 130, 3) := by decide +kernel
theorem dX8_call_149 : decode cX8_call 149 = .ok (.aload_n 0, 1) := by decide +kernel
theorem dX8_call_150 : decode cX8_call 150 = .ok (.getfield 19, 3) := by decide +kernel
theorem dX8_call_153 : decode cX8_call 153 = .ok (.getfield 217, 3) := by decide +kernel
theorem dX8_call_156 : decode cX8_call 156 = .ok (.iload_n 3, 1) := by decide +kernel
theorem dX8_call_157 : decode cX8_call 157 = .ok (.iload 4, 2) := by decide +kernel
theorem dX8_call_159 : decode cX8_call 159 = .ok (.iastore, 1) := by decide +kernel
theorem dX8_call_160 : decode cX8_call 160 = .ok (.aload_n 0, 1) := by decide +kernel
theorem dX8_call_161 : decode cX8_call 161 = .ok (.getfield 19, 3) := by decide +kernel
theorem dX8_call_164 : decode cX8_call 164 = .ok (.getstatic 442, 3) := by decide +kernel
theorem dX8_call_167 : decode cX8_call 167 = .ok (.iload_n 1, 1) := by decide +kernel
theorem dX8_call_168 : decode cX8_call 168 = .ok (.iload_n 2, 1) := by decide +kernel
theorem dX8_call_169 : decode cX8_call 169 = .ok (.iload 4, 2) := by decide +kernel
theorem dX8_call_171 : decode cX8_call 171 = .ok (.invokevirtual 154, 3) := by decide +kernel
theorem dX8_call_174 : decode cX8_call 174 = .ok (.istore 6, 2) := by decide +kernel
theorem dX8_call_176 : decode cX8_call 176 = .ok (.return_, 1) := by decide +kernel
theorem dX8_findOperator_0 : decode cX8_findOperator 0 = .ok (.aload_n 0, 1) := by decide +kernel
theorem dX8_findOperator_1 : decode cX8_findOperator 1 = .ok (.invokevirtual 93, 3) := by decide +kernel
theorem dX8_findOperator_4 : decode cX8_findOperator 4 = .ok (.aload_n 0, 1) := by decide +kernel
theorem dX8_findOperator_5 : decode cX8_findOperator 5 = .ok (.getstatic 148, 3) := by decide +kernel
theorem dX8_findOperator_8 : decode cX8_findOperator 8 = .ok (.iconst 0, 1) := by decide +kernel
theorem dX8_findOperator_9 : decode cX8_findOperator 9 = .ok (.iconst (-1), 1) := by decide +kernel
theorem dX8_findOperator_10 : decode cX8_findOperator 10 = .ok (.invokevirtual 314, 3) := by decide +kernel
theorem dX8_findOperator_13 : decode cX8_findOperator 13 = .ok (.aload_n 0, 1) := by decide +kernel
theorem dX8_findOperator_14 : decode cX8_findOperator 14 = .ok (.iconst 0, 1) := by decide +kernel
theorem dX8_findOperator_15 : decode cX8_findOperator 15 = .ok (.invokevirtual 103, 3) := by decide +kernel
theorem dX8_findOperator_18 : decode cX8_findOperator 18 = .ok (.istore_n 1, 1) := by decide +kernel
theorem dX8_findOperator_19 : decode cX8_findOperator 19 = .ok (.aload_n 0, 1) := by decide +kernel
theorem dX8_findOperator_20 : decode cX8_findOperator 20 = .ok (.iconst 1, 1) := by decide +kernel
theorem dX8_findOperator_21 : decode cX8_findOperator 21 = .ok (.invokevirtual 103, 3) := by decide +kernel
theorem dX8_findOperator_24 : decode cX8_findOperator 24 = .ok (.istore_n 2, 1) := by decide +kernel
theorem dX8_findOperator_25 : decode cX8_findOperator 25 = .ok (.iload_n 1, 1) := by decide +kernel
theorem dX8_findOperator_26 : decode cX8_findOperator 26 = .ok (.lookupswitch 435 #[(33, 224), (37, 422), (38, 150), (42, 396), (43, 370), (45, 383), (47, 409), (60, 242), (61, 206), (62, 306), (94, 194), (124, 106)], 106) := by decide +kernel
theorem dX8_findOperator_132 : decode cX8_findOperator 132 = .ok (.aload_n 0, 1) := by decide +kernel
theorem dX8_findOperator_133 : decode cX8_findOperator 133 = .ok (.iload_n 2, 1) := by decide +kernel
theorem dX8_findOperator_134 : decode cX8_findOperator 134 = .ok (.bipush 124, 2) := by decide +kernel
theorem dX8_findOperator_136 : decode cX8_findOperator 136 = .ok (.if_icmp .ne 9, 3) := by decide +kernel
theorem dX8_findOperator_139 : decode cX8_findOperator 139 = .ok (.getstatic 317, 3) := by decide +kernel
theorem dX8_findOperator_142 : decode cX8_findOperator 142 = .ok (.goto 6, 3) := by decide +kernel
theorem dX8_findOperator_145 : decode cX8_findOperator 145 = .ok (.getstatic 320, 3) := by decide +kernel
theorem dX8_findOperator_148 : decode cX8_findOperator 148 = .ok (.iload_n 2, 1) := by decide +kernel
theorem dX8_findOperator_149 : decode cX8_findOperator 149 = .ok (.bipush 124, 2) := by decide +kernel
theorem dX8_findOperator_151 : decode cX8_findOperator 151 = .ok (.if_icmp .ne 7, 3) := by decide +kernel
theorem dX8_findOperator_154 : decode cX8_findOperator 154 = .ok (.iconst 2, 1) := by decide +kernel
theorem dX8_findOperator_155 : decode cX8_findOperator 155 = .ok (.goto 4, 3) := by decide +kernel
theorem dX8_findOperator_158 : decode cX8_findOperator 158 = .ok (.iconst 1, 1) := by decide +kernel
theorem dX8_findOperator_159 : decode cX8_findOperator 159 = .ok (.iload_n 2, 1) := by decide +kernel
theorem dX8_findOperator_160 : decode cX8_findOperator 160 = .ok (.bipush 124, 2) := by decide +kernel
theorem dX8_findOperator_162 : decode cX8_findOperator 162 = .ok (.if_icmp .ne 7, 3) := by decide +kernel
theorem dX8_findOperator_165 : decode cX8_findOperator 165 = .ok (.iconst 0, 1) := by decide +kernel
theorem dX8_findOperator_166 : decode cX8_findOperator 166 = .ok (.goto 4, 3) := by decide +kernel
theorem dX8_findOperator_169 : decode cX8_findOperator 169 = .ok (.iconst 2, 1) := by decide +kernel
theorem dX8_findOperator_170 : decode cX8_findOperator 170 = .ok (.invokevirtual 314, 3) := by decide +kernel
theorem dX8_findOperator_173 : decode cX8_findOperator 173 = .ok (.goto 288, 3) := by decide +kernel
theorem dX8_findOperator_176 : decode cX8_findOperator 176 = .ok (.aload_n 0, 1) := by decide +kernel
theorem dX8_findOperator_177 : decode cX8_findOperator 177 = .ok (.iload_n 2, 1) := by decide +kernel
theorem dX8_findOperator_178 : decode cX8_findOperator 178 = .ok (.bipush 38, 2) := by decide +kernel
theorem dX8_findOperator_180 : decode cX8_findOperator 180 = .ok (.if_icmp .ne 9, 3) := by decide +kernel
theorem dX8_findOperator_183 : decode cX8_findOperator 183 = .ok (.getstatic 323, 3) := by decide +kernel
theorem dX8_findOperator_186 : decode cX8_findOperator 186 = .ok (.goto 6, 3) := by decide +kernel
theorem dX8_findOperator_189 : decode cX8_findOperator 189 = .ok (.getstatic 326, 3) := by decide +kernel
theorem dX8_findOperator_192 : decode cX8_findOperator 192 = .ok (.iload_n 2, 1) := by decide +kernel
theorem dX8_findOperator_193 : decode cX8_findOperator 193 = .ok (.bipush 38, 2) := by decide +kernel
theorem dX8_findOperator_195 : decode cX8_findOperator 195 = .ok (.if_icmp .ne 7, 3) := by decide +kernel
theorem dX8_findOperator_198 : decode cX8_findOperator 198 = .ok (.iconst 2, 1) := by decide +kernel
theorem dX8_findOperator_199 : decode cX8_findOperator 199 = .ok (.goto 4, 3) := by decide +kernel
theorem dX8_findOperator_202 : decode cX8_findOperator 202 = .ok (.iconst 1, 1) := by decide +kernel
theorem dX8_findOperator_203 : decode cX8_findOperator 203 = .ok (.iload_n 2, 1) := by decide +kernel
theorem dX8_findOperator_204 : decode cX8_findOperator 204 = .ok (.bipush 38, 2) := by decide +kernel
theorem dX8_findOperator_206 : decode cX8_findOperator 206 = .ok (.if_icmp .ne 7, 3) := by decide +kernel
theorem dX8_findOperator_209 : decode cX8_findOperator 209 = .ok (.iconst 1, 1) := by decide +kernel
theorem dX8_findOperator_210 : decode cX8_findOperator 210 = .ok (.goto 4, 3) := by decide +kernel
theorem dX8_findOperator_213 : decode cX8_findOperator 213 = .ok (.iconst 4, 1) := by decide +kernel
theorem dX8_findOperator_214 : decode cX8_findOperator 214 = .ok (.invokevirtual 314, 3) := by decide +kernel
theorem dX8_findOperator_217 : decode cX8_findOperator 217 = .ok (.goto 244, 3) := by decide +kernel
theorem dX8_findOperator_220 : decode cX8_findOperator 220 = .ok (.aload_n 0, 1) := by decide +kernel
theorem dX8_findOperator_221 : decode cX8_findOperator 221 = .ok (.getstatic 329, 3) := by decide +kernel
theorem dX8_findOperator_224 : decode cX8_findOperator 224 = .ok (.iconst 1, 1) := by decide +kernel
theorem dX8_findOperator_225 : decode cX8_findOperator 225 = .ok (.iconst 3, 1) := by decide +kernel
theorem dX8_findOperator_226 : decode cX8_findOperator 226 = .ok (.invokevirtual 314, 3) := by decide +kernel
theorem dX8_findOperator_229 : decode cX8_findOperator 229 = .ok (.goto 232, 3) := by decide +kernel
theorem dX8_findOperator_232 : decode cX8_findOperator 232 = .ok (.iload_n 2, 1) := by decide +kernel
theorem dX8_findOperator_233 : decode cX8_findOperator 233 = .ok (.bipush 61, 2) := by decide +kernel
theorem dX8_findOperator_235 : decode cX8_findOperator 235 = .ok (.if_icmp .ne 226, 3) := by decide +kernel
theorem dX8_findOperator_238 : decode cX8_findOperator 238 = .ok (.aload_n 0, 1) := by decide +kernel
theorem dX8_findOperator_239 : decode cX8_findOperator 239 = .ok (.getstatic 332, 3) := by decide +kernel
theorem dX8_findOperator_242 : decode cX8_findOperator 242 = .ok (.iconst 2, 1) := by decide +kernel
theorem dX8_findOperator_243 : decode cX8_findOperator 243 = .ok (.iconst 5, 1) := by decide +kernel
theorem dX8_findOperator_244 : decode cX8_findOperator 244 = .ok (.invokevirtual 314, 3) := by decide +kernel
theorem dX8_findOperator_247 : decode cX8_findOperator 247 = .ok (.goto 214, 3) := by decide +kernel
theorem dX8_findOperator_250 : decode cX8_findOperator 250 = .ok (.iload_n 2, 1) := by decide +kernel
theorem dX8_findOperator_251 : decode cX8_findOperator 251 = .ok (.bipush 61, 2) := by decide +kernel
theorem dX8_findOperator_253 : decode cX8_findOperator 253 = .ok (.if_icmp .ne 208, 3) := by decide +kernel
theorem dX8_findOperator_256 : decode cX8_findOperator 256 = .ok (.aload_n 0, 1) := by decide +kernel
theorem dX8_findOperator_257 : decode cX8_findOperator 257 = .ok (.getstatic 335, 3) := by decide +kernel
theorem dX8_findOperator_260 : decode cX8_findOperator 260 = .ok (.iconst 2, 1) := by decide +kernel
theorem dX8_findOperator_261 : decode cX8_findOperator 261 = .ok (.iconst 5, 1) := by decide +kernel
theorem dX8_findOperator_262 : decode cX8_findOperator 262 = .ok (.invokevirtual 314, 3) := by decide +kernel
theorem dX8_findOperator_265 : decode cX8_findOperator 265 = .ok (.goto 196, 3) := by decide +kernel
theorem dX8_findOperator_268 : decode cX8_findOperator 268 = .ok (.aload_n 0, 1) := by decide +kernel
theorem dX8_findOperator_269 : decode cX8_findOperator 269 = .ok (.iload_n 2, 1) := by decide +kernel
theorem dX8_findOperator_270 : decode cX8_findOperator 270 = .ok (.bipush 61, 2) := by decide +kernel
theorem dX8_findOperator_272 : decode cX8_findOperator 272 = .ok (.if_icmp .ne 9, 3) := by decide +kernel
theorem dX8_findOperator_275 : decode cX8_findOperator 275 = .ok (.getstatic 338, 3) := by decide +kernel
theorem dX8_findOperator_278 : decode cX8_findOperator 278 = .ok (.goto 18, 3) := by decide +kernel
theorem dX8_findOperator_281 : decode cX8_findOperator 281 = .ok (.iload_n 2, 1) := by decide +kernel
theorem dX8_findOperator_282 : decode cX8_findOperator 282 = .ok (.bipush 60, 2) := by decide +kernel
theorem dX8_findOperator_284 : decode cX8_findOperator 284 = .ok (.if_icmp .ne 9, 3) := by decide +kernel
theorem dX8_findOperator_287 : decode cX8_findOperator 287 = .ok (.getstatic 341, 3) := by decide +kernel
theorem dX8_findOperator_290 : decode cX8_findOperator 290 = .ok (.goto 6, 3) := by decide +kernel
theorem dX8_findOperator_293 : decode cX8_findOperator 293 = .ok (.getstatic 344, 3) := by decide +kernel
theorem dX8_findOperator_296 : decode cX8_findOperator 296 = .ok (.iload_n 2, 1) := by decide +kernel
theorem dX8_findOperator_297 : decode cX8_findOperator 297 = .ok (.bipush 61, 2) := by decide +kernel
theorem dX8_findOperator_299 : decode cX8_findOperator 299 = .ok (.if_icmp .eq 9, 3) := by decide +kernel
theorem dX8_findOperator_302 : decode cX8_findOperator 302 = .ok (.iload_n 2, 1) := by decide +kernel
theorem dX8_findOperator_303 : decode cX8_findOperator 303 = .ok (.bipush 60, 2) := by decide +kernel
theorem dX8_findOperator_305 : decode cX8_findOperator 305 = .ok (.if_icmp .ne 7, 3) := by decide +kernel
theorem dX8_findOperator_308 : decode cX8_findOperator 308 = .ok (.iconst 2, 1) := by decide +kernel
theorem dX8_findOperator_309 : decode cX8_findOperator 309 = .ok (.goto 4, 3) := by decide +kernel
theorem dX8_findOperator_312 : decode cX8_findOperator 312 = .ok (.iconst 1, 1) := by decide +kernel
theorem dX8_findOperator_313 : decode cX8_findOperator 313 = .ok (.iload_n 2, 1) := by decide +kernel
theorem dX8_findOperator_314 : decode cX8_findOperator 314 = .ok (.bipush 60, 2) := by decide +kernel
theorem dX8_findOperator_316 : decode cX8_findOperator 316 = .ok (.if_icmp .ne 8, 3) := by decide +kernel
theorem dX8_findOperator_319 : decode cX8_findOperator 319 = .ok (.bipush 7, 2) := by decide +kernel
theorem dX8_findOperator_321 : decode cX8_findOperator 321 = .ok (.goto 5, 3) := by decide +kernel
theorem dX8_findOperator_324 : decode cX8_findOperator 324 = .ok (.bipush 6, 2) := by decide +kernel
theorem dX8_findOperator_326 : decode cX8_findOperator 326 = .ok (.invokevirtual 314, 3) := by decide +kernel
theorem dX8_findOperator_329 : decode cX8_findOperator 329 = .ok (.goto 132, 3) := by decide +kernel
theorem dX8_findOperator_332 : decode cX8_findOperator 332 = .ok (.aload_n 0, 1) := by decide +kernel
theorem dX8_findOperator_333 : decode cX8_findOperator 333 = .ok (.iload_n 2, 1) := by decide +kernel
theorem dX8_findOperator_334 : decode cX8_findOperator 334 = .ok (.bipush 61, 2) := by decide +kernel
theorem dX8_findOperator_336 : decode cX8_findOperator 336 = .ok (.if_icmp .ne 9, 3) := by decide +kernel
theorem dX8_findOperator_339 : decode cX8_findOperator 339 = .ok (.getstatic 347, 3) := by decide +kernel
theorem dX8_findOperator_342 : decode cX8_findOperator 342 = .ok (.goto 18, 3) := by decide +kernel
theorem dX8_findOperator_345 : decode cX8_findOperator 345 = .ok (.iload_n 2, 1) := by decide +kernel
theorem dX8_findOperator_346 : decode cX8_findOperator 346 = .ok (.bipush 62, 2) := by decide +kernel
theorem dX8_findOperator_348 : decode cX8_findOperator 348 = .ok (.if_icmp .ne 9, 3) := by decide +kernel
theorem dX8_findOperator_351 : decode cX8_findOperator 351 = .ok (.getstatic 350, 3) := by decide +kernel
theorem dX8_findOperator_354 : decode cX8_findOperator 354 = .ok (.goto 6, 3) := by decide +kernel
theorem dX8_findOperator_357 : decode cX8_findOperator 357 = .ok (.getstatic 353, 3) := by decide +kernel
theorem dX8_findOperator_360 : decode cX8_findOperator 360 = .ok (.iload_n 2, 1) := by decide +kernel
theorem dX8_findOperator_361 : decode cX8_findOperator 361 = .ok (.bipush 61, 2) := by decide +kernel
theorem dX8_findOperator_363 : decode cX8_findOperator 363 = .ok (.if_icmp .eq 9, 3) := by decide +kernel
theorem dX8_findOperator_366 : decode cX8_findOperator 366 = .ok (.iload_n 2, 1) := by decide +kernel
theorem dX8_findOperator_367 : decode cX8_findOperator 367 = .ok (.bipush 62, 2) := by decide +kernel
theorem dX8_findOperator_369 : decode cX8_findOperator 369 = .ok (.if_icmp .ne 7, 3) := by decide +kernel
theorem dX8_findOperator_372 : decode cX8_findOperator 372 = .ok (.iconst 2, 1) := by decide +kernel
theorem dX8_findOperator_373 : decode cX8_findOperator 373 = .ok (.goto 4, 3) := by decide +kernel
theorem dX8_findOperator_376 : decode cX8_findOperator 376 = .ok (.iconst 1, 1) := by decide +kernel
theorem dX8_findOperator_377 : decode cX8_findOperator 377 = .ok (.iload_n 2, 1) := by decide +kernel
theorem dX8_findOperator_378 : decode cX8_findOperator 378 = .ok (.bipush 62, 2) := by decide +kernel
theorem dX8_findOperator_380 : decode cX8_findOperator 380 = .ok (.if_icmp .ne 8, 3) := by decide +kernel
theorem dX8_findOperator_383 : decode cX8_findOperator 383 = .ok (.bipush 7, 2) := by decide +kernel
theorem dX8_findOperator_385 : decode cX8_findOperator 385 = .ok (.goto 5, 3) := by decide +kernel
theorem dX8_findOperator_388 : decode cX8_findOperator 388 = .ok (.bipush 6, 2) := by decide +kernel
theorem dX8_findOperator_390 : decode cX8_findOperator 390 = .ok (.invokevirtual 314, 3) := by decide +kernel
theorem dX8_findOperator_393 : decode cX8_findOperator 393 = .ok (.goto 68, 3) := by decide +kernel
theorem dX8_findOperator_396 : decode cX8_findOperator 396 = .ok (.aload_n 0, 1) := by decide +kernel
theorem dX8_findOperator_397 : decode cX8_findOperator 397 = .ok (.getstatic 356, 3) := by decide +kernel
theorem dX8_findOperator_400 : decode cX8_findOperator 400 = .ok (.iconst 1, 1) := by decide +kernel
theorem dX8_findOperator_401 : decode cX8_findOperator 401 = .ok (.bipush 8, 2) := by decide +kernel
theorem dX8_findOperator_403 : decode cX8_findOperator 403 = .ok (.invokevirtual 314, 3) := by decide +kernel
theorem dX8_findOperator_406 : decode cX8_findOperator 406 = .ok (.goto 55, 3) := by decide +kernel
theorem dX8_findOperator_409 : decode cX8_findOperator 409 = .ok (.aload_n 0, 1) := by decide +kernel
theorem dX8_findOperator_410 : decode cX8_findOperator 410 = .ok (.getstatic 359, 3) := by decide +kernel
theorem dX8_findOperator_413 : decode cX8_findOperator 413 = .ok (.iconst 1, 1) := by decide +kernel
theorem dX8_findOperator_414 : decode cX8_findOperator 414 = .ok (.bipush 8, 2) := by decide +kernel
theorem dX8_findOperator_416 : decode cX8_findOperator 416 = .ok (.invokevirtual 314, 3) := by decide +kernel
theorem dX8_findOperator_419 : decode cX8_findOperator 419 = .ok (.goto 42, 3) := by decide +kernel
theorem dX8_findOperator_422 : decode cX8_findOperator 422 = .ok (.aload_n 0, 1) := by decide +kernel
theorem dX8_findOperator_423 : decode cX8_findOperator 423 = .ok (.getstatic 362, 3) := by decide +kernel
theorem dX8_findOperator_426 : decode cX8_findOperator 426 = .ok (.iconst 1, 1) := by decide +kernel
theorem dX8_findOperator_427 : decode cX8_findOperator 427 = .ok (.bipush 9, 2) := by decide +kernel
theorem dX8_findOperator_429 : decode cX8_findOperator 429 = .ok (.invokevirtual 314, 3) := by decide +kernel
theorem dX8_findOperator_432 : decode cX8_findOperator 432 = .ok (.goto 29, 3) := by decide +kernel
theorem dX8_findOperator_435 : decode cX8_findOperator 435 = .ok (.aload_n 0, 1) := by decide +kernel
theorem dX8_findOperator_436 : decode cX8_findOperator 436 = .ok (.getstatic 365, 3) := by decide +kernel
theorem dX8_findOperator_439 : decode cX8_findOperator 439 = .ok (.iconst 1, 1) := by decide +kernel
theorem dX8_findOperator_440 : decode cX8_findOperator 440 = .ok (.bipush 9, 2) := by decide +kernel
theorem dX8_findOperator_442 : decode cX8_findOperator 442 = .ok (.invokevirtual 314, 3) := by decide +kernel
theorem dX8_findOperator_445 : decode cX8_findOperator 445 = .ok (.goto 16, 3) := by decide +kernel
theorem dX8_findOperator_448 : decode cX8_findOperator 448 = .ok (.aload_n 0, 1) := by decide +kernel
theorem dX8_findOperator_449 : decode cX8_findOperator 449 = .ok (.getstatic 368, 3) := by decide +kernel
theorem dX8_findOperator_452 : decode cX8_findOperator 452 = .ok (.iconst 1, 1) := by decide +kernel
theorem dX8_findOperator_453 : decode cX8_findOperator 453 = .ok (.bipush 9, 2) := by decide +kernel
theorem dX8_findOperator_455 : decode cX8_findOperator 455 = .ok (.invokevirtual 314, 3) := by decide +kernel
theorem dX8_findOperator_458 : decode cX8_findOperator 458 = .ok (.goto 3, 3) := by decide +kernel
theorem dX8_findOperator_461 : decode cX8_findOperator 461 = .ok (.return_, 1) := by decide +kernel
theorem dX8_is_0 : decode cX8_is 0 = .ok (.aload_n 0, 1) := by decide +kernel
theorem dX8_is_1 : decode cX8_is 1 = .ok (.aload_n 1, 1) := by decide +kernel
theorem dX8_is_2 : decode cX8_is 2 = .ok (.putfield 305, 3) := by decide +kernel
theorem dX8_is_5 : decode cX8_is 5 = .ok (.aload_n 0, 1) := by decide +kernel
theorem dX8_is_6 : decode cX8_is 6 = .ok (.iload_n 2, 1) := by decide +kernel
theorem dX8_is_7 : decode cX8_is 7 = .ok (.putfield 308, 3) := by decide +kernel
theorem dX8_is_10 : decode cX8_is 10 = .ok (.aload_n 0, 1) := by decide +kernel
theorem dX8_is_11 : decode cX8_is 11 = .ok (.iload_n 3, 1) := by decide +kernel
theorem dX8_is_12 : decode cX8_is 12 = .ok (.putfield 311, 3) := by decide +kernel
theorem dX8_is_15 : decode cX8_is 15 = .ok (.return_, 1) := by decide +kernel
theorem dX8_output_0 : decode cX8_output 0 = .ok (.aload_n 0, 1) := by decide +kernel
theorem dX8_output_1 : decode cX8_output 1 = .ok (.getfield 19, 3) := by decide +kernel
theorem dX8_output_4 : decode cX8_output 4 = .ok (.getstatic 224, 3) := by decide +kernel
theorem dX8_output_7 : decode cX8_output 7 = .ok (.iconst 0, 1) := by decide +kernel
theorem dX8_output_8 : decode cX8_output 8 = .ok (.aload_n 0, 1) := by decide +kernel
theorem dX8_output_9 : decode cX8_output 9 = .ok (.getfield 31, 3) := by decide +kernel
theorem dX8_output_12 : decode cX8_output 12 = .ok (.iconst 0, 1) := by decide +kernel
theorem dX8_output_13 : decode cX8_output 13 = .ok (.invokevirtual 154, 3) := by decide +kernel
theorem dX8_output_16 : decode cX8_output 16 = .ok (.istore_n 1, 1) := by decide +kernel
theorem dX8_output_17 : decode cX8_output 17 = .ok (.aload_n 0, 1) := by decide +kernel
theorem dX8_output_18 : decode cX8_output 18 = .ok (.dup, 1) := by decide +kernel
theorem dX8_output_19 : decode cX8_output 19 = .ok (.getfield 31, 3) := by decide +kernel
theorem dX8_output_22 : decode cX8_output 22 = .ok (.bipush 6, 2) := by decide +kernel
theorem dX8_output_24 : decode cX8_output 24 = .ok (.iadd, 1) := by decide +kernel
theorem dX8_output_25 : decode cX8_output 25 = .ok (.putfield 31, 3) := by decide +kernel
theorem dX8_output_28 : decode cX8_output 28 = .ok (.aload_n 0, 1) := by decide +kernel
theorem dX8_output_29 : decode cX8_output 29 = .ok (.invokevirtual 211, 3) := by decide +kernel
theorem dX8_output_32 : decode cX8_output 32 = .ok (.aload_n 0, 1) := by decide +kernel
theorem dX8_output_33 : decode cX8_output 33 = .ok (.bipush 59, 2) := by decide +kernel
theorem dX8_output_35 : decode cX8_output 35 = .ok (.invokevirtual 182, 3) := by decide +kernel
theorem dX8_output_38 : decode cX8_output 38 = .ok (.aload_n 0, 1) := by decide +kernel
theorem dX8_output_39 : decode cX8_output 39 = .ok (.getfield 19, 3) := by decide +kernel
theorem dX8_output_42 : decode cX8_output 42 = .ok (.getstatic 227, 3) := by decide +kernel
theorem dX8_output_45 : decode cX8_output 45 = .ok (.iconst 0, 1) := by decide +kernel
theorem dX8_output_46 : decode cX8_output 46 = .ok (.aload_n 0, 1) := by decide +kernel
theorem dX8_output_47 : decode cX8_output 47 = .ok (.getfield 31, 3) := by decide +kernel
theorem dX8_output_50 : decode cX8_output 50 = .ok (.iconst 0, 1) := by decide +kernel
theorem dX8_output_51 : decode cX8_output 51 = .ok (.invokevirtual 154, 3) := by decide +kernel
theorem dX8_output_54 : decode cX8_output 54 = .ok (.istore_n 1, 1) := by decide +kernel
theorem dX8_output_55 : decode cX8_output 55 = .ok (.return_, 1) := by decide +kernel
theorem dX8_statement_0 : decode cX8_statement 0 = .ok (.aload_n 0, 1) := by decide +kernel
theorem dX8_statement_1 : decode cX8_statement 1 = .ok (.getfield 31, 3) := by decide +kernel
theorem dX8_statement_4 : decode cX8_statement 4 = .ok (.istore_n 1, 1) := by decide +kernel
theorem dX8_statement_5 : decode cX8_statement 5 = .ok (.aload_n 0, 1) := by decide +kernel
theorem dX8_statement_6 : decode cX8_statement 6 = .ok (.ldc 71, 2) := by decide +kernel
theorem dX8_statement_8 : decode cX8_statement 8 = .ok (.invokevirtual 65, 3) := by decide +kernel
theorem dX8_statement_11 : decode cX8_statement 11 = .ok (.ifCond .eq 24, 3) := by decide +kernel
theorem dX8_statement_14 : decode cX8_statement 14 = .ok (.aload_n 0, 1) := by decide +kernel
theorem dX8_statement_15 : decode cX8_statement 15 = .ok (.getfield 19, 3) := by decide +kernel
theorem dX8_statement_18 : decode cX8_statement 18 = .ok (.getstatic 230, 3) := by decide +kernel
theorem dX8_statement_21 : decode cX8_statement 21 = .ok (.iconst 0, 1) := by decide +kernel
theorem dX8_statement_22 : decode cX8_statement 22 = .ok (.iload_n 1, 1) := by decide +kernel
theorem dX8_statement_23 : decode cX8_statement 23 = .ok (.iconst 0, 1) := by decide +kernel
theorem dX8_statement_24 : decode cX8_statement 24 = .ok (.invokevirtual 154, 3) := by decide +kernel
theorem dX8_statement_27 : decode cX8_statement 27 = .ok (.istore_n 2, 1) := by decide +kernel
theorem dX8_statement_28 : decode cX8_statement 28 = .ok (.aload_n 0, 1) := by decide +kernel
theorem dX8_statement_29 : decode cX8_statement 29 = .ok (.invokevirtual 233, 3) := by decide +kernel
theorem dX8_statement_32 : decode cX8_statement 32 = .ok (.goto 39, 3) := by decide +kernel
theorem dX8_statement_35 : decode cX8_statement 35 = .ok (.aload_n 0, 1) := by decide +kernel
theorem dX8_statement_36 : decode cX8_statement 36 = .ok (.ldc 79, 2) := by decide +kernel
theorem dX8_statement_38 : decode cX8_statement 38 = .ok (.invokevirtual 65, 3) := by decide +kernel
theorem dX8_statement_41 : decode cX8_statement 41 = .ok (.ifCond .eq 10, 3) := by decide +kernel
theorem dX8_statement_44 : decode cX8_statement 44 = .ok (.aload_n 0, 1) := by decide +kernel
theorem dX8_statement_45 : decode cX8_statement 45 = .ok (.invokevirtual 236, 3) := by decide +kernel
theorem dX8_statement_48 : decode cX8_statement 48 = .ok (.goto 23, 3) := by decide +kernel
theorem dX8_statement_51 : decode cX8_statement 51 = .ok (.aload_n 0, 1) := by decide +kernel
theorem dX8_statement_52 : decode cX8_statement 52 = .ok (.ldc 75, 2) := by decide +kernel
theorem dX8_statement_54 : decode cX8_statement 54 = .ok (.invokevirtual 65, 3) := by decide +kernel
theorem dX8_statement_57 : decode cX8_statement 57 = .ok (.ifCond .eq 10, 3) := by decide +kernel
theorem dX8_statement_60 : decode cX8_statement 60 = .ok (.aload_n 0, 1) := by decide +kernel
theorem dX8_statement_61 : decode cX8_statement 61 = .ok (.invokevirtual 239, 3) := by decide +kernel
theorem dX8_statement_64 : decode cX8_statement 64 = .ok (.goto 7, 3) := by decide +kernel
theorem dX8_statement_67 : decode cX8_statement 67 = .ok (.aload_n 0, 1) := by decide +kernel
theorem dX8_statement_68 : decode cX8_statement 68 = .ok (.invokevirtual 242, 3) := by decide +kernel
theorem dX8_statement_71 : decode cX8_statement 71 = .ok (.return_, 1) := by decide +kernel
theorem dX8_variable_0 : decode cX8_variable 0 = .ok (.aload_n 0, 1) := by decide +kernel
theorem dX8_variable_1 : decode cX8_variable 1 = .ok (.dup, 1) := by decide +kernel
theorem dX8_variable_2 : decode cX8_variable 2 = .ok (.getfield 31, 3) := by decide +kernel
theorem dX8_variable_5 : decode cX8_variable 5 = .ok (.iconst 3, 1) := by decide +kernel
theorem dX8_variable_6 : decode cX8_variable 6 = .ok (.iadd, 1) := by decide +kernel
theorem dX8_variable_7 : decode cX8_variable 7 = .ok (.putfield 31, 3) := by decide +kernel
theorem dX8_variable_10 : decode cX8_variable 10 = .ok (.aload_n 0, 1) := by decide +kernel
theorem dX8_variable_11 : decode cX8_variable 11 = .ok (.invokevirtual 186, 3) := by decide +kernel
theorem dX8_variable_14 : decode cX8_variable 14 = .ok (.istore_n 1, 1) := by decide +kernel
theorem dX8_variable_15 : decode cX8_variable 15 = .ok (.aload_n 0, 1) := by decide +kernel
theorem dX8_variable_16 : decode cX8_variable 16 = .ok (.getfield 114, 3) := by decide +kernel
theorem dX8_variable_19 : decode cX8_variable 19 = .ok (.istore_n 2, 1) := by decide +kernel
theorem dX8_variable_20 : decode cX8_variable 20 = .ok (.aload_n 0, 1) := by decide +kernel
theorem dX8_variable_21 : decode cX8_variable 21 = .ok (.bipush 58, 2) := by decide +kernel
theorem dX8_variable_23 : decode cX8_variable 23 = .ok (.invokevirtual 182, 3) := by decide +kernel
theorem dX8_variable_26 : decode cX8_variable 26 = .ok (.aload_n 0, 1) := by decide +kernel
theorem dX8_variable_27 : decode cX8_variable 27 = .ok (.invokevirtual 193, 3) := by decide +kernel
theorem dX8_variable_30 : decode cX8_variable 30 = .ok (.aload_n 0, 1) := by decide +kernel
theorem dX8_variable_31 : decode cX8_variable 31 = .ok (.getfield 27, 3) := by decide +kernel
theorem dX8_variable_34 : decode cX8_variable 34 = .ok (.invokevirtual 96, 3) := by decide +kernel
theorem dX8_variable_37 : decode cX8_variable 37 = .ok (.ifCond .eq 4, 3) := by decide +kernel
theorem dX8_variable_40 : decode cX8_variable 40 = .ok (.return_, 1) := by decide +kernel
theorem dX8_variable_41 : decode cX8_variable 41 = .ok (.aload_n 0, 1) := by decide +kernel
theorem dX8_variable_42 : decode cX8_variable 42 = .ok (.getfield 172, 3) := by decide +kernel
theorem dX8_variable_45 : decode cX8_variable 45 = .ok (.istore_n 3, 1) := by decide +kernel
theorem dX8_variable_46 : decode cX8_variable 46 = .ok (.aload_n 0, 1) := by decide +kernel
theorem dX8_variable_47 : decode cX8_variable 47 = .ok (.getfield 174, 3) := by decide +kernel
theorem dX8_variable_50 : decode cX8_variable 50 = .ok (.istore 4, 2) := by decide +kernel
theorem dX8_variable_52 : decode cX8_variable 52 = .ok (.aload_n 0, 1) := by decide +kernel
theorem dX8_variable_53 : decode cX8_variable 53 = .ok (.dup, 1) := by decide +kernel
theorem dX8_variable_54 : decode cX8_variable 54 = .ok (.getfield 142, 3) := by decide +kernel
theorem dX8_variable_57 : decode cX8_variable 57 = .ok (.iconst 1, 1) := by decide +kernel
theorem dX8_variable_58 : decode cX8_variable 58 = .ok (.iload 4, 2) := by decide +kernel
theorem dX8_variable_60 : decode cX8_variable 60 = .ok (.invokestatic 196, 3) := by decide +kernel
theorem dX8_variable_63 : decode cX8_variable 63 = .ok (.iadd, 1) := by decide +kernel
theorem dX8_variable_64 : decode cX8_variable 64 = .ok (.putfield 142, 3) := by decide +kernel
theorem dX8_variable_67 : decode cX8_variable 67 = .ok (.aload_n 0, 1) := by decide +kernel
theorem dX8_variable_68 : decode cX8_variable 68 = .ok (.getfield 142, 3) := by decide +kernel
theorem dX8_variable_71 : decode cX8_variable 71 = .ok (.sipush 256, 3) := by decide +kernel
theorem dX8_variable_74 : decode cX8_variable 74 = .ok (.if_icmp .le 12, 3) := by decide +kernel
theorem dX8_variable_77 : decode cX8_variable 77 = .ok (.aload_n 0, 1) := by decide +kernel
theorem dX8_variable_78 : decode cX8_variable 78 = .ok (.getfield 27, 3) := by decide +kernel
theorem dX8_variable_81 : decode cX8_variable 81 = .ok (.iconst 2, 1) := by decide +kernel
theorem dX8_variable_82 : decode cX8_variable 82 = .ok (.iload_n 2, 1) := by decide +kernel
theorem dX8_variable_83 : decode cX8_variable 83 = .ok (.invokevirtual 37, 3) := by decide +kernel
theorem dX8_variable_86 : decode cX8_variable 86 = .ok (.aload_n 0, 1) := by decide +kernel
theorem dX8_variable_87 : decode cX8_variable 87 = .ok (.getfield 19, 3) := by decide +kernel
theorem dX8_variable_90 : decode cX8_variable 90 = .ok (.getstatic 245, 3) := by decide +kernel
theorem dX8_variable_93 : decode cX8_variable 93 = .ok (.iload_n 1, 1) := by decide +kernel
theorem dX8_variable_94 : decode cX8_variable 94 = .ok (.iload_n 2, 1) := by decide +kernel
theorem dX8_variable_95 : decode cX8_variable 95 = .ok (.iconst 0, 1) := by decide +kernel
theorem dX8_variable_96 : decode cX8_variable 96 = .ok (.invokevirtual 154, 3) := by decide +kernel
theorem dX8_variable_99 : decode cX8_variable 99 = .ok (.istore 5, 2) := by decide +kernel
theorem dX8_variable_101 : decode cX8_variable 101 = .ok (.aload_n 0, 1) := by decide +kernel
theorem dX8_variable_102 : decode cX8_variable 102 = .ok (.bipush 61, 2) := by decide +kernel
theorem dX8_variable_104 : decode cX8_variable 104 = .ok (.invokevirtual 107, 3) := by decide +kernel
theorem dX8_variable_107 : decode cX8_variable 107 = .ok (.istore 6, 2) := by decide +kernel
theorem dX8_variable_109 : decode cX8_variable 109 = .ok (.iload 6, 2) := by decide +kernel
theorem dX8_variable_111 : decode cX8_variable 111 = .ok (.ifCond .eq 13, 3) := by decide +kernel
theorem dX8_variable_114 : decode cX8_variable 114 = .ok (.aload_n 0, 1) := by decide +kernel
theorem dX8_variable_115 : decode cX8_variable 115 = .ok (.bipush 61, 2) := by decide +kernel
theorem dX8_variable_117 : decode cX8_variable 117 = .ok (.invokevirtual 182, 3) := by decide +kernel
theorem dX8_variable_120 : decode cX8_variable 120 = .ok (.aload_n 0, 1) := by decide +kernel
theorem dX8_variable_121 : decode cX8_variable 121 = .ok (.invokevirtual 211, 3) := by decide +kernel
theorem dX8_variable_124 : decode cX8_variable 124 = .ok (.aload_n 0, 1) := by decide +kernel
theorem dX8_variable_125 : decode cX8_variable 125 = .ok (.bipush 59, 2) := by decide +kernel
theorem dX8_variable_127 : decode cX8_variable 127 = .ok (.invokevirtual 182, 3) := by decide +kernel
theorem dX8_variable_130 : decode cX8_variable 130 = .ok (.aload_n 0, 1) := by decide +kernel
theorem dX8_variable_131 : decode cX8_variable 131 = .ok (.getfield 19, 3) := by decide +kernel
theorem dX8_variable_134 : decode cX8_variable 134 = .ok (.getstatic 248, 3) := by decide +kernel
theorem dX8_variable_137 : decode cX8_variable 137 = .ok (.iload_n 1, 1) := by decide +kernel
theorem dX8_variable_138 : decode cX8_variable 138 = .ok (.iload 6, 2) := by decide +kernel
theorem dX8_variable_140 : decode cX8_variable 140 = .ok (.ifCond .eq 7, 3) := by decide +kernel
theorem dX8_variable_143 : decode cX8_variable 143 = .ok (.iconst 1, 1) := by decide +kernel
theorem dX8_variable_144 : decode cX8_variable 144 = .ok (.goto 4, 3) := by decide +kernel
theorem dX8_variable_147 : decode cX8_variable 147 = .ok (.iconst 0, 1) := by decide +kernel
theorem dX8_variable_148 : decode cX8_variable 148 = .ok (.iconst 2, 1) := by decide +kernel
theorem dX8_variable_149 : decode cX8_variable 149 = .ok (.iload 4, 2) := by decide +kernel
theorem dX8_variable_151 : decode cX8_variable 151 = .ok (.imul, 1) := by decide +kernel
theorem dX8_variable_152 : decode cX8_variable 152 = .ok (.iload_n 3, 1) := by decide +kernel
theorem dX8_variable_153 : decode cX8_variable 153 = .ok (.iadd, 1) := by decide +kernel
theorem dX8_variable_154 : decode cX8_variable 154 = .ok (.invokevirtual 154, 3) := by decide +kernel
theorem dX8_variable_157 : decode cX8_variable 157 = .ok (.istore 5, 2) := by decide +kernel
theorem dX8_variable_159 : decode cX8_variable 159 = .ok (.return_, 1) := by decide +kernel
theorem dX8_condition_0 : decode cX8_condition 0 = .ok (.aload_n 0, 1) := by decide +kernel
theorem dX8_condition_1 : decode cX8_condition 1 = .ok (.getfield 31, 3) := by decide +kernel
theorem dX8_condition_4 : decode cX8_condition 4 = .ok (.istore_n 1, 1) := by decide +kernel
theorem dX8_condition_5 : decode cX8_condition 5 = .ok (.aload_n 0, 1) := by decide +kernel
theorem dX8_condition_6 : decode cX8_condition 6 = .ok (.getfield 19, 3) := by decide +kernel
theorem dX8_condition_9 : decode cX8_condition 9 = .ok (.getstatic 230, 3) := by decide +kernel
theorem dX8_condition_12 : decode cX8_condition 12 = .ok (.iconst 0, 1) := by decide +kernel
theorem dX8_condition_13 : decode cX8_condition 13 = .ok (.iload_n 1, 1) := by decide +kernel
theorem dX8_condition_14 : decode cX8_condition 14 = .ok (.iconst 0, 1) := by decide +kernel
theorem dX8_condition_15 : decode cX8_condition 15 = .ok (.invokevirtual 154, 3) := by decide +kernel
theorem dX8_condition_18 : decode cX8_condition 18 = .ok (.istore_n 2, 1) := by decide +kernel
theorem dX8_condition_19 : decode cX8_condition 19 = .ok (.aload_n 0, 1) := by decide +kernel
theorem dX8_condition_20 : decode cX8_condition 20 = .ok (.dup, 1) := by decide +kernel
theorem dX8_condition_21 : decode cX8_condition 21 = .ok (.getfield 31, 3) := by decide +kernel
theorem dX8_condition_24 : decode cX8_condition 24 = .ok (.iconst 2, 1) := by decide +kernel
theorem dX8_condition_25 : decode cX8_condition 25 = .ok (.iadd, 1) := by decide +kernel
theorem dX8_condition_26 : decode cX8_condition 26 = .ok (.putfield 31, 3) := by decide +kernel
theorem dX8_condition_29 : decode cX8_condition 29 = .ok (.aload_n 0, 1) := by decide +kernel
theorem dX8_condition_30 : decode cX8_condition 30 = .ok (.invokevirtual 272, 3) := by decide +kernel
theorem dX8_condition_33 : decode cX8_condition 33 = .ok (.aload_n 0, 1) := by decide +kernel
theorem dX8_condition_34 : decode cX8_condition 34 = .ok (.getfield 19, 3) := by decide +kernel
theorem dX8_condition_37 : decode cX8_condition 37 = .ok (.getstatic 275, 3) := by decide +kernel
theorem dX8_condition_40 : decode cX8_condition 40 = .ok (.iconst 0, 1) := by decide +kernel
theorem dX8_condition_41 : decode cX8_condition 41 = .ok (.iload_n 1, 1) := by decide +kernel
theorem dX8_condition_42 : decode cX8_condition 42 = .ok (.iconst 0, 1) := by decide +kernel
theorem dX8_condition_43 : decode cX8_condition 43 = .ok (.invokevirtual 154, 3) := by decide +kernel
theorem dX8_condition_46 : decode cX8_condition 46 = .ok (.istore_n 3, 1) := by decide +kernel
theorem dX8_condition_47 : decode cX8_condition 47 = .ok (.aload_n 0, 1) := by decide +kernel
theorem dX8_condition_48 : decode cX8_condition 48 = .ok (.invokevirtual 278, 3) := by decide +kernel
theorem dX8_condition_51 : decode cX8_condition 51 = .ok (.aload_n 0, 1) := by decide +kernel
theorem dX8_condition_52 : decode cX8_condition 52 = .ok (.invokevirtual 93, 3) := by decide +kernel
theorem dX8_condition_55 : decode cX8_condition 55 = .ok (.aload_n 0, 1) := by decide +kernel
theorem dX8_condition_56 : decode cX8_condition 56 = .ok (.getfield 27, 3) := by decide +kernel
theorem dX8_condition_59 : decode cX8_condition 59 = .ok (.invokevirtual 96, 3) := by decide +kernel
theorem dX8_condition_62 : decode cX8_condition 62 = .ok (.ifCond .ne 16, 3) := by decide +kernel
theorem dX8_condition_65 : decode cX8_condition 65 = .ok (.aload_n 0, 1) := by decide +kernel
theorem dX8_condition_66 : decode cX8_condition 66 = .ok (.ldc 81, 2) := by decide +kernel
theorem dX8_condition_68 : decode cX8_condition 68 = .ok (.invokevirtual 65, 3) := by decide +kernel
theorem dX8_condition_71 : decode cX8_condition 71 = .ok (.ifCond .eq 7, 3) := by decide +kernel
theorem dX8_condition_74 : decode cX8_condition 74 = .ok (.iconst 1, 1) := by decide +kernel
theorem dX8_condition_75 : decode cX8_condition 75 = .ok (.goto 4, 3) := by decide +kernel
theorem dX8_condition_78 : decode cX8_condition 78 = .ok (.iconst 0, 1) := by decide +kernel
theorem dX8_condition_79 : decode cX8_condition 79 = .ok (.istore 4, 2) := by decide +kernel
theorem dX8_condition_81 : decode cX8_condition 81 = .ok (.aload_n 0, 1) := by decide +kernel
theorem dX8_condition_82 : decode cX8_condition 82 = .ok (.getfield 19, 3) := by decide +kernel
theorem dX8_condition_85 : decode cX8_condition 85 = .ok (.getstatic 281, 3) := by decide +kernel
theorem dX8_condition_88 : decode cX8_condition 88 = .ok (.iconst 0, 1) := by decide +kernel
theorem dX8_condition_89 : decode cX8_condition 89 = .ok (.iload_n 1, 1) := by decide +kernel
theorem dX8_condition_90 : decode cX8_condition 90 = .ok (.iconst 0, 1) := by decide +kernel
theorem dX8_condition_91 : decode cX8_condition 91 = .ok (.invokevirtual 154, 3) := by decide +kernel
theorem dX8_condition_94 : decode cX8_condition 94 = .ok (.istore 5, 2) := by decide +kernel
theorem dX8_condition_96 : decode cX8_condition 96 = .ok (.aload_n 0, 1) := by decide +kernel
theorem dX8_condition_97 : decode cX8_condition 97 = .ok (.getfield 19, 3) := by decide +kernel
theorem dX8_condition_100 : decode cX8_condition 100 = .ok (.getfield 217, 3) := by decide +kernel
theorem dX8_condition_103 : decode cX8_condition 103 = .ok (.iload_n 3, 1) := by decide +kernel
theorem dX8_condition_104 : decode cX8_condition 104 = .ok (.iload 5, 2) := by decide +kernel
theorem dX8_condition_106 : decode cX8_condition 106 = .ok (.iastore, 1) := by decide +kernel
theorem dX8_condition_107 : decode cX8_condition 107 = .ok (.iload 4, 2) := by decide +kernel
theorem dX8_condition_109 : decode cX8_condition 109 = .ok (.ifCond .eq 55, 3) := by decide +kernel
theorem dX8_condition_112 : decode cX8_condition 112 = .ok (.aload_n 0, 1) := by decide +kernel
theorem dX8_condition_113 : decode cX8_condition 113 = .ok (.dup, 1) := by decide +kernel
theorem dX8_condition_114 : decode cX8_condition 114 = .ok (.getfield 31, 3) := by decide +kernel
theorem dX8_condition_117 : decode cX8_condition 117 = .ok (.iconst 4, 1) := by decide +kernel
theorem dX8_condition_118 : decode cX8_condition 118 = .ok (.iadd, 1) := by decide +kernel
theorem dX8_condition_119 : decode cX8_condition 119 = .ok (.putfield 31, 3) := by decide +kernel
theorem dX8_condition_122 : decode cX8_condition 122 = .ok (.aload_n 0, 1) := by decide +kernel
theorem dX8_condition_123 : decode cX8_condition 123 = .ok (.invokevirtual 93, 3) := by decide +kernel
theorem dX8_condition_126 : decode cX8_condition 126 = .ok (.aload_n 0, 1) := by decide +kernel
theorem dX8_condition_127 : decode cX8_condition 127 = .ok (.ldc 79, 2) := by decide +kernel
theorem dX8_condition_129 : decode cX8_condition 129 = .ok (.invokevirtual 65, 3) := by decide +kernel
theorem dX8_condition_132 : decode cX8_condition 132 = .ok (.ifCond .eq 28, 3) := by decide +kernel
theorem dX8_condition_135 : decode cX8_condition 135 = .ok (.aload_n 0, 1) := by decide +kernel
theorem dX8_condition_136 : decode cX8_condition 136 = .ok (.aload_n 0, 1) := by decide +kernel
theorem dX8_condition_137 : decode cX8_condition 137 = .ok (.getfield 31, 3) := by decide +kernel
theorem dX8_condition_140 : decode cX8_condition 140 = .ok (.invokevirtual 254, 3) := by decide +kernel
theorem dX8_condition_143 : decode cX8_condition 143 = .ok (.aload_n 0, 1) := by decide +kernel
theorem dX8_condition_144 : decode cX8_condition 144 = .ok (.invokevirtual 236, 3) := by decide +kernel
theorem dX8_condition_147 : decode cX8_condition 147 = .ok (.aload_n 0, 1) := by decide +kernel
theorem dX8_condition_148 : decode cX8_condition 148 = .ok (.dup, 1) := by decide +kernel
theorem dX8_condition_149 : decode cX8_condition 149 = .ok (.getfield 130, 3) := by decide +kernel
theorem dX8_condition_152 : decode cX8_condition 152 = .ok (.iconst 1, 1) := by decide +kernel
theorem dX8_condition_153 : decode cX8_condition 153 = .ok (.isub, 1) := by decide +kernel
theorem dX8_condition_154 : decode cX8_condition 154 = .ok (.putfield 130, 3) := by decide +kernel
theorem dX8_condition_157 : decode cX8_condition 157 = .ok (.goto 7, 3) := by decide +kernel
theorem dX8_condition_160 : decode cX8_condition 160 = .ok (.aload_n 0, 1) := by decide +kernel
theorem dX8_condition_161 : decode cX8_condition 161 = .ok (.invokevirtual 278, 3) := by decide +kernel
theorem dX8_condition_164 : decode cX8_condition 164 = .ok (.aload_n 0, 1) := by decide +kernel
theorem dX8_condition_165 : decode cX8_condition 165 = .ok (.getfield 19, 3) := by decide +kernel
theorem dX8_condition_168 : decode cX8_condition 168 = .ok (.getstatic 284, 3) := by decide +kernel
theorem dX8_condition_171 : decode cX8_condition 171 = .ok (.iconst 0, 1) := by decide +kernel
theorem dX8_condition_172 : decode cX8_condition 172 = .ok (.iload_n 1, 1) := by decide +kernel
theorem dX8_condition_173 : decode cX8_condition 173 = .ok (.iconst 0, 1) := by decide +kernel
theorem dX8_condition_174 : decode cX8_condition 174 = .ok (.invokevirtual 154, 3) := by decide +kernel
theorem dX8_condition_177 : decode cX8_condition 177 = .ok (.istore_n 2, 1) := by decide +kernel
theorem dX8_condition_178 : decode cX8_condition 178 = .ok (.return_, 1) := by decide +kernel
theorem dX8_block_0 : decode cX8_block 0 = .ok (.aload_n 0, 1) := by decide +kernel
theorem dX8_block_1 : decode cX8_block 1 = .ok (.invokevirtual 93, 3) := by decide +kernel
theorem dX8_block_4 : decode cX8_block 4 = .ok (.aload_n 0, 1) := by decide +kernel
theorem dX8_block_5 : decode cX8_block 5 = .ok (.getfield 27, 3) := by decide +kernel
theorem dX8_block_8 : decode cX8_block 8 = .ok (.invokevirtual 96, 3) := by decide +kernel
theorem dX8_block_11 : decode cX8_block 11 = .ok (.ifCond .eq 4, 3) := by decide +kernel
theorem dX8_block_14 : decode cX8_block 14 = .ok (.return_, 1) := by decide +kernel
theorem dX8_block_15 : decode cX8_block 15 = .ok (.aload_n 0, 1) := by decide +kernel
theorem dX8_block_16 : decode cX8_block 16 = .ok (.iconst 0, 1) := by decide +kernel
theorem dX8_block_17 : decode cX8_block 17 = .ok (.invokevirtual 103, 3) := by decide +kernel
theorem dX8_block_20 : decode cX8_block 20 = .ok (.bipush 123, 2) := by decide +kernel
theorem dX8_block_22 : decode cX8_block 22 = .ok (.if_icmp .eq 8, 3) := by decide +kernel
theorem dX8_block_25 : decode cX8_block 25 = .ok (.aload_n 0, 1) := by decide +kernel
theorem dX8_block_26 : decode cX8_block 26 = .ok (.invokevirtual 100, 3) := by decide +kernel
theorem dX8_block_29 : decode cX8_block 29 = .ok (.return_, 1) := by decide +kernel
theorem dX8_block_30 : decode cX8_block 30 = .ok (.aload_n 0, 1) := by decide +kernel
theorem dX8_block_31 : decode cX8_block 31 = .ok (.aload_n 0, 1) := by decide +kernel
theorem dX8_block_32 : decode cX8_block 32 = .ok (.getfield 31, 3) := by decide +kernel
theorem dX8_block_35 : decode cX8_block 35 = .ok (.invokevirtual 254, 3) := by decide +kernel
theorem dX8_block_38 : decode cX8_block 38 = .ok (.aload_n 0, 1) := by decide +kernel
theorem dX8_block_39 : decode cX8_block 39 = .ok (.dup, 1) := by decide +kernel
theorem dX8_block_40 : decode cX8_block 40 = .ok (.getfield 31, 3) := by decide +kernel
theorem dX8_block_43 : decode cX8_block 43 = .ok (.iconst 1, 1) := by decide +kernel
theorem dX8_block_44 : decode cX8_block 44 = .ok (.iadd, 1) := by decide +kernel
theorem dX8_block_45 : decode cX8_block 45 = .ok (.putfield 31, 3) := by decide +kernel
theorem dX8_block_48 : decode cX8_block 48 = .ok (.aload_n 0, 1) := by decide +kernel
theorem dX8_block_49 : decode cX8_block 49 = .ok (.getfield 19, 3) := by decide +kernel
theorem dX8_block_52 : decode cX8_block 52 = .ok (.getstatic 266, 3) := by decide +kernel
theorem dX8_block_55 : decode cX8_block 55 = .ok (.iconst 0, 1) := by decide +kernel
theorem dX8_block_56 : decode cX8_block 56 = .ok (.aload_n 0, 1) := by decide +kernel
theorem dX8_block_57 : decode cX8_block 57 = .ok (.getfield 31, 3) := by decide +kernel
theorem dX8_block_60 : decode cX8_block 60 = .ok (.iconst 0, 1) := by decide +kernel
theorem dX8_block_61 : decode cX8_block 61 = .ok (.invokevirtual 154, 3) := by decide +kernel
theorem dX8_block_64 : decode cX8_block 64 = .ok (.istore_n 1, 1) := by decide +kernel
theorem dX8_block_65 : decode cX8_block 65 = .ok (.aload_n 0, 1) := by decide +kernel
theorem dX8_block_66 : decode cX8_block 66 = .ok (.getfield 27, 3) := by decide +kernel
theorem dX8_block_69 : decode cX8_block 69 = .ok (.invokevirtual 96, 3) := by decide +kernel
theorem dX8_block_72 : decode cX8_block 72 = .ok (.ifCond .ne 19, 3) := by decide +kernel
theorem dX8_block_75 : decode cX8_block 75 = .ok (.aload_n 0, 1) := by decide +kernel
theorem dX8_block_76 : decode cX8_block 76 = .ok (.bipush 125, 2) := by decide +kernel
theorem dX8_block_78 : decode cX8_block 78 = .ok (.invokevirtual 107, 3) := by decide +kernel
theorem dX8_block_81 : decode cX8_block 81 = .ok (.ifCond .ne 10, 3) := by decide +kernel
theorem dX8_block_84 : decode cX8_block 84 = .ok (.aload_n 0, 1) := by decide +kernel
theorem dX8_block_85 : decode cX8_block 85 = .ok (.invokevirtual 166, 3) := by decide +kernel
theorem dX8_block_88 : decode cX8_block 88 = .ok (.goto (-23), 3) := by decide +kernel
theorem dX8_block_91 : decode cX8_block 91 = .ok (.aload_n 0, 1) := by decide +kernel
theorem dX8_block_92 : decode cX8_block 92 = .ok (.dup, 1) := by decide +kernel
theorem dX8_block_93 : decode cX8_block 93 = .ok (.getfield 31, 3) := by decide +kernel
theorem dX8_block_96 : decode cX8_block 96 = .ok (.iconst 1, 1) := by decide +kernel
theorem dX8_block_97 : decode cX8_block 97 = .ok (.iadd, 1) := by decide +kernel
theorem dX8_block_98 : decode cX8_block 98 = .ok (.putfield 31, 3) := by decide +kernel
theorem dX8_block_101 : decode cX8_block 101 = .ok (.aload_n 0, 1) := by decide +kernel
theorem dX8_block_102 : decode cX8_block 102 = .ok (.dup, 1) := by decide +kernel
theorem dX8_block_103 : decode cX8_block 103 = .ok (.getfield 130, 3) := by decide +kernel
theorem dX8_block_106 : decode cX8_block 106 = .ok (.iconst 1, 1) := by decide +kernel
theorem dX8_block_107 : decode cX8_block 107 = .ok (.isub, 1) := by decide +kernel
theorem dX8_block_108 : decode cX8_block 108 = .ok (.putfield 130, 3) := by decide +kernel
theorem dX8_block_111 : decode cX8_block 111 = .ok (.aload_n 0, 1) := by decide +kernel
theorem dX8_block_112 : decode cX8_block 112 = .ok (.getfield 19, 3) := by decide +kernel
theorem dX8_block_115 : decode cX8_block 115 = .ok (.getstatic 269, 3) := by decide +kernel
theorem dX8_block_118 : decode cX8_block 118 = .ok (.iconst 0, 1) := by decide +kernel
theorem dX8_block_119 : decode cX8_block 119 = .ok (.aload_n 0, 1) := by decide +kernel
theorem dX8_block_120 : decode cX8_block 120 = .ok (.getfield 31, 3) := by decide +kernel
theorem dX8_block_123 : decode cX8_block 123 = .ok (.iconst 0, 1) := by decide +kernel
theorem dX8_block_124 : decode cX8_block 124 = .ok (.invokevirtual 154, 3) := by decide +kernel
theorem dX8_block_127 : decode cX8_block 127 = .ok (.istore_n 1, 1) := by decide +kernel
theorem dX8_block_128 : decode cX8_block 128 = .ok (.return_, 1) := by decide +kernel
theorem dX8_loop_0 : decode cX8_loop 0 = .ok (.aload_n 0, 1) := by decide +kernel
theorem dX8_loop_1 : decode cX8_loop 1 = .ok (.getfield 31, 3) := by decide +kernel
theorem dX8_loop_4 : decode cX8_loop 4 = .ok (.istore_n 1, 1) := by decide +kernel
theorem dX8_loop_5 : decode cX8_loop 5 = .ok (.aload_n 0, 1) := by decide +kernel
theorem dX8_loop_6 : decode cX8_loop 6 = .ok (.getfield 19, 3) := by decide +kernel
theorem dX8_loop_9 : decode cX8_loop 9 = .ok (.getstatic 230, 3) := by decide +kernel
theorem dX8_loop_12 : decode cX8_loop 12 = .ok (.iconst 0, 1) := by decide +kernel
theorem dX8_loop_13 : decode cX8_loop 13 = .ok (.iload_n 1, 1) := by decide +kernel
theorem dX8_loop_14 : decode cX8_loop 14 = .ok (.iconst 0, 1) := by decide +kernel
theorem dX8_loop_15 : decode cX8_loop 15 = .ok (.invokevirtual 154, 3) := by decide +kernel
theorem dX8_loop_18 : decode cX8_loop 18 = .ok (.istore_n 2, 1) := by decide +kernel
theorem dX8_loop_19 : decode cX8_loop 19 = .ok (.aload_n 0, 1) := by decide +kernel
theorem dX8_loop_20 : decode cX8_loop 20 = .ok (.dup, 1) := by decide +kernel
theorem dX8_loop_21 : decode cX8_loop 21 = .ok (.getfield 31, 3) := by decide +kernel
theorem dX8_loop_24 : decode cX8_loop 24 = .ok (.iconst 3, 1) := by decide +kernel
theorem dX8_loop_25 : decode cX8_loop 25 = .ok (.iadd, 1) := by decide +kernel
theorem dX8_loop_26 : decode cX8_loop 26 = .ok (.putfield 31, 3) := by decide +kernel
theorem dX8_loop_29 : decode cX8_loop 29 = .ok (.aload_n 0, 1) := by decide +kernel
theorem dX8_loop_30 : decode cX8_loop 30 = .ok (.invokevirtual 186, 3) := by decide +kernel
theorem dX8_loop_33 : decode cX8_loop 33 = .ok (.istore_n 3, 1) := by decide +kernel
theorem dX8_loop_34 : decode cX8_loop 34 = .ok (.aload_n 0, 1) := by decide +kernel
theorem dX8_loop_35 : decode cX8_loop 35 = .ok (.getfield 19, 3) := by decide +kernel
theorem dX8_loop_38 : decode cX8_loop 38 = .ok (.getstatic 287, 3) := by decide +kernel
theorem dX8_loop_41 : decode cX8_loop 41 = .ok (.iload_n 3, 1) := by decide +kernel
theorem dX8_loop_42 : decode cX8_loop 42 = .ok (.aload_n 0, 1) := by decide +kernel
theorem dX8_loop_43 : decode cX8_loop 43 = .ok (.getfield 114, 3) := by decide +kernel
theorem dX8_loop_46 : decode cX8_loop 46 = .ok (.iconst 0, 1) := by decide +kernel
theorem dX8_loop_47 : decode cX8_loop 47 = .ok (.invokevirtual 154, 3) := by decide +kernel
theorem dX8_loop_50 : decode cX8_loop 50 = .ok (.istore_n 2, 1) := by decide +kernel
theorem dX8_loop_51 : decode cX8_loop 51 = .ok (.aload_n 0, 1) := by decide +kernel
theorem dX8_loop_52 : decode cX8_loop 52 = .ok (.bipush 61, 2) := by decide +kernel
theorem dX8_loop_54 : decode cX8_loop 54 = .ok (.invokevirtual 182, 3) := by decide +kernel
theorem dX8_loop_57 : decode cX8_loop 57 = .ok (.aload_n 0, 1) := by decide +kernel
theorem dX8_loop_58 : decode cX8_loop 58 = .ok (.invokevirtual 211, 3) := by decide +kernel
theorem dX8_loop_61 : decode cX8_loop 61 = .ok (.aload_n 0, 1) := by decide +kernel
theorem dX8_loop_62 : decode cX8_loop 62 = .ok (.getfield 19, 3) := by decide +kernel
theorem dX8_loop_65 : decode cX8_loop 65 = .ok (.getstatic 290, 3) := by decide +kernel
theorem dX8_loop_68 : decode cX8_loop 68 = .ok (.iconst 0, 1) := by decide +kernel
theorem dX8_loop_69 : decode cX8_loop 69 = .ok (.iload_n 1, 1) := by decide +kernel
theorem dX8_loop_70 : decode cX8_loop 70 = .ok (.iconst 0, 1) := by decide +kernel
theorem dX8_loop_71 : decode cX8_loop 71 = .ok (.invokevirtual 154, 3) := by decide +kernel
theorem dX8_loop_74 : decode cX8_loop 74 = .ok (.istore_n 2, 1) := by decide +kernel
theorem dX8_loop_75 : decode cX8_loop 75 = .ok (.aload_n 0, 1) := by decide +kernel
theorem dX8_loop_76 : decode cX8_loop 76 = .ok (.ldc 77, 2) := by decide +kernel
theorem dX8_loop_78 : decode cX8_loop 78 = .ok (.invokevirtual 189, 3) := by decide +kernel
theorem dX8_loop_81 : decode cX8_loop 81 = .ok (.aload_n 0, 1) := by decide +kernel
theorem dX8_loop_82 : decode cX8_loop 82 = .ok (.invokevirtual 211, 3) := by decide +kernel
theorem dX8_loop_85 : decode cX8_loop 85 = .ok (.aload_n 0, 1) := by decide +kernel
theorem dX8_loop_86 : decode cX8_loop 86 = .ok (.getfield 19, 3) := by decide +kernel
theorem dX8_loop_89 : decode cX8_loop 89 = .ok (.getstatic 290, 3) := by decide +kernel
theorem dX8_loop_92 : decode cX8_loop 92 = .ok (.iconst 0, 1) := by decide +kernel
theorem dX8_loop_93 : decode cX8_loop 93 = .ok (.iload_n 1, 1) := by decide +kernel
theorem dX8_loop_94 : decode cX8_loop 94 = .ok (.iconst 0, 1) := by decide +kernel
theorem dX8_loop_95 : decode cX8_loop 95 = .ok (.invokevirtual 154, 3) := by decide +kernel
theorem dX8_loop_98 : decode cX8_loop 98 = .ok (.istore_n 2, 1) := by decide +kernel
theorem dX8_loop_99 : decode cX8_loop 99 = .ok (.aload_n 0, 1) := by decide +kernel
theorem dX8_loop_100 : decode cX8_loop 100 = .ok (.getfield 19, 3) := by decide +kernel
theorem dX8_loop_103 : decode cX8_loop 103 = .ok (.getstatic 293, 3) := by decide +kernel
theorem dX8_loop_106 : decode cX8_loop 106 = .ok (.iload_n 3, 1) := by decide +kernel
theorem dX8_loop_107 : decode cX8_loop 107 = .ok (.iload_n 1, 1) := by decide +kernel
theorem dX8_loop_108 : decode cX8_loop 108 = .ok (.iconst 0, 1) := by decide +kernel
theorem dX8_loop_109 : decode cX8_loop 109 = .ok (.invokevirtual 154, 3) := by decide +kernel
theorem dX8_loop_112 : decode cX8_loop 112 = .ok (.istore 4, 2) := by decide +kernel
theorem dX8_loop_114 : decode cX8_loop 114 = .ok (.aload_n 0, 1) := by decide +kernel
theorem dX8_loop_115 : decode cX8_loop 115 = .ok (.invokevirtual 278, 3) := by decide +kernel
theorem dX8_loop_118 : decode cX8_loop 118 = .ok (.aload_n 0, 1) := by decide +kernel
theorem dX8_loop_119 : decode cX8_loop 119 = .ok (.getfield 19, 3) := by decide +kernel
theorem dX8_loop_122 : decode cX8_loop 122 = .ok (.getstatic 296, 3) := by decide +kernel
theorem dX8_loop_125 : decode cX8_loop 125 = .ok (.iload_n 3, 1) := by decide +kernel
theorem dX8_loop_126 : decode cX8_loop 126 = .ok (.iload_n 1, 1) := by decide +kernel
theorem dX8_loop_127 : decode cX8_loop 127 = .ok (.iload 4, 2) := by decide +kernel
theorem dX8_loop_129 : decode cX8_loop 129 = .ok (.invokevirtual 154, 3) := by decide +kernel
theorem dX8_loop_132 : decode cX8_loop 132 = .ok (.istore 5, 2) := by decide +kernel
theorem dX8_loop_134 : decode cX8_loop 134 = .ok (.aload_n 0, 1) := by decide +kernel
theorem dX8_loop_135 : decode cX8_loop 135 = .ok (.getfield 19, 3) := by decide +kernel
theorem dX8_loop_138 : decode cX8_loop 138 = .ok (.getfield 217, 3) := by decide +kernel
theorem dX8_loop_141 : decode cX8_loop 141 = .ok (.iload 4, 2) := by decide +kernel
theorem dX8_loop_143 : decode cX8_loop 143 = .ok (.iload 5, 2) := by decide +kernel
theorem dX8_loop_145 : decode cX8_loop 145 = .ok (.iastore, 1) := by decide +kernel
theorem dX8_loop_146 : decode cX8_loop 146 = .ok (.return_, 1) := by decide +kernel
theorem dX8_assignment_0 : decode cX8_assignment 0 = .ok (.aload_n 0, 1) := by decide +kernel
theorem dX8_assignment_1 : decode cX8_assignment 1 = .ok (.getfield 19, 3) := by decide +kernel
theorem dX8_assignment_4 : decode cX8_assignment 4 = .ok (.getstatic 230, 3) := by decide +kernel
theorem dX8_assignment_7 : decode cX8_assignment 7 = .ok (.iconst 0, 1) := by decide +kernel
theorem dX8_assignment_8 : decode cX8_assignment 8 = .ok (.aload_n 0, 1) := by decide +kernel
theorem dX8_assignment_9 : decode cX8_assignment 9 = .ok (.getfield 31, 3) := by decide +kernel
theorem dX8_assignment_12 : decode cX8_assignment 12 = .ok (.iconst 0, 1) := by decide +kernel
theorem dX8_assignment_13 : decode cX8_assignment 13 = .ok (.invokevirtual 154, 3) := by decide +kernel
theorem dX8_assignment_16 : decode cX8_assignment 16 = .ok (.istore_n 1, 1) := by decide +kernel
theorem dX8_assignment_17 : decode cX8_assignment 17 = .ok (.aload_n 0, 1) := by decide +kernel
theorem dX8_assignment_18 : decode cX8_assignment 18 = .ok (.invokevirtual 186, 3) := by decide +kernel
theorem dX8_assignment_21 : decode cX8_assignment 21 = .ok (.istore_n 2, 1) := by decide +kernel
theorem dX8_assignment_22 : decode cX8_assignment 22 = .ok (.aload_n 0, 1) := by decide +kernel
theorem dX8_assignment_23 : decode cX8_assignment 23 = .ok (.getfield 114, 3) := by decide +kernel
theorem dX8_assignment_26 : decode cX8_assignment 26 = .ok (.istore_n 3, 1) := by decide +kernel
theorem dX8_assignment_27 : decode cX8_assignment 27 = .ok (.aload_n 0, 1) := by decide +kernel
theorem dX8_assignment_28 : decode cX8_assignment 28 = .ok (.getfield 27, 3) := by decide +kernel
theorem dX8_assignment_31 : decode cX8_assignment 31 = .ok (.invokevirtual 96, 3) := by decide +kernel
theorem dX8_assignment_34 : decode cX8_assignment 34 = .ok (.ifCond .ne 16, 3) := by decide +kernel
theorem dX8_assignment_37 : decode cX8_assignment 37 = .ok (.aload_n 0, 1) := by decide +kernel
theorem dX8_assignment_38 : decode cX8_assignment 38 = .ok (.bipush 91, 2) := by decide +kernel
theorem dX8_assignment_40 : decode cX8_assignment 40 = .ok (.invokevirtual 107, 3) := by decide +kernel
theorem dX8_assignment_43 : decode cX8_assignment 43 = .ok (.ifCond .eq 7, 3) := by decide +kernel
theorem dX8_assignment_46 : decode cX8_assignment 46 = .ok (.iconst 1, 1) := by decide +kernel
theorem dX8_assignment_47 : decode cX8_assignment 47 = .ok (.goto 4, 3) := by decide +kernel
theorem dX8_assignment_50 : decode cX8_assignment 50 = .ok (.iconst 0, 1) := by decide +kernel
theorem dX8_assignment_51 : decode cX8_assignment 51 = .ok (.istore 4, 2) := by decide +kernel
theorem dX8_assignment_53 : decode cX8_assignment 53 = .ok (.iload 4, 2) := by decide +kernel
theorem dX8_assignment_55 : decode cX8_assignment 55 = .ok (.ifCond .eq 72, 3) := by decide +kernel
theorem dX8_assignment_58 : decode cX8_assignment 58 = .ok (.aload_n 0, 1) := by decide +kernel
theorem dX8_assignment_59 : decode cX8_assignment 59 = .ok (.getfield 19, 3) := by decide +kernel
theorem dX8_assignment_62 : decode cX8_assignment 62 = .ok (.getstatic 251, 3) := by decide +kernel
theorem dX8_assignment_65 : decode cX8_assignment 65 = .ok (.iload_n 2, 1) := by decide +kernel
theorem dX8_assignment_66 : decode cX8_assignment 66 = .ok (.iload_n 3, 1) := by decide +kernel
theorem dX8_assignment_67 : decode cX8_assignment 67 = .ok (.iconst 0, 1) := by decide +kernel
theorem dX8_assignment_68 : decode cX8_assignment 68 = .ok (.invokevirtual 154, 3) := by decide +kernel
theorem dX8_assignment_71 : decode cX8_assignment 71 = .ok (.istore_n 1, 1) := by decide +kernel
theorem dX8_assignment_72 : decode cX8_assignment 72 = .ok (.aload_n 0, 1) := by decide +kernel
theorem dX8_assignment_73 : decode cX8_assignment 73 = .ok (.aload_n 0, 1) := by decide +kernel
theorem dX8_assignment_74 : decode cX8_assignment 74 = .ok (.getfield 31, 3) := by decide +kernel
theorem dX8_assignment_77 : decode cX8_assignment 77 = .ok (.invokevirtual 254, 3) := by decide +kernel
theorem dX8_assignment_80 : decode cX8_assignment 80 = .ok (.aload_n 0, 1) := by decide +kernel
theorem dX8_assignment_81 : decode cX8_assignment 81 = .ok (.dup, 1) := by decide +kernel
theorem dX8_assignment_82 : decode cX8_assignment 82 = .ok (.getfield 31, 3) := by decide +kernel
theorem dX8_assignment_85 : decode cX8_assignment 85 = .ok (.iconst 1, 1) := by decide +kernel
theorem dX8_assignment_86 : decode cX8_assignment 86 = .ok (.iadd, 1) := by decide +kernel
theorem dX8_assignment_87 : decode cX8_assignment 87 = .ok (.putfield 31, 3) := by decide +kernel
theorem dX8_assignment_90 : decode cX8_assignment 90 = .ok (.aload_n 0, 1) := by decide +kernel
theorem dX8_assignment_91 : decode cX8_assignment 91 = .ok (.invokevirtual 211, 3) := by decide +kernel
theorem dX8_assignment_94 : decode cX8_assignment 94 = .ok (.aload_n 0, 1) := by decide +kernel
theorem dX8_assignment_95 : decode cX8_assignment 95 = .ok (.bipush 93, 2) := by decide +kernel
theorem dX8_assignment_97 : decode cX8_assignment 97 = .ok (.invokevirtual 182, 3) := by decide +kernel
theorem dX8_assignment_100 : decode cX8_assignment 100 = .ok (.aload_n 0, 1) := by decide +kernel
theorem dX8_assignment_101 : decode cX8_assignment 101 = .ok (.dup, 1) := by decide +kernel
theorem dX8_assignment_102 : decode cX8_assignment 102 = .ok (.getfield 130, 3) := by decide +kernel
theorem dX8_assignment_105 : decode cX8_assignment 105 = .ok (.iconst 1, 1) := by decide +kernel
theorem dX8_assignment_106 : decode cX8_assignment 106 = .ok (.isub, 1) := by decide +kernel
theorem dX8_assignment_107 : decode cX8_assignment 107 = .ok (.putfield 130, 3) := by decide +kernel
theorem dX8_assignment_110 : decode cX8_assignment 110 = .ok (.aload_n 0, 1) := by decide +kernel
theorem dX8_assignment_111 : decode cX8_assignment 111 = .ok (.getfield 19, 3) := by decide +kernel
theorem dX8_assignment_114 : decode cX8_assignment 114 = .ok (.getstatic 257, 3) := by decide +kernel
theorem dX8_assignment_117 : decode cX8_assignment 117 = .ok (.iload_n 2, 1) := by decide +kernel
theorem dX8_assignment_118 : decode cX8_assignment 118 = .ok (.iload_n 3, 1) := by decide +kernel
theorem dX8_assignment_119 : decode cX8_assignment 119 = .ok (.iconst 0, 1) := by decide +kernel
theorem dX8_assignment_120 : decode cX8_assignment 120 = .ok (.invokevirtual 154, 3) := by decide +kernel
theorem dX8_assignment_123 : decode cX8_assignment 123 = .ok (.istore_n 1, 1) := by decide +kernel
theorem dX8_assignment_124 : decode cX8_assignment 124 = .ok (.goto 17, 3) := by decide +kernel
theorem dX8_assignment_127 : decode cX8_assignment 127 = .ok (.aload_n 0, 1) := by decide +kernel
theorem dX8_assignment_128 : decode cX8_assignment 128 = .ok (.getfield 19, 3) := by decide +kernel
theorem dX8_assignment_131 : decode cX8_assignment 131 = .ok (.getstatic 260, 3) := by decide +kernel
theorem dX8_assignment_134 : decode cX8_assignment 134 = .ok (.iload_n 2, 1) := by decide +kernel
theorem dX8_assignment_135 : decode cX8_assignment 135 = .ok (.iload_n 3, 1) := by decide +kernel
theorem dX8_assignment_136 : decode cX8_assignment 136 = .ok (.iconst 0, 1) := by decide +kernel
theorem dX8_assignment_137 : decode cX8_assignment 137 = .ok (.invokevirtual 154, 3) := by decide +kernel
theorem dX8_assignment_140 : decode cX8_assignment 140 = .ok (.istore_n 1, 1) := by decide +kernel
theorem dX8_assignment_141 : decode cX8_assignment 141 = .ok (.aload_n 0, 1) := by decide +kernel
theorem dX8_assignment_142 : decode cX8_assignment 142 = .ok (.bipush 61, 2) := by decide +kernel
theorem dX8_assignment_144 : decode cX8_assignment 144 = .ok (.invokevirtual 182, 3) := by decide +kernel
theorem dX8_assignment_147 : decode cX8_assignment 147 = .ok (.aload_n 0, 1) := by decide +kernel
theorem dX8_assignment_148 : decode cX8_assignment 148 = .ok (.invokevirtual 211, 3) := by decide +kernel
theorem dX8_assignment_151 : decode cX8_assignment 151 = .ok (.aload_n 0, 1) := by decide +kernel
theorem dX8_assignment_152 : decode cX8_assignment 152 = .ok (.bipush 59, 2) := by decide +kernel
theorem dX8_assignment_154 : decode cX8_assignment 154 = .ok (.invokevirtual 182, 3) := by decide +kernel
theorem dX8_assignment_157 : decode cX8_assignment 157 = .ok (.aload_n 0, 1) := by decide +kernel
theorem dX8_assignment_158 : decode cX8_assignment 158 = .ok (.getfield 19, 3) := by decide +kernel
theorem dX8_assignment_161 : decode cX8_assignment 161 = .ok (.getstatic 263, 3) := by decide +kernel
theorem dX8_assignment_164 : decode cX8_assignment 164 = .ok (.iload_n 2, 1) := by decide +kernel
theorem dX8_assignment_165 : decode cX8_assignment 165 = .ok (.iload_n 3, 1) := by decide +kernel
theorem dX8_assignment_166 : decode cX8_assignment 166 = .ok (.iload 4, 2) := by decide +kernel
theorem dX8_assignment_168 : decode cX8_assignment 168 = .ok (.ifCond .eq 7, 3) := by decide +kernel
theorem dX8_assignment_171 : decode cX8_assignment 171 = .ok (.iconst 1, 1) := by decide +kernel
theorem dX8_assignment_172 : decode cX8_assignment 172 = .ok (.goto 4, 3) := by decide +kernel
theorem dX8_assignment_175 : decode cX8_assignment 175 = .ok (.iconst 0, 1) := by decide +kernel
theorem dX8_assignment_176 : decode cX8_assignment 176 = .ok (.invokevirtual 154, 3) := by decide +kernel
theorem dX8_assignment_179 : decode cX8_assignment 179 = .ok (.istore_n 1, 1) := by decide +kernel
theorem dX8_assignment_180 : decode cX8_assignment 180 = .ok (.return_, 1) := by decide +kernel
theorem dX10_init_0 : decode cX10_init 0 = .ok (.aload_n 0, 1) := by decide +kernel
theorem dX10_init_1 : decode cX10_init 1 = .ok (.invokespecial 3, 3) := by decide +kernel
theorem dX10_init_4 : decode cX10_init 4 = .ok (.aload_n 0, 1) := by decide +kernel
theorem dX10_init_5 : decode cX10_init 5 = .ok (.sipush 4000, 3) := by decide +kernel
theorem dX10_init_8 : decode cX10_init 8 = .ok (.newarray .int, 2) := by decide +kernel
theorem dX10_init_10 : decode cX10_init 10 = .ok (.putfield 9, 3) := by decide +kernel
theorem dX10_init_13 : decode cX10_init 13 = .ok (.aload_n 0, 1) := by decide +kernel
theorem dX10_init_14 : decode cX10_init 14 = .ok (.sipush 4000, 3) := by decide +kernel
theorem dX10_init_17 : decode cX10_init 17 = .ok (.newarray .int, 2) := by decide +kernel
theorem dX10_init_19 : decode cX10_init 19 = .ok (.putfield 15, 3) := by decide +kernel
theorem dX10_init_22 : decode cX10_init 22 = .ok (.aload_n 0, 1) := by decide +kernel
theorem dX10_init_23 : decode cX10_init 23 = .ok (.sipush 4000, 3) := by decide +kernel
theorem dX10_init_26 : decode cX10_init 26 = .ok (.newarray .int, 2) := by decide +kernel
theorem dX10_init_28 : decode cX10_init 28 = .ok (.putfield 18, 3) := by decide +kernel
theorem dX10_init_31 : decode cX10_init 31 = .ok (.aload_n 0, 1) := by decide +kernel
theorem dX10_init_32 : decode cX10_init 32 = .ok (.sipush 4000, 3) := by decide +kernel
theorem dX10_init_35 : decode cX10_init 35 = .ok (.newarray .int, 2) := by decide +kernel
theorem dX10_init_37 : decode cX10_init 37 = .ok (.putfield 21, 3) := by decide +kernel
theorem dX10_init_40 : decode cX10_init 40 = .ok (.aload_n 0, 1) := by decide +kernel
theorem dX10_init_41 : decode cX10_init 41 = .ok (.sipush 4000, 3) := by decide +kernel
theorem dX10_init_44 : decode cX10_init 44 = .ok (.newarray .int, 2) := by decide +kernel
theorem dX10_init_46 : decode cX10_init 46 = .ok (.putfield 24, 3) := by decide +kernel
theorem dX10_init_49 : decode cX10_init 49 = .ok (.return_, 1) := by decide +kernel
theorem dX10_find_0 : decode cX10_find 0 = .ok (.aload_n 0, 1) := by decide +kernel
theorem dX10_find_1 : decode cX10_find 1 = .ok (.getfield 27, 3) := by decide +kernel
theorem dX10_find_4 : decode cX10_find 4 = .ok (.iconst 1, 1) := by decide +kernel
theorem dX10_find_5 : decode cX10_find 5 = .ok (.isub, 1) := by decide +kernel
theorem dX10_find_6 : decode cX10_find 6 = .ok (.istore_n 3, 1) := by decide +kernel
theorem dX10_find_7 : decode cX10_find 7 = .ok (.iload_n 3, 1) := by decide +kernel
theorem dX10_find_8 : decode cX10_find 8 = .ok (.ifCond .lt 40, 3) := by decide +kernel
theorem dX10_find_11 : decode cX10_find 11 = .ok (.aload_n 0, 1) := by decide +kernel
theorem dX10_find_12 : decode cX10_find 12 = .ok (.getfield 9, 3) := by decide +kernel
theorem dX10_find_15 : decode cX10_find 15 = .ok (.iload_n 3, 1) := by decide +kernel
theorem dX10_find_16 : decode cX10_find 16 = .ok (.iaload, 1) := by decide +kernel
theorem dX10_find_17 : decode cX10_find 17 = .ok (.iload_n 1, 1) := by decide +kernel
theorem dX10_find_18 : decode cX10_find 18 = .ok (.if_icmp .ne 24, 3) := by decide +kernel
theorem dX10_find_21 : decode cX10_find 21 = .ok (.iload_n 2, 1) := by decide +kernel
theorem dX10_find_22 : decode cX10_find 22 = .ok (.ifCond .lt 18, 3) := by decide +kernel
theorem dX10_find_25 : decode cX10_find 25 = .ok (.iload_n 3, 1) := by decide +kernel
theorem dX10_find_26 : decode cX10_find 26 = .ok (.iload_n 2, 1) := by decide +kernel
theorem dX10_find_27 : decode cX10_find 27 = .ok (.if_icmp .ge 13, 3) := by decide +kernel
theorem dX10_find_30 : decode cX10_find 30 = .ok (.aload_n 0, 1) := by decide +kernel
theorem dX10_find_31 : decode cX10_find 31 = .ok (.getfield 15, 3) := by decide +kernel
theorem dX10_find_34 : decode cX10_find 34 = .ok (.iload_n 3, 1) := by decide +kernel
theorem dX10_find_35 : decode cX10_find 35 = .ok (.iaload, 1) := by decide +kernel
theorem dX10_find_36 : decode cX10_find 36 = .ok (.iconst 4, 1) := by decide +kernel
theorem dX10_find_37 : decode cX10_find 37 = .ok (.if_icmp .ne 5, 3) := by decide +kernel
theorem dX10_find_40 : decode cX10_find 40 = .ok (.iload_n 3, 1) := by decide +kernel
theorem dX10_find_41 : decode cX10_find 41 = .ok (.ireturn, 1) := by decide +kernel
theorem dX10_find_42 : decode cX10_find 42 = .ok (.iinc 3 (-1), 3) := by decide +kernel
theorem dX10_find_45 : decode cX10_find 45 = .ok (.goto (-38), 3) := by decide +kernel
theorem dX10_find_48 : decode cX10_find 48 = .ok (.iconst (-1), 1) := by decide +kernel
theorem dX10_find_49 : decode cX10_find 49 = .ok (.ireturn, 1) := by decide +kernel
theorem dX10_add_0 : decode cX10_add 0 = .ok (.aload_n 0, 1) := by decide +kernel
theorem dX10_add_1 : decode cX10_add 1 = .ok (.getfield 9, 3) := by decide +kernel
theorem dX10_add_4 : decode cX10_add 4 = .ok (.aload_n 0, 1) := by decide +kernel
theorem dX10_add_5 : decode cX10_add 5 = .ok (.getfield 27, 3) := by decide +kernel
theorem dX10_add_8 : decode cX10_add 8 = .ok (.iload_n 1, 1) := by decide +kernel
theorem dX10_add_9 : decode cX10_add 9 = .ok (.iastore, 1) := by decide +kernel
theorem dX10_add_10 : decode cX10_add 10 = .ok (.aload_n 0, 1) := by decide +kernel
theorem dX10_add_11 : decode cX10_add 11 = .ok (.getfield 15, 3) := by decide +kernel
theorem dX10_add_14 : decode cX10_add 14 = .ok (.aload_n 0, 1) := by decide +kernel
theorem dX10_add_15 : decode cX10_add 15 = .ok (.getfield 27, 3) := by decide +kernel
theorem dX10_add_18 : decode cX10_add 18 = .ok (.iload_n 2, 1) := by decide +kernel
theorem dX10_add_19 : decode cX10_add 19 = .ok (.iastore, 1) := by decide +kernel
theorem dX10_add_20 : decode cX10_add 20 = .ok (.aload_n 0, 1) := by decide +kernel
theorem dX10_add_21 : decode cX10_add 21 = .ok (.getfield 18, 3) := by decide +kernel
theorem dX10_add_24 : decode cX10_add 24 = .ok (.aload_n 0, 1) := by decide +kernel
theorem dX10_add_25 : decode cX10_add 25 = .ok (.getfield 27, 3) := by decide +kernel
theorem dX10_add_28 : decode cX10_add 28 = .ok (.iload_n 3, 1) := by decide +kernel
theorem dX10_add_29 : decode cX10_add 29 = .ok (.iastore, 1) := by decide +kernel
theorem dX10_add_30 : decode cX10_add 30 = .ok (.aload_n 0, 1) := by decide +kernel
theorem dX10_add_31 : decode cX10_add 31 = .ok (.getfield 21, 3) := by decide +kernel
theorem dX10_add_34 : decode cX10_add 34 = .ok (.aload_n 0, 1) := by decide +kernel
theorem dX10_add_35 : decode cX10_add 35 = .ok (.getfield 27, 3) := by decide +kernel
theorem dX10_add_38 : decode cX10_add 38 = .ok (.iload 4, 2) := by decide +kernel
theorem dX10_add_40 : decode cX10_add 40 = .ok (.iastore, 1) := by decide +kernel
theorem dX10_add_41 : decode cX10_add 41 = .ok (.aload_n 0, 1) := by decide +kernel
theorem dX10_add_42 : decode cX10_add 42 = .ok (.getfield 24, 3) := by decide +kernel
theorem dX10_add_45 : decode cX10_add 45 = .ok (.aload_n 0, 1) := by decide +kernel
theorem dX10_add_46 : decode cX10_add 46 = .ok (.getfield 27, 3) := by decide +kernel
theorem dX10_add_49 : decode cX10_add 49 = .ok (.iload 5, 2) := by decide +kernel
theorem dX10_add_51 : decode cX10_add 51 = .ok (.iastore, 1) := by decide +kernel
theorem dX10_add_52 : decode cX10_add 52 = .ok (.aload_n 0, 1) := by decide +kernel
theorem dX10_add_53 : decode cX10_add 53 = .ok (.dup, 1) := by decide +kernel
theorem dX10_add_54 : decode cX10_add 54 = .ok (.getfield 27, 3) := by decide +kernel
theorem dX10_add_57 : decode cX10_add 57 = .ok (.iconst 1, 1) := by decide +kernel
theorem dX10_add_58 : decode cX10_add 58 = .ok (.iadd, 1) := by decide +kernel
theorem dX10_add_59 : decode cX10_add 59 = .ok (.putfield 27, 3) := by decide +kernel
theorem dX10_add_62 : decode cX10_add 62 = .ok (.return_, 1) := by decide +kernel
theorem dX12_init_0 : decode cX12_init 0 = .ok (.aload_n 0, 1) := by decide +kernel
theorem dX12_init_1 : decode cX12_init 1 = .ok (.invokespecial 1, 3) := by decide +kernel
theorem dX12_init_4 : decode cX12_init 4 = .ok (.aload_n 0, 1) := by decide +kernel
theorem dX12_init_5 : decode cX12_init 5 = .ok (.bipush 40, 2) := by decide +kernel
theorem dX12_init_7 : decode cX12_init 7 = .ok (.newarray .int, 2) := by decide +kernel
theorem dX12_init_9 : decode cX12_init 9 = .ok (.putfield 7, 3) := by decide +kernel
theorem dX12_init_12 : decode cX12_init 12 = .ok (.aload_n 0, 1) := by decide +kernel
theorem dX12_init_13 : decode cX12_init 13 = .ok (.bipush 40, 2) := by decide +kernel
theorem dX12_init_15 : decode cX12_init 15 = .ok (.newarray .int, 2) := by decide +kernel
theorem dX12_init_17 : decode cX12_init 17 = .ok (.putfield 13, 3) := by decide +kernel
theorem dX12_init_20 : decode cX12_init 20 = .ok (.aload_n 0, 1) := by decide +kernel
theorem dX12_init_21 : decode cX12_init 21 = .ok (.bipush 40, 2) := by decide +kernel
theorem dX12_init_23 : decode cX12_init 23 = .ok (.newarray .int, 2) := by decide +kernel
theorem dX12_init_25 : decode cX12_init 25 = .ok (.putfield 16, 3) := by decide +kernel
theorem dX12_init_28 : decode cX12_init 28 = .ok (.aload_n 0, 1) := by decide +kernel
theorem dX12_init_29 : decode cX12_init 29 = .ok (.bipush 40, 2) := by decide +kernel
theorem dX12_init_31 : decode cX12_init 31 = .ok (.newarray .int, 2) := by decide +kernel
theorem dX12_init_33 : decode cX12_init 33 = .ok (.putfield 19, 3) := by decide +kernel
theorem dX12_init_36 : decode cX12_init 36 = .ok (.aload_n 0, 1) := by decide +kernel
theorem dX12_init_37 : decode cX12_init 37 = .ok (.bipush 40, 2) := by decide +kernel
theorem dX12_init_39 : decode cX12_init 39 = .ok (.newarray .int, 2) := by decide +kernel
theorem dX12_init_41 : decode cX12_init 41 = .ok (.putfield 22, 3) := by decide +kernel
theorem dX12_init_44 : decode cX12_init 44 = .ok (.aload_n 0, 1) := by decide +kernel
theorem dX12_init_45 : decode cX12_init 45 = .ok (.aload_n 1, 1) := by decide +kernel
theorem dX12_init_46 : decode cX12_init 46 = .ok (.putfield 25, 3) := by decide +kernel
theorem dX12_init_49 : decode cX12_init 49 = .ok (.aload_n 0, 1) := by decide +kernel
theorem dX12_init_50 : decode cX12_init 50 = .ok (.iload_n 2, 1) := by decide +kernel
theorem dX12_init_51 : decode cX12_init 51 = .ok (.putfield 29, 3) := by decide +kernel
theorem dX12_init_54 : decode cX12_init 54 = .ok (.return_, 1) := by decide +kernel
theorem dX12_sum_0 : decode cX12_sum 0 = .ok (.iload 6, 2) := by decide +kernel
theorem dX12_sum_2 : decode cX12_sum 2 = .ok (.istore 10, 2) := by decide +kernel
theorem dX12_sum_4 : decode cX12_sum 4 = .ok (.iconst 0, 1) := by decide +kernel
theorem dX12_sum_5 : decode cX12_sum 5 = .ok (.istore 11, 2) := by decide +kernel
theorem dX12_sum_7 : decode cX12_sum 7 = .ok (.iload 11, 2) := by decide +kernel
theorem dX12_sum_9 : decode cX12_sum 9 = .ok (.iload 7, 2) := by decide +kernel
theorem dX12_sum_11 : decode cX12_sum 11 = .ok (.if_icmp .ge 109, 3) := by decide +kernel
theorem dX12_sum_14 : decode cX12_sum 14 = .ok (.aload_n 1, 1) := by decide +kernel
theorem dX12_sum_15 : decode cX12_sum 15 = .ok (.iload_n 2, 1) := by decide +kernel
theorem dX12_sum_16 : decode cX12_sum 16 = .ok (.iload 11, 2) := by decide +kernel
theorem dX12_sum_18 : decode cX12_sum 18 = .ok (.iadd, 1) := by decide +kernel
theorem dX12_sum_19 : decode cX12_sum 19 = .ok (.iaload, 1) := by decide +kernel
theorem dX12_sum_20 : decode cX12_sum 20 = .ok (.istore 12, 2) := by decide +kernel
theorem dX12_sum_22 : decode cX12_sum 22 = .ok (.aload_n 0, 1) := by decide +kernel
theorem dX12_sum_23 : decode cX12_sum 23 = .ok (.getfield 25, 3) := by decide +kernel
theorem dX12_sum_26 : decode cX12_sum 26 = .ok (.aload_n 3, 1) := by decide +kernel
theorem dX12_sum_27 : decode cX12_sum 27 = .ok (.iload 4, 2) := by decide +kernel
theorem dX12_sum_29 : decode cX12_sum 29 = .ok (.iload 11, 2) := by decide +kernel
theorem dX12_sum_31 : decode cX12_sum 31 = .ok (.iadd, 1) := by decide +kernel
theorem dX12_sum_32 : decode cX12_sum 32 = .ok (.iaload, 1) := by decide +kernel
theorem dX12_sum_33 : decode cX12_sum 33 = .ok (.iload 5, 2) := by decide +kernel
theorem dX12_sum_35 : decode cX12_sum 35 = .ok (.ifCond .eq 7, 3) := by decide +kernel
theorem dX12_sum_38 : decode cX12_sum 38 = .ok (.iconst 1, 1) := by decide +kernel
theorem dX12_sum_39 : decode cX12_sum 39 = .ok (.goto 4, 3) := by decide +kernel
theorem dX12_sum_42 : decode cX12_sum 42 = .ok (.iconst 0, 1) := by decide +kernel
theorem dX12_sum_43 : decode cX12_sum 43 = .ok (.ixor, 1) := by decide +kernel
theorem dX12_sum_44 : decode cX12_sum 44 = .ok (.iload 10, 2) := by decide +kernel
theorem dX12_sum_46 : decode cX12_sum 46 = .ok (.invokevirtual 33, 3) := by decide +kernel
theorem dX12_sum_49 : decode cX12_sum 49 = .ok (.istore 13, 2) := by decide +kernel
theorem dX12_sum_51 : decode cX12_sum 51 = .ok (.aload 8, 2) := by decide +kernel
theorem dX12_sum_53 : decode cX12_sum 53 = .ok (.iload 9, 2) := by decide +kernel
theorem dX12_sum_55 : decode cX12_sum 55 = .ok (.iload 11, 2) := by decide +kernel
theorem dX12_sum_57 : decode cX12_sum 57 = .ok (.iadd, 1) := by decide +kernel
theorem dX12_sum_58 : decode cX12_sum 58 = .ok (.aload_n 0, 1) := by decide +kernel
theorem dX12_sum_59 : decode cX12_sum 59 = .ok (.getfield 25, 3) := by decide +kernel
theorem dX12_sum_62 : decode cX12_sum 62 = .ok (.iload 12, 2) := by decide +kernel
theorem dX12_sum_64 : decode cX12_sum 64 = .ok (.iload 13, 2) := by decide +kernel
theorem dX12_sum_66 : decode cX12_sum 66 = .ok (.invokevirtual 33, 3) := by decide +kernel
theorem dX12_sum_69 : decode cX12_sum 69 = .ok (.iastore, 1) := by decide +kernel
theorem dX12_sum_70 : decode cX12_sum 70 = .ok (.iload 11, 2) := by decide +kernel
theorem dX12_sum_72 : decode cX12_sum 72 = .ok (.iload 7, 2) := by decide +kernel
theorem dX12_sum_74 : decode cX12_sum 74 = .ok (.iconst 1, 1) := by decide +kernel
theorem dX12_sum_75 : decode cX12_sum 75 = .ok (.isub, 1) := by decide +kernel
theorem dX12_sum_76 : decode cX12_sum 76 = .ok (.if_icmp .ge 38, 3) := by decide +kernel
theorem dX12_sum_79 : decode cX12_sum 79 = .ok (.aload_n 0, 1) := by decide +kernel
theorem dX12_sum_80 : decode cX12_sum 80 = .ok (.getfield 25, 3) := by decide +kernel
theorem dX12_sum_83 : decode cX12_sum 83 = .ok (.iload 12, 2) := by decide +kernel
theorem dX12_sum_85 : decode cX12_sum 85 = .ok (.iload 10, 2) := by decide +kernel
theorem dX12_sum_87 : decode cX12_sum 87 = .ok (.invokevirtual 33, 3) := by decide +kernel
theorem dX12_sum_90 : decode cX12_sum 90 = .ok (.istore 14, 2) := by decide +kernel
theorem dX12_sum_92 : decode cX12_sum 92 = .ok (.aload_n 0, 1) := by decide +kernel
theorem dX12_sum_93 : decode cX12_sum 93 = .ok (.getfield 25, 3) := by decide +kernel
theorem dX12_sum_96 : decode cX12_sum 96 = .ok (.iload 10, 2) := by decide +kernel
theorem dX12_sum_98 : decode cX12_sum 98 = .ok (.aload_n 0, 1) := by decide +kernel
theorem dX12_sum_99 : decode cX12_sum 99 = .ok (.getfield 25, 3) := by decide +kernel
theorem dX12_sum_102 : decode cX12_sum 102 = .ok (.iload 14, 2) := by decide +kernel
theorem dX12_sum_104 : decode cX12_sum 104 = .ok (.iload 13, 2) := by decide +kernel
theorem dX12_sum_106 : decode cX12_sum 106 = .ok (.invokevirtual 39, 3) := by decide +kernel
theorem dX12_sum_109 : decode cX12_sum 109 = .ok (.invokevirtual 33, 3) := by decide +kernel
theorem dX12_sum_112 : decode cX12_sum 112 = .ok (.istore 10, 2) := by decide +kernel
theorem dX12_sum_114 : decode cX12_sum 114 = .ok (.iinc 11 1, 3) := by decide +kernel
theorem dX12_sum_117 : decode cX12_sum 117 = .ok (.goto (-110), 3) := by decide +kernel
theorem dX12_sum_120 : decode cX12_sum 120 = .ok (.return_, 1) := by decide +kernel
theorem dX12_product_0 : decode cX12_product 0 = .ok (.iconst 0, 1) := by decide +kernel
theorem dX12_product_1 : decode cX12_product 1 = .ok (.istore 7, 2) := by decide +kernel
theorem dX12_product_3 : decode cX12_product 3 = .ok (.iload 7, 2) := by decide +kernel
theorem dX12_product_5 : decode cX12_product 5 = .ok (.aload_n 0, 1) := by decide +kernel
theorem dX12_product_6 : decode cX12_product 6 = .ok (.getfield 29, 3) := by decide +kernel
theorem dX12_product_9 : decode cX12_product 9 = .ok (.if_icmp .ge 33, 3) := by decide +kernel
theorem dX12_product_12 : decode cX12_product 12 = .ok (.aload_n 0, 1) := by decide +kernel
theorem dX12_product_13 : decode cX12_product 13 = .ok (.getfield 7, 3) := by decide +kernel
theorem dX12_product_16 : decode cX12_product 16 = .ok (.iload 7, 2) := by decide +kernel
theorem dX12_product_18 : decode cX12_product 18 = .ok (.aload_n 0, 1) := by decide +kernel
theorem dX12_product_19 : decode cX12_product 19 = .ok (.getfield 25, 3) := by decide +kernel
theorem dX12_product_22 : decode cX12_product 22 = .ok (.aload_n 1, 1) := by decide +kernel
theorem dX12_product_23 : decode cX12_product 23 = .ok (.iload_n 2, 1) := by decide +kernel
theorem dX12_product_24 : decode cX12_product 24 = .ok (.iload 7, 2) := by decide +kernel
theorem dX12_product_26 : decode cX12_product 26 = .ok (.iadd, 1) := by decide +kernel
theorem dX12_product_27 : decode cX12_product 27 = .ok (.iaload, 1) := by decide +kernel
theorem dX12_product_28 : decode cX12_product 28 = .ok (.aload_n 3, 1) := by decide +kernel
theorem dX12_product_29 : decode cX12_product 29 = .ok (.iload 4, 2) := by decide +kernel
theorem dX12_product_31 : decode cX12_product 31 = .ok (.iaload, 1) := by decide +kernel
theorem dX12_product_32 : decode cX12_product 32 = .ok (.invokevirtual 39, 3) := by decide +kernel
theorem dX12_product_35 : decode cX12_product 35 = .ok (.iastore, 1) := by decide +kernel
theorem dX12_product_36 : decode cX12_product 36 = .ok (.iinc 7 1, 3) := by decide +kernel
theorem dX12_product_39 : decode cX12_product 39 = .ok (.goto (-36), 3) := by decide +kernel
theorem dX12_product_42 : decode cX12_product 42 = .ok (.iconst 1, 1) := by decide +kernel
theorem dX12_product_43 : decode cX12_product 43 = .ok (.istore 7, 2) := by decide +kernel
theorem dX12_product_45 : decode cX12_product 45 = .ok (.iload 7, 2) := by decide +kernel
theorem dX12_product_47 : decode cX12_product 47 = .ok (.aload_n 0, 1) := by decide +kernel
theorem dX12_product_48 : decode cX12_product 48 = .ok (.getfield 29, 3) := by decide +kernel
theorem dX12_product_51 : decode cX12_product 51 = .ok (.if_icmp .ge 88, 3) := by decide +kernel
theorem dX12_product_54 : decode cX12_product 54 = .ok (.iconst 0, 1) := by decide +kernel
theorem dX12_product_55 : decode cX12_product 55 = .ok (.istore 8, 2) := by decide +kernel
theorem dX12_product_57 : decode cX12_product 57 = .ok (.iload 8, 2) := by decide +kernel
theorem dX12_product_59 : decode cX12_product 59 = .ok (.aload_n 0, 1) := by decide +kernel
theorem dX12_product_60 : decode cX12_product 60 = .ok (.getfield 29, 3) := by decide +kernel
theorem dX12_product_63 : decode cX12_product 63 = .ok (.iload 7, 2) := by decide +kernel
theorem dX12_product_65 : decode cX12_product 65 = .ok (.isub, 1) := by decide +kernel
theorem dX12_product_66 : decode cX12_product 66 = .ok (.if_icmp .ge 36, 3) := by decide +kernel
theorem dX12_product_69 : decode cX12_product 69 = .ok (.aload_n 0, 1) := by decide +kernel
theorem dX12_product_70 : decode cX12_product 70 = .ok (.getfield 13, 3) := by decide +kernel
theorem dX12_product_73 : decode cX12_product 73 = .ok (.iload 8, 2) := by decide +kernel
theorem dX12_product_75 : decode cX12_product 75 = .ok (.aload_n 0, 1) := by decide +kernel
theorem dX12_product_76 : decode cX12_product 76 = .ok (.getfield 25, 3) := by decide +kernel
theorem dX12_product_79 : decode cX12_product 79 = .ok (.aload_n 1, 1) := by decide +kernel
theorem dX12_product_80 : decode cX12_product 80 = .ok (.iload_n 2, 1) := by decide +kernel
theorem dX12_product_81 : decode cX12_product 81 = .ok (.iload 8, 2) := by decide +kernel
theorem dX12_product_83 : decode cX12_product 83 = .ok (.iadd, 1) := by decide +kernel
theorem dX12_product_84 : decode cX12_product 84 = .ok (.iaload, 1) := by decide +kernel
theorem dX12_product_85 : decode cX12_product 85 = .ok (.aload_n 3, 1) := by decide +kernel
theorem dX12_product_86 : decode cX12_product 86 = .ok (.iload 4, 2) := by decide +kernel
theorem dX12_product_88 : decode cX12_product 88 = .ok (.iload 7, 2) := by decide +kernel
theorem dX12_product_90 : decode cX12_product 90 = .ok (.iadd, 1) := by decide +kernel
theorem dX12_product_91 : decode cX12_product 91 = .ok (.iaload, 1) := by decide +kernel
theorem dX12_product_92 : decode cX12_product 92 = .ok (.invokevirtual 39, 3) := by decide +kernel
theorem dX12_product_95 : decode cX12_product 95 = .ok (.iastore, 1) := by decide +kernel
theorem dX12_product_96 : decode cX12_product 96 = .ok (.iinc 8 1, 3) := by decide +kernel
theorem dX12_product_99 : decode cX12_product 99 = .ok (.goto (-42), 3) := by decide +kernel
theorem dX12_product_102 : decode cX12_product 102 = .ok (.aload_n 0, 1) := by decide +kernel
theorem dX12_product_103 : decode cX12_product 103 = .ok (.aload_n 0, 1) := by decide +kernel
theorem dX12_product_104 : decode cX12_product 104 = .ok (.getfield 7, 3) := by decide +kernel
theorem dX12_product_107 : decode cX12_product 107 = .ok (.iload 7, 2) := by decide +kernel
theorem dX12_product_109 : decode cX12_product 109 = .ok (.aload_n 0, 1) := by decide +kernel
theorem dX12_product_110 : decode cX12_product 110 = .ok (.getfield 13, 3) := by decide +kernel
theorem dX12_product_113 : decode cX12_product 113 = .ok (.iconst 0, 1) := by decide +kernel
theorem dX12_product_114 : decode cX12_product 114 = .ok (.iconst 0, 1) := by decide +kernel
theorem dX12_product_115 : decode cX12_product 115 = .ok (.bipush (-2), 2) := by decide +kernel
theorem dX12_product_117 : decode cX12_product 117 = .ok (.aload_n 0, 1) := by decide +kernel
theorem dX12_product_118 : decode cX12_product 118 = .ok (.getfield 29, 3) := by decide +kernel
theorem dX12_product_121 : decode cX12_product 121 = .ok (.iload 7, 2) := by decide +kernel
theorem dX12_product_123 : decode cX12_product 123 = .ok (.isub, 1) := by decide +kernel
theorem dX12_product_124 : decode cX12_product 124 = .ok (.aload_n 0, 1) := by decide +kernel
theorem dX12_product_125 : decode cX12_product 125 = .ok (.getfield 7, 3) := by decide +kernel
theorem dX12_product_128 : decode cX12_product 128 = .ok (.iload 7, 2) := by decide +kernel
theorem dX12_product_130 : decode cX12_product 130 = .ok (.invokevirtual 42, 3) := by decide +kernel
theorem dX12_product_133 : decode cX12_product 133 = .ok (.iinc 7 1, 3) := by decide +kernel
theorem dX12_product_136 : decode cX12_product 136 = .ok (.goto (-91), 3) := by decide +kernel
theorem dX12_product_139 : decode cX12_product 139 = .ok (.iconst 0, 1) := by decide +kernel
theorem dX12_product_140 : decode cX12_product 140 = .ok (.istore 7, 2) := by decide +kernel
theorem dX12_product_142 : decode cX12_product 142 = .ok (.iload 7, 2) := by decide +kernel
theorem dX12_product_144 : decode cX12_product 144 = .ok (.aload_n 0, 1) := by decide +kernel
theorem dX12_product_145 : decode cX12_product 145 = .ok (.getfield 29, 3) := by decide +kernel
theorem dX12_product_148 : decode cX12_product 148 = .ok (.if_icmp .ge 24, 3) := by decide +kernel
theorem dX12_product_151 : decode cX12_product 151 = .ok (.aload 5, 2) := by decide +kernel
theorem dX12_product_153 : decode cX12_product 153 = .ok (.iload 6, 2) := by decide +kernel
theorem dX12_product_155 : decode cX12_product 155 = .ok (.iload 7, 2) := by decide +kernel
theorem dX12_product_157 : decode cX12_product 157 = .ok (.iadd, 1) := by decide +kernel
theorem dX12_product_158 : decode cX12_product 158 = .ok (.aload_n 0, 1) := by decide +kernel
theorem dX12_product_159 : decode cX12_product 159 = .ok (.getfield 7, 3) := by decide +kernel
theorem dX12_product_162 : decode cX12_product 162 = .ok (.iload 7, 2) := by decide +kernel
theorem dX12_product_164 : decode cX12_product 164 = .ok (.iaload, 1) := by decide +kernel
theorem dX12_product_165 : decode cX12_product 165 = .ok (.iastore, 1) := by decide +kernel
theorem dX12_product_166 : decode cX12_product 166 = .ok (.iinc 7 1, 3) := by decide +kernel
theorem dX12_product_169 : decode cX12_product 169 = .ok (.goto (-27), 3) := by decide +kernel
theorem dX12_product_172 : decode cX12_product 172 = .ok (.return_, 1) := by decide +kernel
theorem dX12_quotient_0 : decode cX12_quotient 0 = .ok (.iconst 0, 1) := by decide +kernel
theorem dX12_quotient_1 : decode cX12_quotient 1 = .ok (.istore 8, 2) := by decide +kernel
theorem dX12_quotient_3 : decode cX12_quotient 3 = .ok (.iload 8, 2) := by decide +kernel
theorem dX12_quotient_5 : decode cX12_quotient 5 = .ok (.aload_n 0, 1) := by decide +kernel
theorem dX12_quotient_6 : decode cX12_quotient 6 = .ok (.getfield 29, 3) := by decide +kernel
theorem dX12_quotient_9 : decode cX12_quotient 9 = .ok (.if_icmp .ge 18, 3) := by decide +kernel
theorem dX12_quotient_12 : decode cX12_quotient 12 = .ok (.aload_n 0, 1) := by decide +kernel
theorem dX12_quotient_13 : decode cX12_quotient 13 = .ok (.getfield 16, 3) := by decide +kernel
theorem dX12_quotient_16 : decode cX12_quotient 16 = .ok (.iload 8, 2) := by decide +kernel
theorem dX12_quotient_18 : decode cX12_quotient 18 = .ok (.bipush (-2), 2) := by decide +kernel
theorem dX12_quotient_20 : decode cX12_quotient 20 = .ok (.iastore, 1) := by decide +kernel
theorem dX12_quotient_21 : decode cX12_quotient 21 = .ok (.iinc 8 1, 3) := by decide +kernel
theorem dX12_quotient_24 : decode cX12_quotient 24 = .ok (.goto (-21), 3) := by decide +kernel
theorem dX12_quotient_27 : decode cX12_quotient 27 = .ok (.aload_n 0, 1) := by decide +kernel
theorem dX12_quotient_28 : decode cX12_quotient 28 = .ok (.getfield 29, 3) := by decide +kernel
theorem dX12_quotient_31 : decode cX12_quotient 31 = .ok (.iconst 1, 1) := by decide +kernel
theorem dX12_quotient_32 : decode cX12_quotient 32 = .ok (.isub, 1) := by decide +kernel
theorem dX12_quotient_33 : decode cX12_quotient 33 = .ok (.istore 8, 2) := by decide +kernel
theorem dX12_quotient_35 : decode cX12_quotient 35 = .ok (.iload 8, 2) := by decide +kernel
theorem dX12_quotient_37 : decode cX12_quotient 37 = .ok (.ifCond .lt 238, 3) := by decide +kernel
theorem dX12_quotient_40 : decode cX12_quotient 40 = .ok (.aload_n 0, 1) := by decide +kernel
theorem dX12_quotient_41 : decode cX12_quotient 41 = .ok (.getfield 19, 3) := by decide +kernel
theorem dX12_quotient_44 : decode cX12_quotient 44 = .ok (.iconst 0, 1) := by decide +kernel
theorem dX12_quotient_45 : decode cX12_quotient 45 = .ok (.aload_n 1, 1) := by decide +kernel
theorem dX12_quotient_46 : decode cX12_quotient 46 = .ok (.iload_n 2, 1) := by decide +kernel
theorem dX12_quotient_47 : decode cX12_quotient 47 = .ok (.iload 8, 2) := by decide +kernel
theorem dX12_quotient_49 : decode cX12_quotient 49 = .ok (.iadd, 1) := by decide +kernel
theorem dX12_quotient_50 : decode cX12_quotient 50 = .ok (.iaload, 1) := by decide +kernel
theorem dX12_quotient_51 : decode cX12_quotient 51 = .ok (.iastore, 1) := by decide +kernel
theorem dX12_quotient_52 : decode cX12_quotient 52 = .ok (.iconst 0, 1) := by decide +kernel
theorem dX12_quotient_53 : decode cX12_quotient 53 = .ok (.istore 9, 2) := by decide +kernel
theorem dX12_quotient_55 : decode cX12_quotient 55 = .ok (.iload 9, 2) := by decide +kernel
theorem dX12_quotient_57 : decode cX12_quotient 57 = .ok (.aload_n 0, 1) := by decide +kernel
theorem dX12_quotient_58 : decode cX12_quotient 58 = .ok (.getfield 29, 3) := by decide +kernel
theorem dX12_quotient_61 : decode cX12_quotient 61 = .ok (.if_icmp .ge 25, 3) := by decide +kernel
theorem dX12_quotient_64 : decode cX12_quotient 64 = .ok (.aload_n 0, 1) := by decide +kernel
theorem dX12_quotient_65 : decode cX12_quotient 65 = .ok (.getfield 19, 3) := by decide +kernel
theorem dX12_quotient_68 : decode cX12_quotient 68 = .ok (.iload 9, 2) := by decide +kernel
theorem dX12_quotient_70 : decode cX12_quotient 70 = .ok (.iconst 1, 1) := by decide +kernel
theorem dX12_quotient_71 : decode cX12_quotient 71 = .ok (.iadd, 1) := by decide +kernel
theorem dX12_quotient_72 : decode cX12_quotient 72 = .ok (.aload_n 0, 1) := by decide +kernel
theorem dX12_quotient_73 : decode cX12_quotient 73 = .ok (.getfield 16, 3) := by decide +kernel
theorem dX12_quotient_76 : decode cX12_quotient 76 = .ok (.iload 9, 2) := by decide +kernel
theorem dX12_quotient_78 : decode cX12_quotient 78 = .ok (.iaload, 1) := by decide +kernel
theorem dX12_quotient_79 : decode cX12_quotient 79 = .ok (.iastore, 1) := by decide +kernel
theorem dX12_quotient_80 : decode cX12_quotient 80 = .ok (.iinc 9 1, 3) := by decide +kernel
theorem dX12_quotient_83 : decode cX12_quotient 83 = .ok (.goto (-28), 3) := by decide +kernel
theorem dX12_quotient_86 : decode cX12_quotient 86 = .ok (.iconst (-1), 1) := by decide +kernel
theorem dX12_quotient_87 : decode cX12_quotient 87 = .ok (.istore 9, 2) := by decide +kernel
theorem dX12_quotient_89 : decode cX12_quotient 89 = .ok (.iconst 0, 1) := by decide +kernel
theorem dX12_quotient_90 : decode cX12_quotient 90 = .ok (.istore 10, 2) := by decide +kernel
theorem dX12_quotient_92 : decode cX12_quotient 92 = .ok (.iload 10, 2) := by decide +kernel
theorem dX12_quotient_94 : decode cX12_quotient 94 = .ok (.aload_n 0, 1) := by decide +kernel
theorem dX12_quotient_95 : decode cX12_quotient 95 = .ok (.getfield 29, 3) := by decide +kernel
theorem dX12_quotient_98 : decode cX12_quotient 98 = .ok (.if_icmp .gt 114, 3) := by decide +kernel
theorem dX12_quotient_101 : decode cX12_quotient 101 = .ok (.aload_n 0, 1) := by decide +kernel
theorem dX12_quotient_102 : decode cX12_quotient 102 = .ok (.getfield 25, 3) := by decide +kernel
theorem dX12_quotient_105 : decode cX12_quotient 105 = .ok (.iload 10, 2) := by decide +kernel
theorem dX12_quotient_107 : decode cX12_quotient 107 = .ok (.aload_n 0, 1) := by decide +kernel
theorem dX12_quotient_108 : decode cX12_quotient 108 = .ok (.getfield 29, 3) := by decide +kernel
theorem dX12_quotient_111 : decode cX12_quotient 111 = .ok (.if_icmp .ge 15, 3) := by decide +kernel
theorem dX12_quotient_114 : decode cX12_quotient 114 = .ok (.aload_n 3, 1) := by decide +kernel
theorem dX12_quotient_115 : decode cX12_quotient 115 = .ok (.iload 4, 2) := by decide +kernel
theorem dX12_quotient_117 : decode cX12_quotient 117 = .ok (.iload 10, 2) := by decide +kernel
theorem dX12_quotient_119 : decode cX12_quotient 119 = .ok (.iadd, 1) := by decide +kernel
theorem dX12_quotient_120 : decode cX12_quotient 120 = .ok (.iaload, 1) := by decide +kernel
theorem dX12_quotient_121 : decode cX12_quotient 121 = .ok (.iconst 1, 1) := by decide +kernel
theorem dX12_quotient_122 : decode cX12_quotient 122 = .ok (.ixor, 1) := by decide +kernel
theorem dX12_quotient_123 : decode cX12_quotient 123 = .ok (.goto 4, 3) := by decide +kernel
theorem dX12_quotient_126 : decode cX12_quotient 126 = .ok (.iconst (-1), 1) := by decide +kernel
theorem dX12_quotient_127 : decode cX12_quotient 127 = .ok (.iload 9, 2) := by decide +kernel
theorem dX12_quotient_129 : decode cX12_quotient 129 = .ok (.invokevirtual 33, 3) := by decide +kernel
theorem dX12_quotient_132 : decode cX12_quotient 132 = .ok (.istore 11, 2) := by decide +kernel
theorem dX12_quotient_134 : decode cX12_quotient 134 = .ok (.iload 10, 2) := by decide +kernel
theorem dX12_quotient_136 : decode cX12_quotient 136 = .ok (.aload_n 0, 1) := by decide +kernel
theorem dX12_quotient_137 : decode cX12_quotient 137 = .ok (.getfield 29, 3) := by decide +kernel
theorem dX12_quotient_140 : decode cX12_quotient 140 = .ok (.if_icmp .ge 26, 3) := by decide +kernel
theorem dX12_quotient_143 : decode cX12_quotient 143 = .ok (.aload_n 0, 1) := by decide +kernel
theorem dX12_quotient_144 : decode cX12_quotient 144 = .ok (.getfield 13, 3) := by decide +kernel
theorem dX12_quotient_147 : decode cX12_quotient 147 = .ok (.iload 10, 2) := by decide +kernel
theorem dX12_quotient_149 : decode cX12_quotient 149 = .ok (.aload_n 0, 1) := by decide +kernel
theorem dX12_quotient_150 : decode cX12_quotient 150 = .ok (.getfield 25, 3) := by decide +kernel
theorem dX12_quotient_153 : decode cX12_quotient 153 = .ok (.aload_n 0, 1) := by decide +kernel
theorem dX12_quotient_154 : decode cX12_quotient 154 = .ok (.getfield 19, 3) := by decide +kernel
theorem dX12_quotient_157 : decode cX12_quotient 157 = .ok (.iload 10, 2) := by decide +kernel
theorem dX12_quotient_159 : decode cX12_quotient 159 = .ok (.iaload, 1) := by decide +kernel
theorem dX12_quotient_160 : decode cX12_quotient 160 = .ok (.iload 11, 2) := by decide +kernel
theorem dX12_quotient_162 : decode cX12_quotient 162 = .ok (.invokevirtual 33, 3) := by decide +kernel
theorem dX12_quotient_165 : decode cX12_quotient 165 = .ok (.iastore, 1) := by decide +kernel
theorem dX12_quotient_166 : decode cX12_quotient 166 = .ok (.aload_n 0, 1) := by decide +kernel
theorem dX12_quotient_167 : decode cX12_quotient 167 = .ok (.getfield 25, 3) := by decide +kernel
theorem dX12_quotient_170 : decode cX12_quotient 170 = .ok (.aload_n 0, 1) := by decide +kernel
theorem dX12_quotient_171 : decode cX12_quotient 171 = .ok (.getfield 19, 3) := by decide +kernel
theorem dX12_quotient_174 : decode cX12_quotient 174 = .ok (.iload 10, 2) := by decide +kernel
theorem dX12_quotient_176 : decode cX12_quotient 176 = .ok (.iaload, 1) := by decide +kernel
theorem dX12_quotient_177 : decode cX12_quotient 177 = .ok (.iload 9, 2) := by decide +kernel
theorem dX12_quotient_179 : decode cX12_quotient 179 = .ok (.invokevirtual 33, 3) := by decide +kernel
theorem dX12_quotient_182 : decode cX12_quotient 182 = .ok (.istore 12, 2) := by decide +kernel
theorem dX12_quotient_184 : decode cX12_quotient 184 = .ok (.aload_n 0, 1) := by decide +kernel
theorem dX12_quotient_185 : decode cX12_quotient 185 = .ok (.getfield 25, 3) := by decide +kernel
theorem dX12_quotient_188 : decode cX12_quotient 188 = .ok (.iload 9, 2) := by decide +kernel
theorem dX12_quotient_190 : decode cX12_quotient 190 = .ok (.aload_n 0, 1) := by decide +kernel
theorem dX12_quotient_191 : decode cX12_quotient 191 = .ok (.getfield 25, 3) := by decide +kernel
theorem dX12_quotient_194 : decode cX12_quotient 194 = .ok (.iload 12, 2) := by decide +kernel
theorem dX12_quotient_196 : decode cX12_quotient 196 = .ok (.iload 11, 2) := by decide +kernel
theorem dX12_quotient_198 : decode cX12_quotient 198 = .ok (.invokevirtual 39, 3) := by decide +kernel
theorem dX12_quotient_201 : decode cX12_quotient 201 = .ok (.invokevirtual 33, 3) := by decide +kernel
theorem dX12_quotient_204 : decode cX12_quotient 204 = .ok (.istore 9, 2) := by decide +kernel
theorem dX12_quotient_206 : decode cX12_quotient 206 = .ok (.iinc 10 1, 3) := by decide +kernel
theorem dX12_quotient_209 : decode cX12_quotient 209 = .ok (.goto (-117), 3) := by decide +kernel
theorem dX12_quotient_212 : decode cX12_quotient 212 = .ok (.aload_n 0, 1) := by decide +kernel
theorem dX12_quotient_213 : decode cX12_quotient 213 = .ok (.getfield 7, 3) := by decide +kernel
theorem dX12_quotient_216 : decode cX12_quotient 216 = .ok (.iload 8, 2) := by decide +kernel
theorem dX12_quotient_218 : decode cX12_quotient 218 = .ok (.iload 9, 2) := by decide +kernel
theorem dX12_quotient_220 : decode cX12_quotient 220 = .ok (.iastore, 1) := by decide +kernel
theorem dX12_quotient_221 : decode cX12_quotient 221 = .ok (.iconst 0, 1) := by decide +kernel
theorem dX12_quotient_222 : decode cX12_quotient 222 = .ok (.istore 10, 2) := by decide +kernel
theorem dX12_quotient_224 : decode cX12_quotient 224 = .ok (.iload 10, 2) := by decide +kernel
theorem dX12_quotient_226 : decode cX12_quotient 226 = .ok (.aload_n 0, 1) := by decide +kernel
theorem dX12_quotient_227 : decode cX12_quotient 227 = .ok (.getfield 29, 3) := by decide +kernel
theorem dX12_quotient_230 : decode cX12_quotient 230 = .ok (.if_icmp .ge 39, 3) := by decide +kernel
theorem dX12_quotient_233 : decode cX12_quotient 233 = .ok (.aload_n 0, 1) := by decide +kernel
theorem dX12_quotient_234 : decode cX12_quotient 234 = .ok (.getfield 16, 3) := by decide +kernel
theorem dX12_quotient_237 : decode cX12_quotient 237 = .ok (.iload 10, 2) := by decide +kernel
theorem dX12_quotient_239 : decode cX12_quotient 239 = .ok (.aload_n 0, 1) := by decide +kernel
theorem dX12_quotient_240 : decode cX12_quotient 240 = .ok (.getfield 25, 3) := by decide +kernel
theorem dX12_quotient_243 : decode cX12_quotient 243 = .ok (.iload 9, 2) := by decide +kernel
theorem dX12_quotient_245 : decode cX12_quotient 245 = .ok (.aload_n 0, 1) := by decide +kernel
theorem dX12_quotient_246 : decode cX12_quotient 246 = .ok (.getfield 13, 3) := by decide +kernel
theorem dX12_quotient_249 : decode cX12_quotient 249 = .ok (.iload 10, 2) := by decide +kernel
theorem dX12_quotient_251 : decode cX12_quotient 251 = .ok (.iaload, 1) := by decide +kernel
theorem dX12_quotient_252 : decode cX12_quotient 252 = .ok (.aload_n 0, 1) := by decide +kernel
theorem dX12_quotient_253 : decode cX12_quotient 253 = .ok (.getfield 19, 3) := by decide +kernel
theorem dX12_quotient_256 : decode cX12_quotient 256 = .ok (.iload 10, 2) := by decide +kernel
theorem dX12_quotient_258 : decode cX12_quotient 258 = .ok (.iaload, 1) := by decide +kernel
theorem dX12_quotient_259 : decode cX12_quotient 259 = .ok (.invokevirtual 46, 3) := by decide +kernel
theorem dX12_quotient_262 : decode cX12_quotient 262 = .ok (.iastore, 1) := by decide +kernel
theorem dX12_quotient_263 : decode cX12_quotient 263 = .ok (.iinc 10 1, 3) := by decide +kernel
theorem dX12_quotient_266 : decode cX12_quotient 266 = .ok (.goto (-42), 3) := by decide +kernel
theorem dX12_quotient_269 : decode cX12_quotient 269 = .ok (.iinc 8 (-1), 3) := by decide +kernel
theorem dX12_quotient_272 : decode cX12_quotient 272 = .ok (.goto (-237), 3) := by decide +kernel
theorem dX12_quotient_275 : decode cX12_quotient 275 = .ok (.iconst 0, 1) := by decide +kernel
theorem dX12_quotient_276 : decode cX12_quotient 276 = .ok (.istore 8, 2) := by decide +kernel
theorem dX12_quotient_278 : decode cX12_quotient 278 = .ok (.iload 8, 2) := by decide +kernel
theorem dX12_quotient_280 : decode cX12_quotient 280 = .ok (.aload_n 0, 1) := by decide +kernel
theorem dX12_quotient_281 : decode cX12_quotient 281 = .ok (.getfield 29, 3) := by decide +kernel
theorem dX12_quotient_284 : decode cX12_quotient 284 = .ok (.if_icmp .ge 39, 3) := by decide +kernel
theorem dX12_quotient_287 : decode cX12_quotient 287 = .ok (.aload 6, 2) := by decide +kernel
theorem dX12_quotient_289 : decode cX12_quotient 289 = .ok (.iload 7, 2) := by decide +kernel
theorem dX12_quotient_291 : decode cX12_quotient 291 = .ok (.iload 8, 2) := by decide +kernel
theorem dX12_quotient_293 : decode cX12_quotient 293 = .ok (.iadd, 1) := by decide +kernel
theorem dX12_quotient_294 : decode cX12_quotient 294 = .ok (.iload 5, 2) := by decide +kernel
theorem dX12_quotient_296 : decode cX12_quotient 296 = .ok (.ifCond .eq 13, 3) := by decide +kernel
theorem dX12_quotient_299 : decode cX12_quotient 299 = .ok (.aload_n 0, 1) := by decide +kernel
theorem dX12_quotient_300 : decode cX12_quotient 300 = .ok (.getfield 16, 3) := by decide +kernel
theorem dX12_quotient_303 : decode cX12_quotient 303 = .ok (.iload 8, 2) := by decide +kernel
theorem dX12_quotient_305 : decode cX12_quotient 305 = .ok (.iaload, 1) := by decide +kernel
theorem dX12_quotient_306 : decode cX12_quotient 306 = .ok (.goto 10, 3) := by decide +kernel
theorem dX12_quotient_309 : decode cX12_quotient 309 = .ok (.aload_n 0, 1) := by decide +kernel
theorem dX12_quotient_310 : decode cX12_quotient 310 = .ok (.getfield 7, 3) := by decide +kernel
theorem dX12_quotient_313 : decode cX12_quotient 313 = .ok (.iload 8, 2) := by decide +kernel
theorem dX12_quotient_315 : decode cX12_quotient 315 = .ok (.iaload, 1) := by decide +kernel
theorem dX12_quotient_316 : decode cX12_quotient 316 = .ok (.iastore, 1) := by decide +kernel
theorem dX12_quotient_317 : decode cX12_quotient 317 = .ok (.iinc 8 1, 3) := by decide +kernel
theorem dX12_quotient_320 : decode cX12_quotient 320 = .ok (.goto (-42), 3) := by decide +kernel
theorem dX12_quotient_323 : decode cX12_quotient 323 = .ok (.return_, 1) := by decide +kernel
theorem dX12_equal_0 : decode cX12_equal 0 = .ok (.iconst 0, 1) := by decide +kernel
theorem dX12_equal_1 : decode cX12_equal 1 = .ok (.istore 6, 2) := by decide +kernel
theorem dX12_equal_3 : decode cX12_equal 3 = .ok (.iload 6, 2) := by decide +kernel
theorem dX12_equal_5 : decode cX12_equal 5 = .ok (.iload 5, 2) := by decide +kernel
theorem dX12_equal_7 : decode cX12_equal 7 = .ok (.if_icmp .ge 38, 3) := by decide +kernel
theorem dX12_equal_10 : decode cX12_equal 10 = .ok (.aload_n 0, 1) := by decide +kernel
theorem dX12_equal_11 : decode cX12_equal 11 = .ok (.getfield 7, 3) := by decide +kernel
theorem dX12_equal_14 : decode cX12_equal 14 = .ok (.iload 6, 2) := by decide +kernel
theorem dX12_equal_16 : decode cX12_equal 16 = .ok (.aload_n 0, 1) := by decide +kernel
theorem dX12_equal_17 : decode cX12_equal 17 = .ok (.getfield 25, 3) := by decide +kernel
theorem dX12_equal_20 : decode cX12_equal 20 = .ok (.aload_n 1, 1) := by decide +kernel
theorem dX12_equal_21 : decode cX12_equal 21 = .ok (.iload_n 2, 1) := by decide +kernel
theorem dX12_equal_22 : decode cX12_equal 22 = .ok (.iload 6, 2) := by decide +kernel
theorem dX12_equal_24 : decode cX12_equal 24 = .ok (.iadd, 1) := by decide +kernel
theorem dX12_equal_25 : decode cX12_equal 25 = .ok (.iaload, 1) := by decide +kernel
theorem dX12_equal_26 : decode cX12_equal 26 = .ok (.aload_n 3, 1) := by decide +kernel
theorem dX12_equal_27 : decode cX12_equal 27 = .ok (.iload 4, 2) := by decide +kernel
theorem dX12_equal_29 : decode cX12_equal 29 = .ok (.iload 6, 2) := by decide +kernel
theorem dX12_equal_31 : decode cX12_equal 31 = .ok (.iadd, 1) := by decide +kernel
theorem dX12_equal_32 : decode cX12_equal 32 = .ok (.iaload, 1) := by decide +kernel
theorem dX12_equal_33 : decode cX12_equal 33 = .ok (.invokevirtual 33, 3) := by decide +kernel
theorem dX12_equal_36 : decode cX12_equal 36 = .ok (.iconst 1, 1) := by decide +kernel
theorem dX12_equal_37 : decode cX12_equal 37 = .ok (.ixor, 1) := by decide +kernel
theorem dX12_equal_38 : decode cX12_equal 38 = .ok (.iastore, 1) := by decide +kernel
theorem dX12_equal_39 : decode cX12_equal 39 = .ok (.iinc 6 1, 3) := by decide +kernel
theorem dX12_equal_42 : decode cX12_equal 42 = .ok (.goto (-39), 3) := by decide +kernel
theorem dX12_equal_45 : decode cX12_equal 45 = .ok (.iload 5, 2) := by decide +kernel
theorem dX12_equal_47 : decode cX12_equal 47 = .ok (.istore 6, 2) := by decide +kernel
theorem dX12_equal_49 : decode cX12_equal 49 = .ok (.iload 6, 2) := by decide +kernel
theorem dX12_equal_51 : decode cX12_equal 51 = .ok (.iconst 1, 1) := by decide +kernel
theorem dX12_equal_52 : decode cX12_equal 52 = .ok (.if_icmp .le 81, 3) := by decide +kernel
theorem dX12_equal_55 : decode cX12_equal 55 = .ok (.iconst 0, 1) := by decide +kernel
theorem dX12_equal_56 : decode cX12_equal 56 = .ok (.istore 7, 2) := by decide +kernel
theorem dX12_equal_58 : decode cX12_equal 58 = .ok (.iconst 0, 1) := by decide +kernel
theorem dX12_equal_59 : decode cX12_equal 59 = .ok (.istore 8, 2) := by decide +kernel
theorem dX12_equal_61 : decode cX12_equal 61 = .ok (.iload 8, 2) := by decide +kernel
theorem dX12_equal_63 : decode cX12_equal 63 = .ok (.iload 6, 2) := by decide +kernel
theorem dX12_equal_65 : decode cX12_equal 65 = .ok (.if_icmp .ge 61, 3) := by decide +kernel
theorem dX12_equal_68 : decode cX12_equal 68 = .ok (.aload_n 0, 1) := by decide +kernel
theorem dX12_equal_69 : decode cX12_equal 69 = .ok (.getfield 7, 3) := by decide +kernel
theorem dX12_equal_72 : decode cX12_equal 72 = .ok (.iload 7, 2) := by decide +kernel
theorem dX12_equal_74 : decode cX12_equal 74 = .ok (.iload 8, 2) := by decide +kernel
theorem dX12_equal_76 : decode cX12_equal 76 = .ok (.iconst 1, 1) := by decide +kernel
theorem dX12_equal_77 : decode cX12_equal 77 = .ok (.iadd, 1) := by decide +kernel
theorem dX12_equal_78 : decode cX12_equal 78 = .ok (.iload 6, 2) := by decide +kernel
theorem dX12_equal_80 : decode cX12_equal 80 = .ok (.if_icmp .ge 29, 3) := by decide +kernel
theorem dX12_equal_83 : decode cX12_equal 83 = .ok (.aload_n 0, 1) := by decide +kernel
theorem dX12_equal_84 : decode cX12_equal 84 = .ok (.getfield 25, 3) := by decide +kernel
theorem dX12_equal_87 : decode cX12_equal 87 = .ok (.aload_n 0, 1) := by decide +kernel
theorem dX12_equal_88 : decode cX12_equal 88 = .ok (.getfield 7, 3) := by decide +kernel
theorem dX12_equal_91 : decode cX12_equal 91 = .ok (.iload 8, 2) := by decide +kernel
theorem dX12_equal_93 : decode cX12_equal 93 = .ok (.iaload, 1) := by decide +kernel
theorem dX12_equal_94 : decode cX12_equal 94 = .ok (.aload_n 0, 1) := by decide +kernel
theorem dX12_equal_95 : decode cX12_equal 95 = .ok (.getfield 7, 3) := by decide +kernel
theorem dX12_equal_98 : decode cX12_equal 98 = .ok (.iload 8, 2) := by decide +kernel
theorem dX12_equal_100 : decode cX12_equal 100 = .ok (.iconst 1, 1) := by decide +kernel
theorem dX12_equal_101 : decode cX12_equal 101 = .ok (.iadd, 1) := by decide +kernel
theorem dX12_equal_102 : decode cX12_equal 102 = .ok (.iaload, 1) := by decide +kernel
theorem dX12_equal_103 : decode cX12_equal 103 = .ok (.invokevirtual 39, 3) := by decide +kernel
theorem dX12_equal_106 : decode cX12_equal 106 = .ok (.goto 10, 3) := by decide +kernel
theorem dX12_equal_109 : decode cX12_equal 109 = .ok (.aload_n 0, 1) := by decide +kernel
theorem dX12_equal_110 : decode cX12_equal 110 = .ok (.getfield 7, 3) := by decide +kernel
theorem dX12_equal_113 : decode cX12_equal 113 = .ok (.iload 8, 2) := by decide +kernel
theorem dX12_equal_115 : decode cX12_equal 115 = .ok (.iaload, 1) := by decide +kernel
theorem dX12_equal_116 : decode cX12_equal 116 = .ok (.iastore, 1) := by decide +kernel
theorem dX12_equal_117 : decode cX12_equal 117 = .ok (.iinc 7 1, 3) := by decide +kernel
theorem dX12_equal_120 : decode cX12_equal 120 = .ok (.iinc 8 2, 3) := by decide +kernel
theorem dX12_equal_123 : decode cX12_equal 123 = .ok (.goto (-62), 3) := by decide +kernel
theorem dX12_equal_126 : decode cX12_equal 126 = .ok (.iload 7, 2) := by decide +kernel
theorem dX12_equal_128 : decode cX12_equal 128 = .ok (.istore 6, 2) := by decide +kernel
theorem dX12_equal_130 : decode cX12_equal 130 = .ok (.goto (-81), 3) := by decide +kernel
theorem dX12_equal_133 : decode cX12_equal 133 = .ok (.aload_n 0, 1) := by decide +kernel
theorem dX12_equal_134 : decode cX12_equal 134 = .ok (.getfield 7, 3) := by decide +kernel
theorem dX12_equal_137 : decode cX12_equal 137 = .ok (.iconst 0, 1) := by decide +kernel
theorem dX12_equal_138 : decode cX12_equal 138 = .ok (.iaload, 1) := by decide +kernel
theorem dX12_equal_139 : decode cX12_equal 139 = .ok (.ireturn, 1) := by decide +kernel
theorem dX12_less_0 : decode cX12_less 0 = .ok (.iconst (-1), 1) := by decide +kernel
theorem dX12_less_1 : decode cX12_less 1 = .ok (.istore 5, 2) := by decide +kernel
theorem dX12_less_3 : decode cX12_less 3 = .ok (.iconst 0, 1) := by decide +kernel
theorem dX12_less_4 : decode cX12_less 4 = .ok (.istore 6, 2) := by decide +kernel
theorem dX12_less_6 : decode cX12_less 6 = .ok (.iload 6, 2) := by decide +kernel
theorem dX12_less_8 : decode cX12_less 8 = .ok (.aload_n 0, 1) := by decide +kernel
theorem dX12_less_9 : decode cX12_less 9 = .ok (.getfield 29, 3) := by decide +kernel
theorem dX12_less_12 : decode cX12_less 12 = .ok (.if_icmp .ge 92, 3) := by decide +kernel
theorem dX12_less_15 : decode cX12_less 15 = .ok (.iload 6, 2) := by decide +kernel
theorem dX12_less_17 : decode cX12_less 17 = .ok (.aload_n 0, 1) := by decide +kernel
theorem dX12_less_18 : decode cX12_less 18 = .ok (.getfield 29, 3) := by decide +kernel
theorem dX12_less_21 : decode cX12_less 21 = .ok (.iconst 1, 1) := by decide +kernel
theorem dX12_less_22 : decode cX12_less 22 = .ok (.isub, 1) := by decide +kernel
theorem dX12_less_23 : decode cX12_less 23 = .ok (.if_icmp .ne 7, 3) := by decide +kernel
theorem dX12_less_26 : decode cX12_less 26 = .ok (.iconst 1, 1) := by decide +kernel
theorem dX12_less_27 : decode cX12_less 27 = .ok (.goto 4, 3) := by decide +kernel
theorem dX12_less_30 : decode cX12_less 30 = .ok (.iconst 0, 1) := by decide +kernel
theorem dX12_less_31 : decode cX12_less 31 = .ok (.istore 7, 2) := by decide +kernel
theorem dX12_less_33 : decode cX12_less 33 = .ok (.aload_n 0, 1) := by decide +kernel
theorem dX12_less_34 : decode cX12_less 34 = .ok (.getfield 25, 3) := by decide +kernel
theorem dX12_less_37 : decode cX12_less 37 = .ok (.aload_n 3, 1) := by decide +kernel
theorem dX12_less_38 : decode cX12_less 38 = .ok (.iload 4, 2) := by decide +kernel
theorem dX12_less_40 : decode cX12_less 40 = .ok (.iload 6, 2) := by decide +kernel
theorem dX12_less_42 : decode cX12_less 42 = .ok (.iadd, 1) := by decide +kernel
theorem dX12_less_43 : decode cX12_less 43 = .ok (.iaload, 1) := by decide +kernel
theorem dX12_less_44 : decode cX12_less 44 = .ok (.iload 7, 2) := by decide +kernel
theorem dX12_less_46 : decode cX12_less 46 = .ok (.ixor, 1) := by decide +kernel
theorem dX12_less_47 : decode cX12_less 47 = .ok (.iconst 1, 1) := by decide +kernel
theorem dX12_less_48 : decode cX12_less 48 = .ok (.ixor, 1) := by decide +kernel
theorem dX12_less_49 : decode cX12_less 49 = .ok (.iload 5, 2) := by decide +kernel
theorem dX12_less_51 : decode cX12_less 51 = .ok (.invokevirtual 33, 3) := by decide +kernel
theorem dX12_less_54 : decode cX12_less 54 = .ok (.istore 8, 2) := by decide +kernel
theorem dX12_less_56 : decode cX12_less 56 = .ok (.aload_n 0, 1) := by decide +kernel
theorem dX12_less_57 : decode cX12_less 57 = .ok (.getfield 25, 3) := by decide +kernel
theorem dX12_less_60 : decode cX12_less 60 = .ok (.aload_n 1, 1) := by decide +kernel
theorem dX12_less_61 : decode cX12_less 61 = .ok (.iload_n 2, 1) := by decide +kernel
theorem dX12_less_62 : decode cX12_less 62 = .ok (.iload 6, 2) := by decide +kernel
theorem dX12_less_64 : decode cX12_less 64 = .ok (.iadd, 1) := by decide +kernel
theorem dX12_less_65 : decode cX12_less 65 = .ok (.iaload, 1) := by decide +kernel
theorem dX12_less_66 : decode cX12_less 66 = .ok (.iload 7, 2) := by decide +kernel
theorem dX12_less_68 : decode cX12_less 68 = .ok (.ixor, 1) := by decide +kernel
theorem dX12_less_69 : decode cX12_less 69 = .ok (.iload 5, 2) := by decide +kernel
theorem dX12_less_71 : decode cX12_less 71 = .ok (.invokevirtual 33, 3) := by decide +kernel
theorem dX12_less_74 : decode cX12_less 74 = .ok (.istore 9, 2) := by decide +kernel
theorem dX12_less_76 : decode cX12_less 76 = .ok (.aload_n 0, 1) := by decide +kernel
theorem dX12_less_77 : decode cX12_less 77 = .ok (.getfield 25, 3) := by decide +kernel
theorem dX12_less_80 : decode cX12_less 80 = .ok (.iload 5, 2) := by decide +kernel
theorem dX12_less_82 : decode cX12_less 82 = .ok (.aload_n 0, 1) := by decide +kernel
theorem dX12_less_83 : decode cX12_less 83 = .ok (.getfield 25, 3) := by decide +kernel
theorem dX12_less_86 : decode cX12_less 86 = .ok (.iload 9, 2) := by decide +kernel
theorem dX12_less_88 : decode cX12_less 88 = .ok (.iload 8, 2) := by decide +kernel
theorem dX12_less_90 : decode cX12_less 90 = .ok (.invokevirtual 39, 3) := by decide +kernel
theorem dX12_less_93 : decode cX12_less 93 = .ok (.invokevirtual 33, 3) := by decide +kernel
theorem dX12_less_96 : decode cX12_less 96 = .ok (.istore 5, 2) := by decide +kernel
theorem dX12_less_98 : decode cX12_less 98 = .ok (.iinc 6 1, 3) := by decide +kernel
theorem dX12_less_101 : decode cX12_less 101 = .ok (.goto (-95), 3) := by decide +kernel
theorem dX12_less_104 : decode cX12_less 104 = .ok (.iload 5, 2) := by decide +kernel
theorem dX12_less_106 : decode cX12_less 106 = .ok (.iconst 1, 1) := by decide +kernel
theorem dX12_less_107 : decode cX12_less 107 = .ok (.ixor, 1) := by decide +kernel
theorem dX12_less_108 : decode cX12_less 108 = .ok (.ireturn, 1) := by decide +kernel
