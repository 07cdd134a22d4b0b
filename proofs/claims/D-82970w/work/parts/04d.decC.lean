set_option maxRecDepth 100000
theorem dX9_init_0 : decode cX9_init 0 = .ok (.aload_n 0, 1) := by decide +kernel
theorem dX9_init_1 : decode cX9_init 1 = .ok (.invokespecial 3, 3) := by decide +kernel
theorem dX9_init_4 : decode cX9_init 4 = .ok (.aload_n 0, 1) := by decide +kernel
theorem dX9_init_5 : decode cX9_init 5 = .ok (.new 9, 3) := by decide +kernel
theorem dX9_init_8 : decode cX9_init 8 = .ok (.dup, 1) := by decide +kernel
theorem dX9_init_9 : decode cX9_init 9 = .ok (.invokespecial 11, 3) := by decide +kernel
theorem dX9_init_12 : decode cX9_init 12 = .ok (.putfield 12, 3) := by decide +kernel
theorem dX9_init_15 : decode cX9_init 15 = .ok (.aload_n 0, 1) := by decide +kernel
theorem dX9_init_16 : decode cX9_init 16 = .ok (.sipush 12000, 3) := by decide +kernel
theorem dX9_init_19 : decode cX9_init 19 = .ok (.newarray .int, 2) := by decide +kernel
theorem dX9_init_21 : decode cX9_init 21 = .ok (.putfield 18, 3) := by decide +kernel
theorem dX9_init_24 : decode cX9_init 24 = .ok (.aload_n 0, 1) := by decide +kernel
theorem dX9_init_25 : decode cX9_init 25 = .ok (.sipush 12000, 3) := by decide +kernel
theorem dX9_init_28 : decode cX9_init 28 = .ok (.newarray .int, 2) := by decide +kernel
theorem dX9_init_30 : decode cX9_init 30 = .ok (.putfield 22, 3) := by decide +kernel
theorem dX9_init_33 : decode cX9_init 33 = .ok (.aload_n 0, 1) := by decide +kernel
theorem dX9_init_34 : decode cX9_init 34 = .ok (.sipush 12000, 3) := by decide +kernel
theorem dX9_init_37 : decode cX9_init 37 = .ok (.newarray .boolean, 2) := by decide +kernel
theorem dX9_init_39 : decode cX9_init 39 = .ok (.putfield 25, 3) := by decide +kernel
theorem dX9_init_42 : decode cX9_init 42 = .ok (.aload_n 0, 1) := by decide +kernel
theorem dX9_init_43 : decode cX9_init 43 = .ok (.sipush 128, 3) := by decide +kernel
theorem dX9_init_46 : decode cX9_init 46 = .ok (.newarray .int, 2) := by decide +kernel
theorem dX9_init_48 : decode cX9_init 48 = .ok (.putfield 29, 3) := by decide +kernel
theorem dX9_init_51 : decode cX9_init 51 = .ok (.aload_n 0, 1) := by decide +kernel
theorem dX9_init_52 : decode cX9_init 52 = .ok (.sipush 4000, 3) := by decide +kernel
theorem dX9_init_55 : decode cX9_init 55 = .ok (.newarray .int, 2) := by decide +kernel
theorem dX9_init_57 : decode cX9_init 57 = .ok (.putfield 32, 3) := by decide +kernel
theorem dX9_init_60 : decode cX9_init 60 = .ok (.aload_n 0, 1) := by decide +kernel
theorem dX9_init_61 : decode cX9_init 61 = .ok (.sipush 4000, 3) := by decide +kernel
theorem dX9_init_64 : decode cX9_init 64 = .ok (.newarray .int, 2) := by decide +kernel
theorem dX9_init_66 : decode cX9_init 66 = .ok (.putfield 35, 3) := by decide +kernel
theorem dX9_init_69 : decode cX9_init 69 = .ok (.aload_n 0, 1) := by decide +kernel
theorem dX9_init_70 : decode cX9_init 70 = .ok (.sipush 4000, 3) := by decide +kernel
theorem dX9_init_73 : decode cX9_init 73 = .ok (.newarray .int, 2) := by decide +kernel
theorem dX9_init_75 : decode cX9_init 75 = .ok (.putfield 38, 3) := by decide +kernel
theorem dX9_init_78 : decode cX9_init 78 = .ok (.aload_n 0, 1) := by decide +kernel
theorem dX9_init_79 : decode cX9_init 79 = .ok (.sipush 4000, 3) := by decide +kernel
theorem dX9_init_82 : decode cX9_init 82 = .ok (.newarray .int, 2) := by decide +kernel
theorem dX9_init_84 : decode cX9_init 84 = .ok (.putfield 41, 3) := by decide +kernel
theorem dX9_init_87 : decode cX9_init 87 = .ok (.aload_n 0, 1) := by decide +kernel
theorem dX9_init_88 : decode cX9_init 88 = .ok (.iload_n 1, 1) := by decide +kernel
theorem dX9_init_89 : decode cX9_init 89 = .ok (.putfield 44, 3) := by decide +kernel
theorem dX9_init_92 : decode cX9_init 92 = .ok (.aload_n 0, 1) := by decide +kernel
theorem dX9_init_93 : decode cX9_init 93 = .ok (.aload_n 2, 1) := by decide +kernel
theorem dX9_init_94 : decode cX9_init 94 = .ok (.putfield 48, 3) := by decide +kernel
theorem dX9_init_97 : decode cX9_init 97 = .ok (.aload_n 0, 1) := by decide +kernel
theorem dX9_init_98 : decode cX9_init 98 = .ok (.aload_n 3, 1) := by decide +kernel
theorem dX9_init_99 : decode cX9_init 99 = .ok (.putfield 52, 3) := by decide +kernel
theorem dX9_init_102 : decode cX9_init 102 = .ok (.return_, 1) := by decide +kernel
theorem dX9_check_0 : decode cX9_check 0 = .ok (.aload_n 0, 1) := by decide +kernel
theorem dX9_check_1 : decode cX9_check 1 = .ok (.getfield 12, 3) := by decide +kernel
theorem dX9_check_4 : decode cX9_check 4 = .ok (.iconst 0, 1) := by decide +kernel
theorem dX9_check_5 : decode cX9_check 5 = .ok (.putfield 72, 3) := by decide +kernel
theorem dX9_check_8 : decode cX9_check 8 = .ok (.aload_n 0, 1) := by decide +kernel
theorem dX9_check_9 : decode cX9_check 9 = .ok (.iconst 0, 1) := by decide +kernel
theorem dX9_check_10 : decode cX9_check 10 = .ok (.putfield 56, 3) := by decide +kernel
theorem dX9_check_13 : decode cX9_check 13 = .ok (.aload_n 0, 1) := by decide +kernel
theorem dX9_check_14 : decode cX9_check 14 = .ok (.iconst 0, 1) := by decide +kernel
theorem dX9_check_15 : decode cX9_check 15 = .ok (.putfield 75, 3) := by decide +kernel
theorem dX9_check_18 : decode cX9_check 18 = .ok (.aload_n 0, 1) := by decide +kernel
theorem dX9_check_19 : decode cX9_check 19 = .ok (.iconst 0, 1) := by decide +kernel
theorem dX9_check_20 : decode cX9_check 20 = .ok (.putfield 78, 3) := by decide +kernel
theorem dX9_check_23 : decode cX9_check 23 = .ok (.aload_n 0, 1) := by decide +kernel
theorem dX9_check_24 : decode cX9_check 24 = .ok (.iconst 0, 1) := by decide +kernel
theorem dX9_check_25 : decode cX9_check 25 = .ok (.putfield 81, 3) := by decide +kernel
theorem dX9_check_28 : decode cX9_check 28 = .ok (.aload_n 0, 1) := by decide +kernel
theorem dX9_check_29 : decode cX9_check 29 = .ok (.iconst 0, 1) := by decide +kernel
theorem dX9_check_30 : decode cX9_check 30 = .ok (.putfield 84, 3) := by decide +kernel
theorem dX9_check_33 : decode cX9_check 33 = .ok (.aload_n 0, 1) := by decide +kernel
theorem dX9_check_34 : decode cX9_check 34 = .ok (.iconst 0, 1) := by decide +kernel
theorem dX9_check_35 : decode cX9_check 35 = .ok (.putfield 87, 3) := by decide +kernel
theorem dX9_check_38 : decode cX9_check 38 = .ok (.aload_n 0, 1) := by decide +kernel
theorem dX9_check_39 : decode cX9_check 39 = .ok (.iconst (-1), 1) := by decide +kernel
theorem dX9_check_40 : decode cX9_check 40 = .ok (.putfield 65, 3) := by decide +kernel
theorem dX9_check_43 : decode cX9_check 43 = .ok (.aload_n 0, 1) := by decide +kernel
theorem dX9_check_44 : decode cX9_check 44 = .ok (.iconst 0, 1) := by decide +kernel
theorem dX9_check_45 : decode cX9_check 45 = .ok (.putfield 90, 3) := by decide +kernel
theorem dX9_check_48 : decode cX9_check 48 = .ok (.aload_n 0, 1) := by decide +kernel
theorem dX9_check_49 : decode cX9_check 49 = .ok (.iconst 0, 1) := by decide +kernel
theorem dX9_check_50 : decode cX9_check 50 = .ok (.putfield 93, 3) := by decide +kernel
theorem dX9_check_53 : decode cX9_check 53 = .ok (.iconst 0, 1) := by decide +kernel
theorem dX9_check_54 : decode cX9_check 54 = .ok (.istore_n 1, 1) := by decide +kernel
theorem dX9_check_55 : decode cX9_check 55 = .ok (.iload_n 1, 1) := by decide +kernel
theorem dX9_check_56 : decode cX9_check 56 = .ok (.aload_n 0, 1) := by decide +kernel
theorem dX9_check_57 : decode cX9_check 57 = .ok (.getfield 48, 3) := by decide +kernel
theorem dX9_check_60 : decode cX9_check 60 = .ok (.getfield 96, 3) := by decide +kernel
theorem dX9_check_63 : decode cX9_check 63 = .ok (.if_icmp .ge 24, 3) := by decide +kernel
theorem dX9_check_66 : decode cX9_check 66 = .ok (.aload_n 0, 1) := by decide +kernel
theorem dX9_check_67 : decode cX9_check 67 = .ok (.getfield 52, 3) := by decide +kernel
theorem dX9_check_70 : decode cX9_check 70 = .ok (.invokevirtual 99, 3) := by decide +kernel
theorem dX9_check_73 : decode cX9_check 73 = .ok (.ifCond .ne 14, 3) := by decide +kernel
theorem dX9_check_76 : decode cX9_check 76 = .ok (.aload_n 0, 1) := by decide +kernel
theorem dX9_check_77 : decode cX9_check 77 = .ok (.iload_n 1, 1) := by decide +kernel
theorem dX9_check_78 : decode cX9_check 78 = .ok (.invokevirtual 103, 3) := by decide +kernel
theorem dX9_check_81 : decode cX9_check 81 = .ok (.iinc 1 1, 3) := by decide +kernel
theorem dX9_check_84 : decode cX9_check 84 = .ok (.goto (-29), 3) := by decide +kernel
theorem dX9_check_87 : decode cX9_check 87 = .ok (.return_, 1) := by decide +kernel
theorem dX9_step_0 : decode cX9_step 0 = .ok (.aload_n 0, 1) := by decide +kernel
theorem dX9_step_1 : decode cX9_step 1 = .ok (.getfield 48, 3) := by decide +kernel
theorem dX9_step_4 : decode cX9_step 4 = .ok (.getfield 107, 3) := by decide +kernel
theorem dX9_step_7 : decode cX9_step 7 = .ok (.iload_n 1, 1) := by decide +kernel
theorem dX9_step_8 : decode cX9_step 8 = .ok (.aaload, 1) := by decide +kernel
theorem dX9_step_9 : decode cX9_step 9 = .ok (.astore_n 2, 1) := by decide +kernel
theorem dX9_step_10 : decode cX9_step 10 = .ok (.aload_n 2, 1) := by decide +kernel
theorem dX9_step_11 : decode cX9_step 11 = .ok (.invokevirtual 111, 3) := by decide +kernel
theorem dX9_step_14 : decode cX9_step 14 = .ok (.getstatic 117, 3) := by decide +kernel
theorem dX9_step_17 : decode cX9_step 17 = .ok (.invokevirtual 111, 3) := by decide +kernel
theorem dX9_step_20 : decode cX9_step 20 = .ok (.if_icmp .lt 11, 3) := by decide +kernel
theorem dX9_step_23 : decode cX9_step 23 = .ok (.aload_n 0, 1) := by decide +kernel
theorem dX9_step_24 : decode cX9_step 24 = .ok (.iload_n 1, 1) := by decide +kernel
theorem dX9_step_25 : decode cX9_step 25 = .ok (.invokevirtual 121, 3) := by decide +kernel
theorem dX9_step_28 : decode cX9_step 28 = .ok (.goto 29, 3) := by decide +kernel
theorem dX9_step_31 : decode cX9_step 31 = .ok (.aload_n 2, 1) := by decide +kernel
theorem dX9_step_32 : decode cX9_step 32 = .ok (.invokevirtual 111, 3) := by decide +kernel
theorem dX9_step_35 : decode cX9_step 35 = .ok (.getstatic 124, 3) := by decide +kernel
theorem dX9_step_38 : decode cX9_step 38 = .ok (.invokevirtual 111, 3) := by decide +kernel
theorem dX9_step_41 : decode cX9_step 41 = .ok (.if_icmp .lt 11, 3) := by decide +kernel
theorem dX9_step_44 : decode cX9_step 44 = .ok (.aload_n 0, 1) := by decide +kernel
theorem dX9_step_45 : decode cX9_step 45 = .ok (.iload_n 1, 1) := by decide +kernel
theorem dX9_step_46 : decode cX9_step 46 = .ok (.invokevirtual 127, 3) := by decide +kernel
theorem dX9_step_49 : decode cX9_step 49 = .ok (.goto 8, 3) := by decide +kernel
theorem dX9_step_52 : decode cX9_step 52 = .ok (.aload_n 0, 1) := by decide +kernel
theorem dX9_step_53 : decode cX9_step 53 = .ok (.iload_n 1, 1) := by decide +kernel
theorem dX9_step_54 : decode cX9_step 54 = .ok (.invokevirtual 130, 3) := by decide +kernel
theorem dX9_step_57 : decode cX9_step 57 = .ok (.return_, 1) := by decide +kernel
theorem dX9_operator_0 : decode cX9_operator 0 = .ok (.aload_n 0, 1) := by decide +kernel
theorem dX9_operator_1 : decode cX9_operator 1 = .ok (.getfield 48, 3) := by decide +kernel
theorem dX9_operator_4 : decode cX9_operator 4 = .ok (.getfield 136, 3) := by decide +kernel
theorem dX9_operator_7 : decode cX9_operator 7 = .ok (.iload_n 1, 1) := by decide +kernel
theorem dX9_operator_8 : decode cX9_operator 8 = .ok (.iaload, 1) := by decide +kernel
theorem dX9_operator_9 : decode cX9_operator 9 = .ok (.istore_n 2, 1) := by decide +kernel
theorem dX9_operator_10 : decode cX9_operator 10 = .ok (.aload_n 0, 1) := by decide +kernel
theorem dX9_operator_11 : decode cX9_operator 11 = .ok (.getfield 48, 3) := by decide +kernel
theorem dX9_operator_14 : decode cX9_operator 14 = .ok (.getfield 107, 3) := by decide +kernel
theorem dX9_operator_17 : decode cX9_operator 17 = .ok (.iload_n 1, 1) := by decide +kernel
theorem dX9_operator_18 : decode cX9_operator 18 = .ok (.aaload, 1) := by decide +kernel
theorem dX9_operator_19 : decode cX9_operator 19 = .ok (.astore_n 3, 1) := by decide +kernel
theorem dX9_operator_20 : decode cX9_operator 20 = .ok (.aload_n 0, 1) := by decide +kernel
theorem dX9_operator_21 : decode cX9_operator 21 = .ok (.getfield 56, 3) := by decide +kernel
theorem dX9_operator_24 : decode cX9_operator 24 = .ok (.iconst 1, 1) := by decide +kernel
theorem dX9_operator_25 : decode cX9_operator 25 = .ok (.isub, 1) := by decide +kernel
theorem dX9_operator_26 : decode cX9_operator 26 = .ok (.istore 4, 2) := by decide +kernel
theorem dX9_operator_28 : decode cX9_operator 28 = .ok (.aload_n 3, 1) := by decide +kernel
theorem dX9_operator_29 : decode cX9_operator 29 = .ok (.invokevirtual 111, 3) := by decide +kernel
theorem dX9_operator_32 : decode cX9_operator 32 = .ok (.tableswitch 235 56 60 #[36, 36, 67, 99, 232], 36) := by decide +kernel
theorem dX9_operator_68 : decode cX9_operator 68 = .ok (.aload_n 0, 1) := by decide +kernel
theorem dX9_operator_69 : decode cX9_operator 69 = .ok (.aload_n 0, 1) := by decide +kernel
theorem dX9_operator_70 : decode cX9_operator 70 = .ok (.getfield 18, 3) := by decide +kernel
theorem dX9_operator_73 : decode cX9_operator 73 = .ok (.iload 4, 2) := by decide +kernel
theorem dX9_operator_75 : decode cX9_operator 75 = .ok (.iaload, 1) := by decide +kernel
theorem dX9_operator_76 : decode cX9_operator 76 = .ok (.ifCond .ne 7, 3) := by decide +kernel
theorem dX9_operator_79 : decode cX9_operator 79 = .ok (.iconst 1, 1) := by decide +kernel
theorem dX9_operator_80 : decode cX9_operator 80 = .ok (.goto 4, 3) := by decide +kernel
theorem dX9_operator_83 : decode cX9_operator 83 = .ok (.iconst 0, 1) := by decide +kernel
theorem dX9_operator_84 : decode cX9_operator 84 = .ok (.iload_n 2, 1) := by decide +kernel
theorem dX9_operator_85 : decode cX9_operator 85 = .ok (.invokevirtual 159, 3) := by decide +kernel
theorem dX9_operator_88 : decode cX9_operator 88 = .ok (.aload_n 0, 1) := by decide +kernel
theorem dX9_operator_89 : decode cX9_operator 89 = .ok (.getfield 22, 3) := by decide +kernel
theorem dX9_operator_92 : decode cX9_operator 92 = .ok (.iload 4, 2) := by decide +kernel
theorem dX9_operator_94 : decode cX9_operator 94 = .ok (.iload_n 2, 1) := by decide +kernel
theorem dX9_operator_95 : decode cX9_operator 95 = .ok (.iastore, 1) := by decide +kernel
theorem dX9_operator_96 : decode cX9_operator 96 = .ok (.goto 176, 3) := by decide +kernel
theorem dX9_operator_99 : decode cX9_operator 99 = .ok (.aload_n 0, 1) := by decide +kernel
theorem dX9_operator_100 : decode cX9_operator 100 = .ok (.aload_n 0, 1) := by decide +kernel
theorem dX9_operator_101 : decode cX9_operator 101 = .ok (.getfield 18, 3) := by decide +kernel
theorem dX9_operator_104 : decode cX9_operator 104 = .ok (.iload 4, 2) := by decide +kernel
theorem dX9_operator_106 : decode cX9_operator 106 = .ok (.iaload, 1) := by decide +kernel
theorem dX9_operator_107 : decode cX9_operator 107 = .ok (.iconst 1, 1) := by decide +kernel
theorem dX9_operator_108 : decode cX9_operator 108 = .ok (.if_icmp .ne 7, 3) := by decide +kernel
theorem dX9_operator_111 : decode cX9_operator 111 = .ok (.iconst 1, 1) := by decide +kernel
theorem dX9_operator_112 : decode cX9_operator 112 = .ok (.goto 4, 3) := by decide +kernel
theorem dX9_operator_115 : decode cX9_operator 115 = .ok (.iconst 0, 1) := by decide +kernel
theorem dX9_operator_116 : decode cX9_operator 116 = .ok (.iload_n 2, 1) := by decide +kernel
theorem dX9_operator_117 : decode cX9_operator 117 = .ok (.invokevirtual 159, 3) := by decide +kernel
theorem dX9_operator_120 : decode cX9_operator 120 = .ok (.aload_n 0, 1) := by decide +kernel
theorem dX9_operator_121 : decode cX9_operator 121 = .ok (.getfield 22, 3) := by decide +kernel
theorem dX9_operator_124 : decode cX9_operator 124 = .ok (.iload 4, 2) := by decide +kernel
theorem dX9_operator_126 : decode cX9_operator 126 = .ok (.iload_n 2, 1) := by decide +kernel
theorem dX9_operator_127 : decode cX9_operator 127 = .ok (.iastore, 1) := by decide +kernel
theorem dX9_operator_128 : decode cX9_operator 128 = .ok (.goto 144, 3) := by decide +kernel
theorem dX9_operator_131 : decode cX9_operator 131 = .ok (.aload_n 0, 1) := by decide +kernel
theorem dX9_operator_132 : decode cX9_operator 132 = .ok (.aload_n 0, 1) := by decide +kernel
theorem dX9_operator_133 : decode cX9_operator 133 = .ok (.getfield 18, 3) := by decide +kernel
theorem dX9_operator_136 : decode cX9_operator 136 = .ok (.aload_n 0, 1) := by decide +kernel
theorem dX9_operator_137 : decode cX9_operator 137 = .ok (.getfield 56, 3) := by decide +kernel
theorem dX9_operator_140 : decode cX9_operator 140 = .ok (.iconst 3, 1) := by decide +kernel
theorem dX9_operator_141 : decode cX9_operator 141 = .ok (.isub, 1) := by decide +kernel
theorem dX9_operator_142 : decode cX9_operator 142 = .ok (.iaload, 1) := by decide +kernel
theorem dX9_operator_143 : decode cX9_operator 143 = .ok (.iconst 1, 1) := by decide +kernel
theorem dX9_operator_144 : decode cX9_operator 144 = .ok (.if_icmp .ne 28, 3) := by decide +kernel
theorem dX9_operator_147 : decode cX9_operator 147 = .ok (.aload_n 0, 1) := by decide +kernel
theorem dX9_operator_148 : decode cX9_operator 148 = .ok (.getfield 18, 3) := by decide +kernel
theorem dX9_operator_151 : decode cX9_operator 151 = .ok (.aload_n 0, 1) := by decide +kernel
theorem dX9_operator_152 : decode cX9_operator 152 = .ok (.getfield 56, 3) := by decide +kernel
theorem dX9_operator_155 : decode cX9_operator 155 = .ok (.iconst 2, 1) := by decide +kernel
theorem dX9_operator_156 : decode cX9_operator 156 = .ok (.isub, 1) := by decide +kernel
theorem dX9_operator_157 : decode cX9_operator 157 = .ok (.iaload, 1) := by decide +kernel
theorem dX9_operator_158 : decode cX9_operator 158 = .ok (.aload_n 0, 1) := by decide +kernel
theorem dX9_operator_159 : decode cX9_operator 159 = .ok (.getfield 18, 3) := by decide +kernel
theorem dX9_operator_162 : decode cX9_operator 162 = .ok (.iload 4, 2) := by decide +kernel
theorem dX9_operator_164 : decode cX9_operator 164 = .ok (.iaload, 1) := by decide +kernel
theorem dX9_operator_165 : decode cX9_operator 165 = .ok (.if_icmp .ne 7, 3) := by decide +kernel
theorem dX9_operator_168 : decode cX9_operator 168 = .ok (.iconst 1, 1) := by decide +kernel
theorem dX9_operator_169 : decode cX9_operator 169 = .ok (.goto 4, 3) := by decide +kernel
theorem dX9_operator_172 : decode cX9_operator 172 = .ok (.iconst 0, 1) := by decide +kernel
theorem dX9_operator_173 : decode cX9_operator 173 = .ok (.iload_n 2, 1) := by decide +kernel
theorem dX9_operator_174 : decode cX9_operator 174 = .ok (.invokevirtual 159, 3) := by decide +kernel
theorem dX9_operator_177 : decode cX9_operator 177 = .ok (.aload_n 0, 1) := by decide +kernel
theorem dX9_operator_178 : decode cX9_operator 178 = .ok (.getfield 48, 3) := by decide +kernel
theorem dX9_operator_181 : decode cX9_operator 181 = .ok (.getfield 143, 3) := by decide +kernel
theorem dX9_operator_184 : decode cX9_operator 184 = .ok (.iload_n 1, 1) := by decide +kernel
theorem dX9_operator_185 : decode cX9_operator 185 = .ok (.aload_n 0, 1) := by decide +kernel
theorem dX9_operator_186 : decode cX9_operator 186 = .ok (.getfield 18, 3) := by decide +kernel
theorem dX9_operator_189 : decode cX9_operator 189 = .ok (.iload 4, 2) := by decide +kernel
theorem dX9_operator_191 : decode cX9_operator 191 = .ok (.iaload, 1) := by decide +kernel
theorem dX9_operator_192 : decode cX9_operator 192 = .ok (.iastore, 1) := by decide +kernel
theorem dX9_operator_193 : decode cX9_operator 193 = .ok (.aload_n 0, 1) := by decide +kernel
theorem dX9_operator_194 : decode cX9_operator 194 = .ok (.dup, 1) := by decide +kernel
theorem dX9_operator_195 : decode cX9_operator 195 = .ok (.getfield 56, 3) := by decide +kernel
theorem dX9_operator_198 : decode cX9_operator 198 = .ok (.iconst 2, 1) := by decide +kernel
theorem dX9_operator_199 : decode cX9_operator 199 = .ok (.isub, 1) := by decide +kernel
theorem dX9_operator_200 : decode cX9_operator 200 = .ok (.putfield 56, 3) := by decide +kernel
theorem dX9_operator_203 : decode cX9_operator 203 = .ok (.aload_n 0, 1) := by decide +kernel
theorem dX9_operator_204 : decode cX9_operator 204 = .ok (.aload_n 0, 1) := by decide +kernel
theorem dX9_operator_205 : decode cX9_operator 205 = .ok (.getfield 18, 3) := by decide +kernel
theorem dX9_operator_208 : decode cX9_operator 208 = .ok (.aload_n 0, 1) := by decide +kernel
theorem dX9_operator_209 : decode cX9_operator 209 = .ok (.getfield 56, 3) := by decide +kernel
theorem dX9_operator_212 : decode cX9_operator 212 = .ok (.iaload, 1) := by decide +kernel
theorem dX9_operator_213 : decode cX9_operator 213 = .ok (.aload_n 0, 1) := by decide +kernel
theorem dX9_operator_214 : decode cX9_operator 214 = .ok (.getfield 25, 3) := by decide +kernel
theorem dX9_operator_217 : decode cX9_operator 217 = .ok (.aload_n 0, 1) := by decide +kernel
theorem dX9_operator_218 : decode cX9_operator 218 = .ok (.getfield 56, 3) := by decide +kernel
theorem dX9_operator_221 : decode cX9_operator 221 = .ok (.iconst 1, 1) := by decide +kernel
theorem dX9_operator_222 : decode cX9_operator 222 = .ok (.isub, 1) := by decide +kernel
theorem dX9_operator_223 : decode cX9_operator 223 = .ok (.baload, 1) := by decide +kernel
theorem dX9_operator_224 : decode cX9_operator 224 = .ok (.ifCond .eq 33, 3) := by decide +kernel
theorem dX9_operator_227 : decode cX9_operator 227 = .ok (.aload_n 0, 1) := by decide +kernel
theorem dX9_operator_228 : decode cX9_operator 228 = .ok (.getfield 25, 3) := by decide +kernel
theorem dX9_operator_231 : decode cX9_operator 231 = .ok (.aload_n 0, 1) := by decide +kernel
theorem dX9_operator_232 : decode cX9_operator 232 = .ok (.getfield 56, 3) := by decide +kernel
theorem dX9_operator_235 : decode cX9_operator 235 = .ok (.baload, 1) := by decide +kernel
theorem dX9_operator_236 : decode cX9_operator 236 = .ok (.ifCond .eq 21, 3) := by decide +kernel
theorem dX9_operator_239 : decode cX9_operator 239 = .ok (.aload_n 0, 1) := by decide +kernel
theorem dX9_operator_240 : decode cX9_operator 240 = .ok (.getfield 25, 3) := by decide +kernel
theorem dX9_operator_243 : decode cX9_operator 243 = .ok (.aload_n 0, 1) := by decide +kernel
theorem dX9_operator_244 : decode cX9_operator 244 = .ok (.getfield 56, 3) := by decide +kernel
theorem dX9_operator_247 : decode cX9_operator 247 = .ok (.iconst 1, 1) := by decide +kernel
theorem dX9_operator_248 : decode cX9_operator 248 = .ok (.iadd, 1) := by decide +kernel
theorem dX9_operator_249 : decode cX9_operator 249 = .ok (.baload, 1) := by decide +kernel
theorem dX9_operator_250 : decode cX9_operator 250 = .ok (.ifCond .eq 7, 3) := by decide +kernel
theorem dX9_operator_253 : decode cX9_operator 253 = .ok (.iconst 1, 1) := by decide +kernel
theorem dX9_operator_254 : decode cX9_operator 254 = .ok (.goto 4, 3) := by decide +kernel
theorem dX9_operator_257 : decode cX9_operator 257 = .ok (.iconst 0, 1) := by decide +kernel
theorem dX9_operator_258 : decode cX9_operator 258 = .ok (.invokevirtual 203, 3) := by decide +kernel
theorem dX9_operator_261 : decode cX9_operator 261 = .ok (.goto 11, 3) := by decide +kernel
theorem dX9_operator_264 : decode cX9_operator 264 = .ok (.goto 8, 3) := by decide +kernel
theorem dX9_operator_267 : decode cX9_operator 267 = .ok (.aload_n 0, 1) := by decide +kernel
theorem dX9_operator_268 : decode cX9_operator 268 = .ok (.iload_n 1, 1) := by decide +kernel
theorem dX9_operator_269 : decode cX9_operator 269 = .ok (.invokevirtual 210, 3) := by decide +kernel
theorem dX9_operator_272 : decode cX9_operator 272 = .ok (.return_, 1) := by decide +kernel
theorem dX9_need_0 : decode cX9_need 0 = .ok (.iload_n 1, 1) := by decide +kernel
theorem dX9_need_1 : decode cX9_need 1 = .ok (.ifCond .ne 12, 3) := by decide +kernel
theorem dX9_need_4 : decode cX9_need 4 = .ok (.aload_n 0, 1) := by decide +kernel
theorem dX9_need_5 : decode cX9_need 5 = .ok (.getfield 52, 3) := by decide +kernel
theorem dX9_need_8 : decode cX9_need 8 = .ok (.iconst 5, 1) := by decide +kernel
theorem dX9_need_9 : decode cX9_need 9 = .ok (.iload_n 2, 1) := by decide +kernel
theorem dX9_need_10 : decode cX9_need 10 = .ok (.invokevirtual 59, 3) := by decide +kernel
theorem dX9_need_13 : decode cX9_need 13 = .ok (.return_, 1) := by decide +kernel
theorem dX9_become_0 : decode cX9_become 0 = .ok (.aload_n 0, 1) := by decide +kernel
theorem dX9_become_1 : decode cX9_become 1 = .ok (.getfield 18, 3) := by decide +kernel
theorem dX9_become_4 : decode cX9_become 4 = .ok (.aload_n 0, 1) := by decide +kernel
theorem dX9_become_5 : decode cX9_become 5 = .ok (.getfield 56, 3) := by decide +kernel
theorem dX9_become_8 : decode cX9_become 8 = .ok (.iconst 1, 1) := by decide +kernel
theorem dX9_become_9 : decode cX9_become 9 = .ok (.isub, 1) := by decide +kernel
theorem dX9_become_10 : decode cX9_become 10 = .ok (.iload_n 1, 1) := by decide +kernel
theorem dX9_become_11 : decode cX9_become 11 = .ok (.iastore, 1) := by decide +kernel
theorem dX9_become_12 : decode cX9_become 12 = .ok (.aload_n 0, 1) := by decide +kernel
theorem dX9_become_13 : decode cX9_become 13 = .ok (.getfield 25, 3) := by decide +kernel
theorem dX9_become_16 : decode cX9_become 16 = .ok (.aload_n 0, 1) := by decide +kernel
theorem dX9_become_17 : decode cX9_become 17 = .ok (.getfield 56, 3) := by decide +kernel
theorem dX9_become_20 : decode cX9_become 20 = .ok (.iconst 1, 1) := by decide +kernel
theorem dX9_become_21 : decode cX9_become 21 = .ok (.isub, 1) := by decide +kernel
theorem dX9_become_22 : decode cX9_become 22 = .ok (.iload_n 2, 1) := by decide +kernel
theorem dX9_become_23 : decode cX9_become 23 = .ok (.bastore, 1) := by decide +kernel
theorem dX9_become_24 : decode cX9_become 24 = .ok (.return_, 1) := by decide +kernel
theorem dX9_two_0 : decode cX9_two 0 = .ok (.aload_n 0, 1) := by decide +kernel
theorem dX9_two_1 : decode cX9_two 1 = .ok (.getfield 48, 3) := by decide +kernel
theorem dX9_two_4 : decode cX9_two 4 = .ok (.getfield 107, 3) := by decide +kernel
theorem dX9_two_7 : decode cX9_two 7 = .ok (.iload_n 1, 1) := by decide +kernel
theorem dX9_two_8 : decode cX9_two 8 = .ok (.aaload, 1) := by decide +kernel
theorem dX9_two_9 : decode cX9_two 9 = .ok (.astore_n 2, 1) := by decide +kernel
theorem dX9_two_10 : decode cX9_two 10 = .ok (.aload_n 0, 1) := by decide +kernel
theorem dX9_two_11 : decode cX9_two 11 = .ok (.getfield 48, 3) := by decide +kernel
theorem dX9_two_14 : decode cX9_two 14 = .ok (.getfield 136, 3) := by decide +kernel
theorem dX9_two_17 : decode cX9_two 17 = .ok (.iload_n 1, 1) := by decide +kernel
theorem dX9_two_18 : decode cX9_two 18 = .ok (.iaload, 1) := by decide +kernel
theorem dX9_two_19 : decode cX9_two 19 = .ok (.istore_n 3, 1) := by decide +kernel
theorem dX9_two_20 : decode cX9_two 20 = .ok (.aload_n 0, 1) := by decide +kernel
theorem dX9_two_21 : decode cX9_two 21 = .ok (.getfield 18, 3) := by decide +kernel
theorem dX9_two_24 : decode cX9_two 24 = .ok (.aload_n 0, 1) := by decide +kernel
theorem dX9_two_25 : decode cX9_two 25 = .ok (.getfield 56, 3) := by decide +kernel
theorem dX9_two_28 : decode cX9_two 28 = .ok (.iconst 2, 1) := by decide +kernel
theorem dX9_two_29 : decode cX9_two 29 = .ok (.isub, 1) := by decide +kernel
theorem dX9_two_30 : decode cX9_two 30 = .ok (.iaload, 1) := by decide +kernel
theorem dX9_two_31 : decode cX9_two 31 = .ok (.istore 4, 2) := by decide +kernel
theorem dX9_two_33 : decode cX9_two 33 = .ok (.aload_n 0, 1) := by decide +kernel
theorem dX9_two_34 : decode cX9_two 34 = .ok (.getfield 18, 3) := by decide +kernel
theorem dX9_two_37 : decode cX9_two 37 = .ok (.aload_n 0, 1) := by decide +kernel
theorem dX9_two_38 : decode cX9_two 38 = .ok (.getfield 56, 3) := by decide +kernel
theorem dX9_two_41 : decode cX9_two 41 = .ok (.iconst 1, 1) := by decide +kernel
theorem dX9_two_42 : decode cX9_two 42 = .ok (.isub, 1) := by decide +kernel
theorem dX9_two_43 : decode cX9_two 43 = .ok (.iaload, 1) := by decide +kernel
theorem dX9_two_44 : decode cX9_two 44 = .ok (.istore 5, 2) := by decide +kernel
theorem dX9_two_46 : decode cX9_two 46 = .ok (.aload_n 2, 1) := by decide +kernel
theorem dX9_two_47 : decode cX9_two 47 = .ok (.getstatic 213, 3) := by decide +kernel
theorem dX9_two_50 : decode cX9_two 50 = .ok (.if_acmp .eq 10, 3) := by decide +kernel
theorem dX9_two_53 : decode cX9_two 53 = .ok (.aload_n 2, 1) := by decide +kernel
theorem dX9_two_54 : decode cX9_two 54 = .ok (.getstatic 216, 3) := by decide +kernel
theorem dX9_two_57 : decode cX9_two 57 = .ok (.if_acmp .ne 7, 3) := by decide +kernel
theorem dX9_two_60 : decode cX9_two 60 = .ok (.iconst 1, 1) := by decide +kernel
theorem dX9_two_61 : decode cX9_two 61 = .ok (.goto 4, 3) := by decide +kernel
theorem dX9_two_64 : decode cX9_two 64 = .ok (.iconst 0, 1) := by decide +kernel
theorem dX9_two_65 : decode cX9_two 65 = .ok (.istore 6, 2) := by decide +kernel
theorem dX9_two_67 : decode cX9_two 67 = .ok (.aload_n 2, 1) := by decide +kernel
theorem dX9_two_68 : decode cX9_two 68 = .ok (.getstatic 219, 3) := by decide +kernel
theorem dX9_two_71 : decode cX9_two 71 = .ok (.if_acmp .eq 31, 3) := by decide +kernel
theorem dX9_two_74 : decode cX9_two 74 = .ok (.aload_n 2, 1) := by decide +kernel
theorem dX9_two_75 : decode cX9_two 75 = .ok (.getstatic 222, 3) := by decide +kernel
theorem dX9_two_78 : decode cX9_two 78 = .ok (.if_acmp .eq 24, 3) := by decide +kernel
theorem dX9_two_81 : decode cX9_two 81 = .ok (.aload_n 2, 1) := by decide +kernel
theorem dX9_two_82 : decode cX9_two 82 = .ok (.getstatic 225, 3) := by decide +kernel
theorem dX9_two_85 : decode cX9_two 85 = .ok (.if_acmp .eq 17, 3) := by decide +kernel
theorem dX9_two_88 : decode cX9_two 88 = .ok (.aload_n 2, 1) := by decide +kernel
theorem dX9_two_89 : decode cX9_two 89 = .ok (.getstatic 228, 3) := by decide +kernel
theorem dX9_two_92 : decode cX9_two 92 = .ok (.if_acmp .eq 10, 3) := by decide +kernel
theorem dX9_two_95 : decode cX9_two 95 = .ok (.aload_n 2, 1) := by decide +kernel
theorem dX9_two_96 : decode cX9_two 96 = .ok (.getstatic 231, 3) := by decide +kernel
theorem dX9_two_99 : decode cX9_two 99 = .ok (.if_acmp .ne 7, 3) := by decide +kernel
theorem dX9_two_102 : decode cX9_two 102 = .ok (.iconst 1, 1) := by decide +kernel
theorem dX9_two_103 : decode cX9_two 103 = .ok (.goto 4, 3) := by decide +kernel
theorem dX9_two_106 : decode cX9_two 106 = .ok (.iconst 0, 1) := by decide +kernel
theorem dX9_two_107 : decode cX9_two 107 = .ok (.istore 7, 2) := by decide +kernel
theorem dX9_two_109 : decode cX9_two 109 = .ok (.aload_n 2, 1) := by decide +kernel
theorem dX9_two_110 : decode cX9_two 110 = .ok (.getstatic 117, 3) := by decide +kernel
theorem dX9_two_113 : decode cX9_two 113 = .ok (.if_acmp .eq 10, 3) := by decide +kernel
theorem dX9_two_116 : decode cX9_two 116 = .ok (.aload_n 2, 1) := by decide +kernel
theorem dX9_two_117 : decode cX9_two 117 = .ok (.getstatic 234, 3) := by decide +kernel
theorem dX9_two_120 : decode cX9_two 120 = .ok (.if_acmp .ne 7, 3) := by decide +kernel
theorem dX9_two_123 : decode cX9_two 123 = .ok (.iconst 1, 1) := by decide +kernel
theorem dX9_two_124 : decode cX9_two 124 = .ok (.goto 4, 3) := by decide +kernel
theorem dX9_two_127 : decode cX9_two 127 = .ok (.iconst 0, 1) := by decide +kernel
theorem dX9_two_128 : decode cX9_two 128 = .ok (.istore 8, 2) := by decide +kernel
theorem dX9_two_130 : decode cX9_two 130 = .ok (.aload_n 0, 1) := by decide +kernel
theorem dX9_two_131 : decode cX9_two 131 = .ok (.iload 4, 2) := by decide +kernel
theorem dX9_two_133 : decode cX9_two 133 = .ok (.iload 5, 2) := by decide +kernel
theorem dX9_two_135 : decode cX9_two 135 = .ok (.if_icmp .ne 27, 3) := by decide +kernel
theorem dX9_two_138 : decode cX9_two 138 = .ok (.iload 7, 2) := by decide +kernel
theorem dX9_two_140 : decode cX9_two 140 = .ok (.ifCond .ne 18, 3) := by decide +kernel
theorem dX9_two_143 : decode cX9_two 143 = .ok (.iload 4, 2) := by decide +kernel
theorem dX9_two_145 : decode cX9_two 145 = .ok (.iload 8, 2) := by decide +kernel
theorem dX9_two_147 : decode cX9_two 147 = .ok (.ifCond .eq 7, 3) := by decide +kernel
theorem dX9_two_150 : decode cX9_two 150 = .ok (.iconst 1, 1) := by decide +kernel
theorem dX9_two_151 : decode cX9_two 151 = .ok (.goto 4, 3) := by decide +kernel
theorem dX9_two_154 : decode cX9_two 154 = .ok (.iconst 0, 1) := by decide +kernel
theorem dX9_two_155 : decode cX9_two 155 = .ok (.if_icmp .ne 7, 3) := by decide +kernel
theorem dX9_two_158 : decode cX9_two 158 = .ok (.iconst 1, 1) := by decide +kernel
theorem dX9_two_159 : decode cX9_two 159 = .ok (.goto 4, 3) := by decide +kernel
theorem dX9_two_162 : decode cX9_two 162 = .ok (.iconst 0, 1) := by decide +kernel
theorem dX9_two_163 : decode cX9_two 163 = .ok (.iload_n 3, 1) := by decide +kernel
theorem dX9_two_164 : decode cX9_two 164 = .ok (.invokevirtual 159, 3) := by decide +kernel
theorem dX9_two_167 : decode cX9_two 167 = .ok (.iload 6, 2) := by decide +kernel
theorem dX9_two_169 : decode cX9_two 169 = .ok (.ifCond .eq 37, 3) := by decide +kernel
theorem dX9_two_172 : decode cX9_two 172 = .ok (.aload_n 0, 1) := by decide +kernel
theorem dX9_two_173 : decode cX9_two 173 = .ok (.getfield 25, 3) := by decide +kernel
theorem dX9_two_176 : decode cX9_two 176 = .ok (.aload_n 0, 1) := by decide +kernel
theorem dX9_two_177 : decode cX9_two 177 = .ok (.getfield 56, 3) := by decide +kernel
theorem dX9_two_180 : decode cX9_two 180 = .ok (.iconst 1, 1) := by decide +kernel
theorem dX9_two_181 : decode cX9_two 181 = .ok (.isub, 1) := by decide +kernel
theorem dX9_two_182 : decode cX9_two 182 = .ok (.baload, 1) := by decide +kernel
theorem dX9_two_183 : decode cX9_two 183 = .ok (.ifCond .ne 23, 3) := by decide +kernel
theorem dX9_two_186 : decode cX9_two 186 = .ok (.aload_n 0, 1) := by decide +kernel
theorem dX9_two_187 : decode cX9_two 187 = .ok (.getfield 52, 3) := by decide +kernel
theorem dX9_two_190 : decode cX9_two 190 = .ok (.bipush 6, 2) := by decide +kernel
theorem dX9_two_192 : decode cX9_two 192 = .ok (.aload_n 0, 1) := by decide +kernel
theorem dX9_two_193 : decode cX9_two 193 = .ok (.getfield 22, 3) := by decide +kernel
theorem dX9_two_196 : decode cX9_two 196 = .ok (.aload_n 0, 1) := by decide +kernel
theorem dX9_two_197 : decode cX9_two 197 = .ok (.getfield 56, 3) := by decide +kernel
theorem dX9_two_200 : decode cX9_two 200 = .ok (.iconst 1, 1) := by decide +kernel
theorem dX9_two_201 : decode cX9_two 201 = .ok (.isub, 1) := by decide +kernel
theorem dX9_two_202 : decode cX9_two 202 = .ok (.iaload, 1) := by decide +kernel
theorem dX9_two_203 : decode cX9_two 203 = .ok (.invokevirtual 59, 3) := by decide +kernel
theorem dX9_two_206 : decode cX9_two 206 = .ok (.aload_n 0, 1) := by decide +kernel
theorem dX9_two_207 : decode cX9_two 207 = .ok (.getfield 48, 3) := by decide +kernel
theorem dX9_two_210 : decode cX9_two 210 = .ok (.getfield 143, 3) := by decide +kernel
theorem dX9_two_213 : decode cX9_two 213 = .ok (.iload_n 1, 1) := by decide +kernel
theorem dX9_two_214 : decode cX9_two 214 = .ok (.iload 6, 2) := by decide +kernel
theorem dX9_two_216 : decode cX9_two 216 = .ok (.ifCond .eq 17, 3) := by decide +kernel
theorem dX9_two_219 : decode cX9_two 219 = .ok (.aload_n 0, 1) := by decide +kernel
theorem dX9_two_220 : decode cX9_two 220 = .ok (.getfield 22, 3) := by decide +kernel
theorem dX9_two_223 : decode cX9_two 223 = .ok (.aload_n 0, 1) := by decide +kernel
theorem dX9_two_224 : decode cX9_two 224 = .ok (.getfield 56, 3) := by decide +kernel
theorem dX9_two_227 : decode cX9_two 227 = .ok (.iconst 1, 1) := by decide +kernel
theorem dX9_two_228 : decode cX9_two 228 = .ok (.isub, 1) := by decide +kernel
theorem dX9_two_229 : decode cX9_two 229 = .ok (.iaload, 1) := by decide +kernel
theorem dX9_two_230 : decode cX9_two 230 = .ok (.goto 5, 3) := by decide +kernel
theorem dX9_two_233 : decode cX9_two 233 = .ok (.iload 4, 2) := by decide +kernel
theorem dX9_two_235 : decode cX9_two 235 = .ok (.iastore, 1) := by decide +kernel
theorem dX9_two_236 : decode cX9_two 236 = .ok (.aload_n 0, 1) := by decide +kernel
theorem dX9_two_237 : decode cX9_two 237 = .ok (.dup, 1) := by decide +kernel
theorem dX9_two_238 : decode cX9_two 238 = .ok (.getfield 56, 3) := by decide +kernel
theorem dX9_two_241 : decode cX9_two 241 = .ok (.iconst 1, 1) := by decide +kernel
theorem dX9_two_242 : decode cX9_two 242 = .ok (.isub, 1) := by decide +kernel
theorem dX9_two_243 : decode cX9_two 243 = .ok (.putfield 56, 3) := by decide +kernel
theorem dX9_two_246 : decode cX9_two 246 = .ok (.iload 8, 2) := by decide +kernel
theorem dX9_two_248 : decode cX9_two 248 = .ok (.ifCond .ne 45, 3) := by decide +kernel
theorem dX9_two_251 : decode cX9_two 251 = .ok (.aload_n 2, 1) := by decide +kernel
theorem dX9_two_252 : decode cX9_two 252 = .ok (.getstatic 228, 3) := by decide +kernel
theorem dX9_two_255 : decode cX9_two 255 = .ok (.if_acmp .eq 38, 3) := by decide +kernel
theorem dX9_two_258 : decode cX9_two 258 = .ok (.aload_n 2, 1) := by decide +kernel
theorem dX9_two_259 : decode cX9_two 259 = .ok (.getstatic 231, 3) := by decide +kernel
theorem dX9_two_262 : decode cX9_two 262 = .ok (.if_acmp .eq 31, 3) := by decide +kernel
theorem dX9_two_265 : decode cX9_two 265 = .ok (.aload_n 2, 1) := by decide +kernel
theorem dX9_two_266 : decode cX9_two 266 = .ok (.getstatic 237, 3) := by decide +kernel
theorem dX9_two_269 : decode cX9_two 269 = .ok (.if_acmp .eq 24, 3) := by decide +kernel
theorem dX9_two_272 : decode cX9_two 272 = .ok (.aload_n 2, 1) := by decide +kernel
theorem dX9_two_273 : decode cX9_two 273 = .ok (.getstatic 240, 3) := by decide +kernel
theorem dX9_two_276 : decode cX9_two 276 = .ok (.if_acmp .eq 17, 3) := by decide +kernel
theorem dX9_two_279 : decode cX9_two 279 = .ok (.aload_n 2, 1) := by decide +kernel
theorem dX9_two_280 : decode cX9_two 280 = .ok (.getstatic 243, 3) := by decide +kernel
theorem dX9_two_283 : decode cX9_two 283 = .ok (.if_acmp .eq 10, 3) := by decide +kernel
theorem dX9_two_286 : decode cX9_two 286 = .ok (.aload_n 2, 1) := by decide +kernel
theorem dX9_two_287 : decode cX9_two 287 = .ok (.getstatic 246, 3) := by decide +kernel
theorem dX9_two_290 : decode cX9_two 290 = .ok (.if_acmp .ne 7, 3) := by decide +kernel
theorem dX9_two_293 : decode cX9_two 293 = .ok (.iconst 1, 1) := by decide +kernel
theorem dX9_two_294 : decode cX9_two 294 = .ok (.goto 4, 3) := by decide +kernel
theorem dX9_two_297 : decode cX9_two 297 = .ok (.iconst 0, 1) := by decide +kernel
theorem dX9_two_298 : decode cX9_two 298 = .ok (.istore 9, 2) := by decide +kernel
theorem dX9_two_300 : decode cX9_two 300 = .ok (.aload_n 0, 1) := by decide +kernel
theorem dX9_two_301 : decode cX9_two 301 = .ok (.iload 9, 2) := by decide +kernel
theorem dX9_two_303 : decode cX9_two 303 = .ok (.ifCond .eq 7, 3) := by decide +kernel
theorem dX9_two_306 : decode cX9_two 306 = .ok (.iconst 1, 1) := by decide +kernel
theorem dX9_two_307 : decode cX9_two 307 = .ok (.goto 5, 3) := by decide +kernel
theorem dX9_two_310 : decode cX9_two 310 = .ok (.iload 4, 2) := by decide +kernel
theorem dX9_two_312 : decode cX9_two 312 = .ok (.aload_n 0, 1) := by decide +kernel
theorem dX9_two_313 : decode cX9_two 313 = .ok (.getfield 25, 3) := by decide +kernel
theorem dX9_two_316 : decode cX9_two 316 = .ok (.aload_n 0, 1) := by decide +kernel
theorem dX9_two_317 : decode cX9_two 317 = .ok (.getfield 56, 3) := by decide +kernel
theorem dX9_two_320 : decode cX9_two 320 = .ok (.iconst 1, 1) := by decide +kernel
theorem dX9_two_321 : decode cX9_two 321 = .ok (.isub, 1) := by decide +kernel
theorem dX9_two_322 : decode cX9_two 322 = .ok (.baload, 1) := by decide +kernel
theorem dX9_two_323 : decode cX9_two 323 = .ok (.ifCond .eq 19, 3) := by decide +kernel
theorem dX9_two_326 : decode cX9_two 326 = .ok (.aload_n 0, 1) := by decide +kernel
theorem dX9_two_327 : decode cX9_two 327 = .ok (.getfield 25, 3) := by decide +kernel
theorem dX9_two_330 : decode cX9_two 330 = .ok (.aload_n 0, 1) := by decide +kernel
theorem dX9_two_331 : decode cX9_two 331 = .ok (.getfield 56, 3) := by decide +kernel
theorem dX9_two_334 : decode cX9_two 334 = .ok (.baload, 1) := by decide +kernel
theorem dX9_two_335 : decode cX9_two 335 = .ok (.ifCond .eq 7, 3) := by decide +kernel
theorem dX9_two_338 : decode cX9_two 338 = .ok (.iconst 1, 1) := by decide +kernel
theorem dX9_two_339 : decode cX9_two 339 = .ok (.goto 4, 3) := by decide +kernel
theorem dX9_two_342 : decode cX9_two 342 = .ok (.iconst 0, 1) := by decide +kernel
theorem dX9_two_343 : decode cX9_two 343 = .ok (.invokevirtual 203, 3) := by decide +kernel
theorem dX9_two_346 : decode cX9_two 346 = .ok (.return_, 1) := by decide +kernel
theorem dX9_factor_0 : decode cX9_factor 0 = .ok (.aload_n 0, 1) := by decide +kernel
theorem dX9_factor_1 : decode cX9_factor 1 = .ok (.getfield 48, 3) := by decide +kernel
theorem dX9_factor_4 : decode cX9_factor 4 = .ok (.getfield 133, 3) := by decide +kernel
theorem dX9_factor_7 : decode cX9_factor 7 = .ok (.iload_n 1, 1) := by decide +kernel
theorem dX9_factor_8 : decode cX9_factor 8 = .ok (.iaload, 1) := by decide +kernel
theorem dX9_factor_9 : decode cX9_factor 9 = .ok (.istore_n 2, 1) := by decide +kernel
theorem dX9_factor_10 : decode cX9_factor 10 = .ok (.aload_n 0, 1) := by decide +kernel
theorem dX9_factor_11 : decode cX9_factor 11 = .ok (.getfield 48, 3) := by decide +kernel
theorem dX9_factor_14 : decode cX9_factor 14 = .ok (.getfield 136, 3) := by decide +kernel
theorem dX9_factor_17 : decode cX9_factor 17 = .ok (.iload_n 1, 1) := by decide +kernel
theorem dX9_factor_18 : decode cX9_factor 18 = .ok (.iaload, 1) := by decide +kernel
theorem dX9_factor_19 : decode cX9_factor 19 = .ok (.istore_n 3, 1) := by decide +kernel
theorem dX9_factor_20 : decode cX9_factor 20 = .ok (.aload_n 0, 1) := by decide +kernel
theorem dX9_factor_21 : decode cX9_factor 21 = .ok (.getfield 48, 3) := by decide +kernel
theorem dX9_factor_24 : decode cX9_factor 24 = .ok (.getfield 107, 3) := by decide +kernel
theorem dX9_factor_27 : decode cX9_factor 27 = .ok (.iload_n 1, 1) := by decide +kernel
theorem dX9_factor_28 : decode cX9_factor 28 = .ok (.aaload, 1) := by decide +kernel
theorem dX9_factor_29 : decode cX9_factor 29 = .ok (.invokevirtual 111, 3) := by decide +kernel
theorem dX9_factor_32 : decode cX9_factor 32 = .ok (.tableswitch 642 22 37 #[80, 90, 90, 100, 108, 148, 218, 306, 387, 642, 395, 642, 461, 498, 642, 627], 80) := by decide +kernel
theorem dX9_factor_112 : decode cX9_factor 112 = .ok (.aload_n 0, 1) := by decide +kernel
theorem dX9_factor_113 : decode cX9_factor 113 = .ok (.iconst 0, 1) := by decide +kernel
theorem dX9_factor_114 : decode cX9_factor 114 = .ok (.iconst 1, 1) := by decide +kernel
theorem dX9_factor_115 : decode cX9_factor 115 = .ok (.iload_n 3, 1) := by decide +kernel
theorem dX9_factor_116 : decode cX9_factor 116 = .ok (.invokevirtual 196, 3) := by decide +kernel
theorem dX9_factor_119 : decode cX9_factor 119 = .ok (.goto 555, 3) := by decide +kernel
theorem dX9_factor_122 : decode cX9_factor 122 = .ok (.aload_n 0, 1) := by decide +kernel
theorem dX9_factor_123 : decode cX9_factor 123 = .ok (.iconst 1, 1) := by decide +kernel
theorem dX9_factor_124 : decode cX9_factor 124 = .ok (.iconst 1, 1) := by decide +kernel
theorem dX9_factor_125 : decode cX9_factor 125 = .ok (.iload_n 3, 1) := by decide +kernel
theorem dX9_factor_126 : decode cX9_factor 126 = .ok (.invokevirtual 196, 3) := by decide +kernel
theorem dX9_factor_129 : decode cX9_factor 129 = .ok (.goto 545, 3) := by decide +kernel
theorem dX9_factor_132 : decode cX9_factor 132 = .ok (.aload_n 0, 1) := by decide +kernel
theorem dX9_factor_133 : decode cX9_factor 133 = .ok (.iload_n 1, 1) := by decide +kernel
theorem dX9_factor_134 : decode cX9_factor 134 = .ok (.invokevirtual 200, 3) := by decide +kernel
theorem dX9_factor_137 : decode cX9_factor 137 = .ok (.goto 537, 3) := by decide +kernel
theorem dX9_factor_140 : decode cX9_factor 140 = .ok (.aload_n 0, 1) := by decide +kernel
theorem dX9_factor_141 : decode cX9_factor 141 = .ok (.iload_n 2, 1) := by decide +kernel
theorem dX9_factor_142 : decode cX9_factor 142 = .ok (.iload_n 3, 1) := by decide +kernel
theorem dX9_factor_143 : decode cX9_factor 143 = .ok (.invokevirtual 180, 3) := by decide +kernel
theorem dX9_factor_146 : decode cX9_factor 146 = .ok (.istore 4, 2) := by decide +kernel
theorem dX9_factor_148 : decode cX9_factor 148 = .ok (.iload 4, 2) := by decide +kernel
theorem dX9_factor_150 : decode cX9_factor 150 = .ok (.iconst (-1), 1) := by decide +kernel
theorem dX9_factor_151 : decode cX9_factor 151 = .ok (.if_icmp .eq 523, 3) := by decide +kernel
theorem dX9_factor_154 : decode cX9_factor 154 = .ok (.aload_n 0, 1) := by decide +kernel
theorem dX9_factor_155 : decode cX9_factor 155 = .ok (.aload_n 0, 1) := by decide +kernel
theorem dX9_factor_156 : decode cX9_factor 156 = .ok (.getfield 12, 3) := by decide +kernel
theorem dX9_factor_159 : decode cX9_factor 159 = .ok (.getfield 189, 3) := by decide +kernel
theorem dX9_factor_162 : decode cX9_factor 162 = .ok (.iload 4, 2) := by decide +kernel
theorem dX9_factor_164 : decode cX9_factor 164 = .ok (.iaload, 1) := by decide +kernel
theorem dX9_factor_165 : decode cX9_factor 165 = .ok (.ifCond .le 7, 3) := by decide +kernel
theorem dX9_factor_168 : decode cX9_factor 168 = .ok (.iconst 1, 1) := by decide +kernel
theorem dX9_factor_169 : decode cX9_factor 169 = .ok (.goto 4, 3) := by decide +kernel
theorem dX9_factor_172 : decode cX9_factor 172 = .ok (.iconst 0, 1) := by decide +kernel
theorem dX9_factor_173 : decode cX9_factor 173 = .ok (.iload_n 3, 1) := by decide +kernel
theorem dX9_factor_174 : decode cX9_factor 174 = .ok (.invokevirtual 159, 3) := by decide +kernel
theorem dX9_factor_177 : decode cX9_factor 177 = .ok (.goto 497, 3) := by decide +kernel
theorem dX9_factor_180 : decode cX9_factor 180 = .ok (.aload_n 0, 1) := by decide +kernel
theorem dX9_factor_181 : decode cX9_factor 181 = .ok (.aload_n 0, 1) := by decide +kernel
theorem dX9_factor_182 : decode cX9_factor 182 = .ok (.getfield 18, 3) := by decide +kernel
theorem dX9_factor_185 : decode cX9_factor 185 = .ok (.aload_n 0, 1) := by decide +kernel
theorem dX9_factor_186 : decode cX9_factor 186 = .ok (.getfield 56, 3) := by decide +kernel
theorem dX9_factor_189 : decode cX9_factor 189 = .ok (.iconst 1, 1) := by decide +kernel
theorem dX9_factor_190 : decode cX9_factor 190 = .ok (.isub, 1) := by decide +kernel
theorem dX9_factor_191 : decode cX9_factor 191 = .ok (.iaload, 1) := by decide +kernel
theorem dX9_factor_192 : decode cX9_factor 192 = .ok (.ifCond .ne 7, 3) := by decide +kernel
theorem dX9_factor_195 : decode cX9_factor 195 = .ok (.iconst 1, 1) := by decide +kernel
theorem dX9_factor_196 : decode cX9_factor 196 = .ok (.goto 4, 3) := by decide +kernel
theorem dX9_factor_199 : decode cX9_factor 199 = .ok (.iconst 0, 1) := by decide +kernel
theorem dX9_factor_200 : decode cX9_factor 200 = .ok (.aload_n 0, 1) := by decide +kernel
theorem dX9_factor_201 : decode cX9_factor 201 = .ok (.getfield 22, 3) := by decide +kernel
theorem dX9_factor_204 : decode cX9_factor 204 = .ok (.aload_n 0, 1) := by decide +kernel
theorem dX9_factor_205 : decode cX9_factor 205 = .ok (.getfield 56, 3) := by decide +kernel
theorem dX9_factor_208 : decode cX9_factor 208 = .ok (.iconst 1, 1) := by decide +kernel
theorem dX9_factor_209 : decode cX9_factor 209 = .ok (.isub, 1) := by decide +kernel
theorem dX9_factor_210 : decode cX9_factor 210 = .ok (.iaload, 1) := by decide +kernel
theorem dX9_factor_211 : decode cX9_factor 211 = .ok (.invokevirtual 159, 3) := by decide +kernel
theorem dX9_factor_214 : decode cX9_factor 214 = .ok (.aload_n 0, 1) := by decide +kernel
theorem dX9_factor_215 : decode cX9_factor 215 = .ok (.iload_n 1, 1) := by decide +kernel
theorem dX9_factor_216 : decode cX9_factor 216 = .ok (.invokevirtual 163, 3) := by decide +kernel
theorem dX9_factor_219 : decode cX9_factor 219 = .ok (.aload_n 0, 1) := by decide +kernel
theorem dX9_factor_220 : decode cX9_factor 220 = .ok (.aload_n 0, 1) := by decide +kernel
theorem dX9_factor_221 : decode cX9_factor 221 = .ok (.getfield 48, 3) := by decide +kernel
theorem dX9_factor_224 : decode cX9_factor 224 = .ok (.getfield 143, 3) := by decide +kernel
theorem dX9_factor_227 : decode cX9_factor 227 = .ok (.iload_n 1, 1) := by decide +kernel
theorem dX9_factor_228 : decode cX9_factor 228 = .ok (.iaload, 1) := by decide +kernel
theorem dX9_factor_229 : decode cX9_factor 229 = .ok (.iconst 1, 1) := by decide +kernel
theorem dX9_factor_230 : decode cX9_factor 230 = .ok (.iand, 1) := by decide +kernel
theorem dX9_factor_231 : decode cX9_factor 231 = .ok (.iconst 0, 1) := by decide +kernel
theorem dX9_factor_232 : decode cX9_factor 232 = .ok (.invokevirtual 203, 3) := by decide +kernel
theorem dX9_factor_235 : decode cX9_factor 235 = .ok (.aload_n 0, 1) := by decide +kernel
theorem dX9_factor_236 : decode cX9_factor 236 = .ok (.getfield 22, 3) := by decide +kernel
theorem dX9_factor_239 : decode cX9_factor 239 = .ok (.aload_n 0, 1) := by decide +kernel
theorem dX9_factor_240 : decode cX9_factor 240 = .ok (.getfield 56, 3) := by decide +kernel
theorem dX9_factor_243 : decode cX9_factor 243 = .ok (.iconst 1, 1) := by decide +kernel
theorem dX9_factor_244 : decode cX9_factor 244 = .ok (.isub, 1) := by decide +kernel
theorem dX9_factor_245 : decode cX9_factor 245 = .ok (.iload_n 3, 1) := by decide +kernel
theorem dX9_factor_246 : decode cX9_factor 246 = .ok (.iastore, 1) := by decide +kernel
theorem dX9_factor_247 : decode cX9_factor 247 = .ok (.goto 427, 3) := by decide +kernel
theorem dX9_factor_250 : decode cX9_factor 250 = .ok (.aload_n 0, 1) := by decide +kernel
theorem dX9_factor_251 : decode cX9_factor 251 = .ok (.iload_n 2, 1) := by decide +kernel
theorem dX9_factor_252 : decode cX9_factor 252 = .ok (.iload_n 3, 1) := by decide +kernel
theorem dX9_factor_253 : decode cX9_factor 253 = .ok (.invokevirtual 180, 3) := by decide +kernel
theorem dX9_factor_256 : decode cX9_factor 256 = .ok (.istore 5, 2) := by decide +kernel
theorem dX9_factor_258 : decode cX9_factor 258 = .ok (.iload 5, 2) := by decide +kernel
theorem dX9_factor_260 : decode cX9_factor 260 = .ok (.iconst (-1), 1) := by decide +kernel
theorem dX9_factor_261 : decode cX9_factor 261 = .ok (.if_icmp .ne 4, 3) := by decide +kernel
theorem dX9_factor_264 : decode cX9_factor 264 = .ok (.return_, 1) := by decide +kernel
theorem dX9_factor_265 : decode cX9_factor 265 = .ok (.aload_n 0, 1) := by decide +kernel
theorem dX9_factor_266 : decode cX9_factor 266 = .ok (.aload_n 0, 1) := by decide +kernel
theorem dX9_factor_267 : decode cX9_factor 267 = .ok (.getfield 12, 3) := by decide +kernel
theorem dX9_factor_270 : decode cX9_factor 270 = .ok (.getfield 186, 3) := by decide +kernel
theorem dX9_factor_273 : decode cX9_factor 273 = .ok (.iload 5, 2) := by decide +kernel
theorem dX9_factor_275 : decode cX9_factor 275 = .ok (.iaload, 1) := by decide +kernel
theorem dX9_factor_276 : decode cX9_factor 276 = .ok (.iconst 4, 1) := by decide +kernel
theorem dX9_factor_277 : decode cX9_factor 277 = .ok (.if_icmp .ne 34, 3) := by decide +kernel
theorem dX9_factor_280 : decode cX9_factor 280 = .ok (.aload_n 0, 1) := by decide +kernel
theorem dX9_factor_281 : decode cX9_factor 281 = .ok (.getfield 38, 3) := by decide +kernel
theorem dX9_factor_284 : decode cX9_factor 284 = .ok (.aload_n 0, 1) := by decide +kernel
theorem dX9_factor_285 : decode cX9_factor 285 = .ok (.getfield 12, 3) := by decide +kernel
theorem dX9_factor_288 : decode cX9_factor 288 = .ok (.getfield 193, 3) := by decide +kernel
theorem dX9_factor_291 : decode cX9_factor 291 = .ok (.iload 5, 2) := by decide +kernel
theorem dX9_factor_293 : decode cX9_factor 293 = .ok (.iaload, 1) := by decide +kernel
theorem dX9_factor_294 : decode cX9_factor 294 = .ok (.iaload, 1) := by decide +kernel
theorem dX9_factor_295 : decode cX9_factor 295 = .ok (.aload_n 0, 1) := by decide +kernel
theorem dX9_factor_296 : decode cX9_factor 296 = .ok (.getfield 48, 3) := by decide +kernel
theorem dX9_factor_299 : decode cX9_factor 299 = .ok (.getfield 143, 3) := by decide +kernel
theorem dX9_factor_302 : decode cX9_factor 302 = .ok (.iload_n 1, 1) := by decide +kernel
theorem dX9_factor_303 : decode cX9_factor 303 = .ok (.iaload, 1) := by decide +kernel
theorem dX9_factor_304 : decode cX9_factor 304 = .ok (.if_icmp .ne 7, 3) := by decide +kernel
theorem dX9_factor_307 : decode cX9_factor 307 = .ok (.iconst 1, 1) := by decide +kernel
theorem dX9_factor_308 : decode cX9_factor 308 = .ok (.goto 4, 3) := by decide +kernel
theorem dX9_factor_311 : decode cX9_factor 311 = .ok (.iconst 0, 1) := by decide +kernel
theorem dX9_factor_312 : decode cX9_factor 312 = .ok (.iload_n 3, 1) := by decide +kernel
theorem dX9_factor_313 : decode cX9_factor 313 = .ok (.invokevirtual 159, 3) := by decide +kernel
theorem dX9_factor_316 : decode cX9_factor 316 = .ok (.aload_n 0, 1) := by decide +kernel
theorem dX9_factor_317 : decode cX9_factor 317 = .ok (.getfield 48, 3) := by decide +kernel
theorem dX9_factor_320 : decode cX9_factor 320 = .ok (.getfield 133, 3) := by decide +kernel
theorem dX9_factor_323 : decode cX9_factor 323 = .ok (.iload_n 1, 1) := by decide +kernel
theorem dX9_factor_324 : decode cX9_factor 324 = .ok (.aload_n 0, 1) := by decide +kernel
theorem dX9_factor_325 : decode cX9_factor 325 = .ok (.getfield 12, 3) := by decide +kernel
theorem dX9_factor_328 : decode cX9_factor 328 = .ok (.getfield 193, 3) := by decide +kernel
theorem dX9_factor_331 : decode cX9_factor 331 = .ok (.iload 5, 2) := by decide +kernel
theorem dX9_factor_333 : decode cX9_factor 333 = .ok (.iaload, 1) := by decide +kernel
theorem dX9_factor_334 : decode cX9_factor 334 = .ok (.iastore, 1) := by decide +kernel
theorem dX9_factor_335 : decode cX9_factor 335 = .ok (.goto 339, 3) := by decide +kernel
theorem dX9_factor_338 : decode cX9_factor 338 = .ok (.aload_n 0, 1) := by decide +kernel
theorem dX9_factor_339 : decode cX9_factor 339 = .ok (.getfield 12, 3) := by decide +kernel
theorem dX9_factor_342 : decode cX9_factor 342 = .ok (.getfield 193, 3) := by decide +kernel
theorem dX9_factor_345 : decode cX9_factor 345 = .ok (.aload_n 0, 1) := by decide +kernel
theorem dX9_factor_346 : decode cX9_factor 346 = .ok (.getfield 12, 3) := by decide +kernel
theorem dX9_factor_349 : decode cX9_factor 349 = .ok (.iload_n 2, 1) := by decide +kernel
theorem dX9_factor_350 : decode cX9_factor 350 = .ok (.aload_n 0, 1) := by decide +kernel
theorem dX9_factor_351 : decode cX9_factor 351 = .ok (.getfield 65, 3) := by decide +kernel
theorem dX9_factor_354 : decode cX9_factor 354 = .ok (.invokevirtual 68, 3) := by decide +kernel
theorem dX9_factor_357 : decode cX9_factor 357 = .ok (.iaload, 1) := by decide +kernel
theorem dX9_factor_358 : decode cX9_factor 358 = .ok (.istore 6, 2) := by decide +kernel
theorem dX9_factor_360 : decode cX9_factor 360 = .ok (.aload_n 0, 1) := by decide +kernel
theorem dX9_factor_361 : decode cX9_factor 361 = .ok (.aload_n 0, 1) := by decide +kernel
theorem dX9_factor_362 : decode cX9_factor 362 = .ok (.getfield 18, 3) := by decide +kernel
theorem dX9_factor_365 : decode cX9_factor 365 = .ok (.aload_n 0, 1) := by decide +kernel
theorem dX9_factor_366 : decode cX9_factor 366 = .ok (.getfield 56, 3) := by decide +kernel
theorem dX9_factor_369 : decode cX9_factor 369 = .ok (.iconst 1, 1) := by decide +kernel
theorem dX9_factor_370 : decode cX9_factor 370 = .ok (.isub, 1) := by decide +kernel
theorem dX9_factor_371 : decode cX9_factor 371 = .ok (.iaload, 1) := by decide +kernel
theorem dX9_factor_372 : decode cX9_factor 372 = .ok (.aload_n 0, 1) := by decide +kernel
theorem dX9_factor_373 : decode cX9_factor 373 = .ok (.getfield 41, 3) := by decide +kernel
theorem dX9_factor_376 : decode cX9_factor 376 = .ok (.aload_n 0, 1) := by decide +kernel
theorem dX9_factor_377 : decode cX9_factor 377 = .ok (.getfield 35, 3) := by decide +kernel
theorem dX9_factor_380 : decode cX9_factor 380 = .ok (.iload 6, 2) := by decide +kernel
theorem dX9_factor_382 : decode cX9_factor 382 = .ok (.iaload, 1) := by decide +kernel
theorem dX9_factor_383 : decode cX9_factor 383 = .ok (.aload_n 0, 1) := by decide +kernel
theorem dX9_factor_384 : decode cX9_factor 384 = .ok (.getfield 48, 3) := by decide +kernel
theorem dX9_factor_387 : decode cX9_factor 387 = .ok (.getfield 143, 3) := by decide +kernel
theorem dX9_factor_390 : decode cX9_factor 390 = .ok (.iload_n 1, 1) := by decide +kernel
theorem dX9_factor_391 : decode cX9_factor 391 = .ok (.iaload, 1) := by decide +kernel
theorem dX9_factor_392 : decode cX9_factor 392 = .ok (.iadd, 1) := by decide +kernel
theorem dX9_factor_393 : decode cX9_factor 393 = .ok (.iaload, 1) := by decide +kernel
theorem dX9_factor_394 : decode cX9_factor 394 = .ok (.if_icmp .ne 7, 3) := by decide +kernel
theorem dX9_factor_397 : decode cX9_factor 397 = .ok (.iconst 1, 1) := by decide +kernel
theorem dX9_factor_398 : decode cX9_factor 398 = .ok (.goto 4, 3) := by decide +kernel
theorem dX9_factor_401 : decode cX9_factor 401 = .ok (.iconst 0, 1) := by decide +kernel
theorem dX9_factor_402 : decode cX9_factor 402 = .ok (.aload_n 0, 1) := by decide +kernel
theorem dX9_factor_403 : decode cX9_factor 403 = .ok (.getfield 22, 3) := by decide +kernel
theorem dX9_factor_406 : decode cX9_factor 406 = .ok (.aload_n 0, 1) := by decide +kernel
theorem dX9_factor_407 : decode cX9_factor 407 = .ok (.getfield 56, 3) := by decide +kernel
theorem dX9_factor_410 : decode cX9_factor 410 = .ok (.iconst 1, 1) := by decide +kernel
theorem dX9_factor_411 : decode cX9_factor 411 = .ok (.isub, 1) := by decide +kernel
theorem dX9_factor_412 : decode cX9_factor 412 = .ok (.iaload, 1) := by decide +kernel
theorem dX9_factor_413 : decode cX9_factor 413 = .ok (.invokevirtual 159, 3) := by decide +kernel
theorem dX9_factor_416 : decode cX9_factor 416 = .ok (.goto 258, 3) := by decide +kernel
theorem dX9_factor_419 : decode cX9_factor 419 = .ok (.aload_n 0, 1) := by decide +kernel
theorem dX9_factor_420 : decode cX9_factor 420 = .ok (.iload_n 1, 1) := by decide +kernel
theorem dX9_factor_421 : decode cX9_factor 421 = .ok (.invokevirtual 207, 3) := by decide +kernel
theorem dX9_factor_424 : decode cX9_factor 424 = .ok (.goto 250, 3) := by decide +kernel
theorem dX9_factor_427 : decode cX9_factor 427 = .ok (.aload_n 0, 1) := by decide +kernel
theorem dX9_factor_428 : decode cX9_factor 428 = .ok (.aload_n 0, 1) := by decide +kernel
theorem dX9_factor_429 : decode cX9_factor 429 = .ok (.getfield 18, 3) := by decide +kernel
theorem dX9_factor_432 : decode cX9_factor 432 = .ok (.aload_n 0, 1) := by decide +kernel
theorem dX9_factor_433 : decode cX9_factor 433 = .ok (.getfield 56, 3) := by decide +kernel
theorem dX9_factor_436 : decode cX9_factor 436 = .ok (.iconst 1, 1) := by decide +kernel
theorem dX9_factor_437 : decode cX9_factor 437 = .ok (.isub, 1) := by decide +kernel
theorem dX9_factor_438 : decode cX9_factor 438 = .ok (.iaload, 1) := by decide +kernel
theorem dX9_factor_439 : decode cX9_factor 439 = .ok (.iconst 1, 1) := by decide +kernel
theorem dX9_factor_440 : decode cX9_factor 440 = .ok (.if_icmp .ne 7, 3) := by decide +kernel
theorem dX9_factor_443 : decode cX9_factor 443 = .ok (.iconst 1, 1) := by decide +kernel
theorem dX9_factor_444 : decode cX9_factor 444 = .ok (.goto 4, 3) := by decide +kernel
theorem dX9_factor_447 : decode cX9_factor 447 = .ok (.iconst 0, 1) := by decide +kernel
theorem dX9_factor_448 : decode cX9_factor 448 = .ok (.aload_n 0, 1) := by decide +kernel
theorem dX9_factor_449 : decode cX9_factor 449 = .ok (.getfield 22, 3) := by decide +kernel
theorem dX9_factor_452 : decode cX9_factor 452 = .ok (.aload_n 0, 1) := by decide +kernel
theorem dX9_factor_453 : decode cX9_factor 453 = .ok (.getfield 56, 3) := by decide +kernel
theorem dX9_factor_456 : decode cX9_factor 456 = .ok (.iconst 1, 1) := by decide +kernel
theorem dX9_factor_457 : decode cX9_factor 457 = .ok (.isub, 1) := by decide +kernel
theorem dX9_factor_458 : decode cX9_factor 458 = .ok (.iaload, 1) := by decide +kernel
theorem dX9_factor_459 : decode cX9_factor 459 = .ok (.invokevirtual 159, 3) := by decide +kernel
theorem dX9_factor_462 : decode cX9_factor 462 = .ok (.aload_n 0, 1) := by decide +kernel
theorem dX9_factor_463 : decode cX9_factor 463 = .ok (.iconst 0, 1) := by decide +kernel
theorem dX9_factor_464 : decode cX9_factor 464 = .ok (.aload_n 0, 1) := by decide +kernel
theorem dX9_factor_465 : decode cX9_factor 465 = .ok (.getfield 25, 3) := by decide +kernel
theorem dX9_factor_468 : decode cX9_factor 468 = .ok (.aload_n 0, 1) := by decide +kernel
theorem dX9_factor_469 : decode cX9_factor 469 = .ok (.getfield 56, 3) := by decide +kernel
theorem dX9_factor_472 : decode cX9_factor 472 = .ok (.iconst 1, 1) := by decide +kernel
theorem dX9_factor_473 : decode cX9_factor 473 = .ok (.isub, 1) := by decide +kernel
theorem dX9_factor_474 : decode cX9_factor 474 = .ok (.baload, 1) := by decide +kernel
theorem dX9_factor_475 : decode cX9_factor 475 = .ok (.invokevirtual 203, 3) := by decide +kernel
theorem dX9_factor_478 : decode cX9_factor 478 = .ok (.aload_n 0, 1) := by decide +kernel
theorem dX9_factor_479 : decode cX9_factor 479 = .ok (.getfield 22, 3) := by decide +kernel
theorem dX9_factor_482 : decode cX9_factor 482 = .ok (.aload_n 0, 1) := by decide +kernel
theorem dX9_factor_483 : decode cX9_factor 483 = .ok (.getfield 56, 3) := by decide +kernel
theorem dX9_factor_486 : decode cX9_factor 486 = .ok (.iconst 1, 1) := by decide +kernel
theorem dX9_factor_487 : decode cX9_factor 487 = .ok (.isub, 1) := by decide +kernel
theorem dX9_factor_488 : decode cX9_factor 488 = .ok (.iload_n 3, 1) := by decide +kernel
theorem dX9_factor_489 : decode cX9_factor 489 = .ok (.iastore, 1) := by decide +kernel
theorem dX9_factor_490 : decode cX9_factor 490 = .ok (.goto 184, 3) := by decide +kernel
theorem dX9_factor_493 : decode cX9_factor 493 = .ok (.aload_n 0, 1) := by decide +kernel
theorem dX9_factor_494 : decode cX9_factor 494 = .ok (.aload_n 0, 1) := by decide +kernel
theorem dX9_factor_495 : decode cX9_factor 495 = .ok (.getfield 18, 3) := by decide +kernel
theorem dX9_factor_498 : decode cX9_factor 498 = .ok (.aload_n 0, 1) := by decide +kernel
theorem dX9_factor_499 : decode cX9_factor 499 = .ok (.getfield 56, 3) := by decide +kernel
theorem dX9_factor_502 : decode cX9_factor 502 = .ok (.iconst 1, 1) := by decide +kernel
theorem dX9_factor_503 : decode cX9_factor 503 = .ok (.isub, 1) := by decide +kernel
theorem dX9_factor_504 : decode cX9_factor 504 = .ok (.iaload, 1) := by decide +kernel
theorem dX9_factor_505 : decode cX9_factor 505 = .ok (.ifCond .ne 7, 3) := by decide +kernel
theorem dX9_factor_508 : decode cX9_factor 508 = .ok (.iconst 1, 1) := by decide +kernel
theorem dX9_factor_509 : decode cX9_factor 509 = .ok (.goto 4, 3) := by decide +kernel
theorem dX9_factor_512 : decode cX9_factor 512 = .ok (.iconst 0, 1) := by decide +kernel
theorem dX9_factor_513 : decode cX9_factor 513 = .ok (.aload_n 0, 1) := by decide +kernel
theorem dX9_factor_514 : decode cX9_factor 514 = .ok (.getfield 22, 3) := by decide +kernel
theorem dX9_factor_517 : decode cX9_factor 517 = .ok (.aload_n 0, 1) := by decide +kernel
theorem dX9_factor_518 : decode cX9_factor 518 = .ok (.getfield 56, 3) := by decide +kernel
theorem dX9_factor_521 : decode cX9_factor 521 = .ok (.iconst 1, 1) := by decide +kernel
theorem dX9_factor_522 : decode cX9_factor 522 = .ok (.isub, 1) := by decide +kernel
theorem dX9_factor_523 : decode cX9_factor 523 = .ok (.iaload, 1) := by decide +kernel
theorem dX9_factor_524 : decode cX9_factor 524 = .ok (.invokevirtual 159, 3) := by decide +kernel
theorem dX9_factor_527 : decode cX9_factor 527 = .ok (.goto 147, 3) := by decide +kernel
theorem dX9_factor_530 : decode cX9_factor 530 = .ok (.aload_n 0, 1) := by decide +kernel
theorem dX9_factor_531 : decode cX9_factor 531 = .ok (.aload_n 0, 1) := by decide +kernel
theorem dX9_factor_532 : decode cX9_factor 532 = .ok (.getfield 18, 3) := by decide +kernel
theorem dX9_factor_535 : decode cX9_factor 535 = .ok (.aload_n 0, 1) := by decide +kernel
theorem dX9_factor_536 : decode cX9_factor 536 = .ok (.getfield 56, 3) := by decide +kernel
theorem dX9_factor_539 : decode cX9_factor 539 = .ok (.iconst 1, 1) := by decide +kernel
theorem dX9_factor_540 : decode cX9_factor 540 = .ok (.isub, 1) := by decide +kernel
theorem dX9_factor_541 : decode cX9_factor 541 = .ok (.iaload, 1) := by decide +kernel
theorem dX9_factor_542 : decode cX9_factor 542 = .ok (.ifCond .ne 7, 3) := by decide +kernel
theorem dX9_factor_545 : decode cX9_factor 545 = .ok (.iconst 1, 1) := by decide +kernel
theorem dX9_factor_546 : decode cX9_factor 546 = .ok (.goto 4, 3) := by decide +kernel
theorem dX9_factor_549 : decode cX9_factor 549 = .ok (.iconst 0, 1) := by decide +kernel
theorem dX9_factor_550 : decode cX9_factor 550 = .ok (.aload_n 0, 1) := by decide +kernel
theorem dX9_factor_551 : decode cX9_factor 551 = .ok (.getfield 22, 3) := by decide +kernel
theorem dX9_factor_554 : decode cX9_factor 554 = .ok (.aload_n 0, 1) := by decide +kernel
theorem dX9_factor_555 : decode cX9_factor 555 = .ok (.getfield 56, 3) := by decide +kernel
theorem dX9_factor_558 : decode cX9_factor 558 = .ok (.iconst 1, 1) := by decide +kernel
theorem dX9_factor_559 : decode cX9_factor 559 = .ok (.isub, 1) := by decide +kernel
theorem dX9_factor_560 : decode cX9_factor 560 = .ok (.iaload, 1) := by decide +kernel
theorem dX9_factor_561 : decode cX9_factor 561 = .ok (.invokevirtual 159, 3) := by decide +kernel
theorem dX9_factor_564 : decode cX9_factor 564 = .ok (.aload_n 0, 1) := by decide +kernel
theorem dX9_factor_565 : decode cX9_factor 565 = .ok (.getfield 25, 3) := by decide +kernel
theorem dX9_factor_568 : decode cX9_factor 568 = .ok (.aload_n 0, 1) := by decide +kernel
theorem dX9_factor_569 : decode cX9_factor 569 = .ok (.getfield 56, 3) := by decide +kernel
theorem dX9_factor_572 : decode cX9_factor 572 = .ok (.iconst 1, 1) := by decide +kernel
theorem dX9_factor_573 : decode cX9_factor 573 = .ok (.isub, 1) := by decide +kernel
theorem dX9_factor_574 : decode cX9_factor 574 = .ok (.baload, 1) := by decide +kernel
theorem dX9_factor_575 : decode cX9_factor 575 = .ok (.ifCond .ne 23, 3) := by decide +kernel
theorem dX9_factor_578 : decode cX9_factor 578 = .ok (.aload_n 0, 1) := by decide +kernel
theorem dX9_factor_579 : decode cX9_factor 579 = .ok (.getfield 52, 3) := by decide +kernel
theorem dX9_factor_582 : decode cX9_factor 582 = .ok (.bipush 6, 2) := by decide +kernel
theorem dX9_factor_584 : decode cX9_factor 584 = .ok (.aload_n 0, 1) := by decide +kernel
theorem dX9_factor_585 : decode cX9_factor 585 = .ok (.getfield 22, 3) := by decide +kernel
theorem dX9_factor_588 : decode cX9_factor 588 = .ok (.aload_n 0, 1) := by decide +kernel
theorem dX9_factor_589 : decode cX9_factor 589 = .ok (.getfield 56, 3) := by decide +kernel
theorem dX9_factor_592 : decode cX9_factor 592 = .ok (.iconst 1, 1) := by decide +kernel
theorem dX9_factor_593 : decode cX9_factor 593 = .ok (.isub, 1) := by decide +kernel
theorem dX9_factor_594 : decode cX9_factor 594 = .ok (.iaload, 1) := by decide +kernel
theorem dX9_factor_595 : decode cX9_factor 595 = .ok (.invokevirtual 59, 3) := by decide +kernel
theorem dX9_factor_598 : decode cX9_factor 598 = .ok (.aload_n 0, 1) := by decide +kernel
theorem dX9_factor_599 : decode cX9_factor 599 = .ok (.getfield 48, 3) := by decide +kernel
theorem dX9_factor_602 : decode cX9_factor 602 = .ok (.getfield 143, 3) := by decide +kernel
theorem dX9_factor_605 : decode cX9_factor 605 = .ok (.iload_n 1, 1) := by decide +kernel
theorem dX9_factor_606 : decode cX9_factor 606 = .ok (.aload_n 0, 1) := by decide +kernel
theorem dX9_factor_607 : decode cX9_factor 607 = .ok (.getfield 22, 3) := by decide +kernel
theorem dX9_factor_610 : decode cX9_factor 610 = .ok (.aload_n 0, 1) := by decide +kernel
theorem dX9_factor_611 : decode cX9_factor 611 = .ok (.getfield 56, 3) := by decide +kernel
theorem dX9_factor_614 : decode cX9_factor 614 = .ok (.iconst 1, 1) := by decide +kernel
theorem dX9_factor_615 : decode cX9_factor 615 = .ok (.isub, 1) := by decide +kernel
theorem dX9_factor_616 : decode cX9_factor 616 = .ok (.iaload, 1) := by decide +kernel
theorem dX9_factor_617 : decode cX9_factor 617 = .ok (.iastore, 1) := by decide +kernel
theorem dX9_factor_618 : decode cX9_factor 618 = .ok (.aload_n 0, 1) := by decide +kernel
theorem dX9_factor_619 : decode cX9_factor 619 = .ok (.dup, 1) := by decide +kernel
theorem dX9_factor_620 : decode cX9_factor 620 = .ok (.getfield 56, 3) := by decide +kernel
theorem dX9_factor_623 : decode cX9_factor 623 = .ok (.iconst 1, 1) := by decide +kernel
theorem dX9_factor_624 : decode cX9_factor 624 = .ok (.isub, 1) := by decide +kernel
theorem dX9_factor_625 : decode cX9_factor 625 = .ok (.putfield 56, 3) := by decide +kernel
theorem dX9_factor_628 : decode cX9_factor 628 = .ok (.aload_n 0, 1) := by decide +kernel
theorem dX9_factor_629 : decode cX9_factor 629 = .ok (.iconst 1, 1) := by decide +kernel
theorem dX9_factor_630 : decode cX9_factor 630 = .ok (.aload_n 0, 1) := by decide +kernel
theorem dX9_factor_631 : decode cX9_factor 631 = .ok (.getfield 25, 3) := by decide +kernel
theorem dX9_factor_634 : decode cX9_factor 634 = .ok (.aload_n 0, 1) := by decide +kernel
theorem dX9_factor_635 : decode cX9_factor 635 = .ok (.getfield 56, 3) := by decide +kernel
theorem dX9_factor_638 : decode cX9_factor 638 = .ok (.iconst 1, 1) := by decide +kernel
theorem dX9_factor_639 : decode cX9_factor 639 = .ok (.isub, 1) := by decide +kernel
theorem dX9_factor_640 : decode cX9_factor 640 = .ok (.baload, 1) := by decide +kernel
theorem dX9_factor_641 : decode cX9_factor 641 = .ok (.invokevirtual 203, 3) := by decide +kernel
theorem dX9_factor_644 : decode cX9_factor 644 = .ok (.aload_n 0, 1) := by decide +kernel
theorem dX9_factor_645 : decode cX9_factor 645 = .ok (.getfield 22, 3) := by decide +kernel
theorem dX9_factor_648 : decode cX9_factor 648 = .ok (.aload_n 0, 1) := by decide +kernel
theorem dX9_factor_649 : decode cX9_factor 649 = .ok (.getfield 56, 3) := by decide +kernel
theorem dX9_factor_652 : decode cX9_factor 652 = .ok (.iconst 1, 1) := by decide +kernel
theorem dX9_factor_653 : decode cX9_factor 653 = .ok (.isub, 1) := by decide +kernel
theorem dX9_factor_654 : decode cX9_factor 654 = .ok (.iload_n 3, 1) := by decide +kernel
theorem dX9_factor_655 : decode cX9_factor 655 = .ok (.iastore, 1) := by decide +kernel
theorem dX9_factor_656 : decode cX9_factor 656 = .ok (.goto 18, 3) := by decide +kernel
theorem dX9_factor_659 : decode cX9_factor 659 = .ok (.aload_n 0, 1) := by decide +kernel
theorem dX9_factor_660 : decode cX9_factor 660 = .ok (.getfield 22, 3) := by decide +kernel
theorem dX9_factor_663 : decode cX9_factor 663 = .ok (.aload_n 0, 1) := by decide +kernel
theorem dX9_factor_664 : decode cX9_factor 664 = .ok (.getfield 56, 3) := by decide +kernel
theorem dX9_factor_667 : decode cX9_factor 667 = .ok (.iconst 1, 1) := by decide +kernel
theorem dX9_factor_668 : decode cX9_factor 668 = .ok (.isub, 1) := by decide +kernel
theorem dX9_factor_669 : decode cX9_factor 669 = .ok (.iload_n 3, 1) := by decide +kernel
theorem dX9_factor_670 : decode cX9_factor 670 = .ok (.iastore, 1) := by decide +kernel
theorem dX9_factor_671 : decode cX9_factor 671 = .ok (.goto 3, 3) := by decide +kernel
theorem dX9_factor_674 : decode cX9_factor 674 = .ok (.return_, 1) := by decide +kernel
theorem dX9_push_0 : decode cX9_push 0 = .ok (.aload_n 0, 1) := by decide +kernel
theorem dX9_push_1 : decode cX9_push 1 = .ok (.getfield 18, 3) := by decide +kernel
theorem dX9_push_4 : decode cX9_push 4 = .ok (.aload_n 0, 1) := by decide +kernel
theorem dX9_push_5 : decode cX9_push 5 = .ok (.getfield 56, 3) := by decide +kernel
theorem dX9_push_8 : decode cX9_push 8 = .ok (.iload_n 1, 1) := by decide +kernel
theorem dX9_push_9 : decode cX9_push 9 = .ok (.iastore, 1) := by decide +kernel
theorem dX9_push_10 : decode cX9_push 10 = .ok (.aload_n 0, 1) := by decide +kernel
theorem dX9_push_11 : decode cX9_push 11 = .ok (.getfield 25, 3) := by decide +kernel
theorem dX9_push_14 : decode cX9_push 14 = .ok (.aload_n 0, 1) := by decide +kernel
theorem dX9_push_15 : decode cX9_push 15 = .ok (.getfield 56, 3) := by decide +kernel
theorem dX9_push_18 : decode cX9_push 18 = .ok (.iload_n 2, 1) := by decide +kernel
theorem dX9_push_19 : decode cX9_push 19 = .ok (.bastore, 1) := by decide +kernel
theorem dX9_push_20 : decode cX9_push 20 = .ok (.aload_n 0, 1) := by decide +kernel
theorem dX9_push_21 : decode cX9_push 21 = .ok (.getfield 22, 3) := by decide +kernel
theorem dX9_push_24 : decode cX9_push 24 = .ok (.aload_n 0, 1) := by decide +kernel
theorem dX9_push_25 : decode cX9_push 25 = .ok (.getfield 56, 3) := by decide +kernel
theorem dX9_push_28 : decode cX9_push 28 = .ok (.iload_n 3, 1) := by decide +kernel
theorem dX9_push_29 : decode cX9_push 29 = .ok (.iastore, 1) := by decide +kernel
theorem dX9_push_30 : decode cX9_push 30 = .ok (.aload_n 0, 1) := by decide +kernel
theorem dX9_push_31 : decode cX9_push 31 = .ok (.dup, 1) := by decide +kernel
theorem dX9_push_32 : decode cX9_push 32 = .ok (.getfield 56, 3) := by decide +kernel
theorem dX9_push_35 : decode cX9_push 35 = .ok (.iconst 1, 1) := by decide +kernel
theorem dX9_push_36 : decode cX9_push 36 = .ok (.iadd, 1) := by decide +kernel
theorem dX9_push_37 : decode cX9_push 37 = .ok (.putfield 56, 3) := by decide +kernel
theorem dX9_push_40 : decode cX9_push 40 = .ok (.return_, 1) := by decide +kernel
theorem dX9_read_0 : decode cX9_read 0 = .ok (.aload_n 0, 1) := by decide +kernel
theorem dX9_read_1 : decode cX9_read 1 = .ok (.aload_n 0, 1) := by decide +kernel
theorem dX9_read_2 : decode cX9_read 2 = .ok (.getfield 48, 3) := by decide +kernel
theorem dX9_read_5 : decode cX9_read 5 = .ok (.getfield 133, 3) := by decide +kernel
theorem dX9_read_8 : decode cX9_read 8 = .ok (.iload_n 1, 1) := by decide +kernel
theorem dX9_read_9 : decode cX9_read 9 = .ok (.iaload, 1) := by decide +kernel
theorem dX9_read_10 : decode cX9_read 10 = .ok (.aload_n 0, 1) := by decide +kernel
theorem dX9_read_11 : decode cX9_read 11 = .ok (.getfield 48, 3) := by decide +kernel
theorem dX9_read_14 : decode cX9_read 14 = .ok (.getfield 136, 3) := by decide +kernel
theorem dX9_read_17 : decode cX9_read 17 = .ok (.iload_n 1, 1) := by decide +kernel
theorem dX9_read_18 : decode cX9_read 18 = .ok (.iaload, 1) := by decide +kernel
theorem dX9_read_19 : decode cX9_read 19 = .ok (.invokevirtual 180, 3) := by decide +kernel
theorem dX9_read_22 : decode cX9_read 22 = .ok (.istore_n 2, 1) := by decide +kernel
theorem dX9_read_23 : decode cX9_read 23 = .ok (.iload_n 2, 1) := by decide +kernel
theorem dX9_read_24 : decode cX9_read 24 = .ok (.iconst (-1), 1) := by decide +kernel
theorem dX9_read_25 : decode cX9_read 25 = .ok (.if_icmp .ne 4, 3) := by decide +kernel
theorem dX9_read_28 : decode cX9_read 28 = .ok (.return_, 1) := by decide +kernel
theorem dX9_read_29 : decode cX9_read 29 = .ok (.aload_n 0, 1) := by decide +kernel
theorem dX9_read_30 : decode cX9_read 30 = .ok (.aload_n 0, 1) := by decide +kernel
theorem dX9_read_31 : decode cX9_read 31 = .ok (.getfield 12, 3) := by decide +kernel
theorem dX9_read_34 : decode cX9_read 34 = .ok (.getfield 186, 3) := by decide +kernel
theorem dX9_read_37 : decode cX9_read 37 = .ok (.iload_n 2, 1) := by decide +kernel
theorem dX9_read_38 : decode cX9_read 38 = .ok (.iaload, 1) := by decide +kernel
theorem dX9_read_39 : decode cX9_read 39 = .ok (.iconst 4, 1) := by decide +kernel
theorem dX9_read_40 : decode cX9_read 40 = .ok (.if_icmp .eq 19, 3) := by decide +kernel
theorem dX9_read_43 : decode cX9_read 43 = .ok (.aload_n 0, 1) := by decide +kernel
theorem dX9_read_44 : decode cX9_read 44 = .ok (.getfield 12, 3) := by decide +kernel
theorem dX9_read_47 : decode cX9_read 47 = .ok (.getfield 189, 3) := by decide +kernel
theorem dX9_read_50 : decode cX9_read 50 = .ok (.iload_n 2, 1) := by decide +kernel
theorem dX9_read_51 : decode cX9_read 51 = .ok (.iaload, 1) := by decide +kernel
theorem dX9_read_52 : decode cX9_read 52 = .ok (.ifCond .ne 7, 3) := by decide +kernel
theorem dX9_read_55 : decode cX9_read 55 = .ok (.iconst 1, 1) := by decide +kernel
theorem dX9_read_56 : decode cX9_read 56 = .ok (.goto 4, 3) := by decide +kernel
theorem dX9_read_59 : decode cX9_read 59 = .ok (.iconst 0, 1) := by decide +kernel
theorem dX9_read_60 : decode cX9_read 60 = .ok (.aload_n 0, 1) := by decide +kernel
theorem dX9_read_61 : decode cX9_read 61 = .ok (.getfield 48, 3) := by decide +kernel
theorem dX9_read_64 : decode cX9_read 64 = .ok (.getfield 136, 3) := by decide +kernel
theorem dX9_read_67 : decode cX9_read 67 = .ok (.iload_n 1, 1) := by decide +kernel
theorem dX9_read_68 : decode cX9_read 68 = .ok (.iaload, 1) := by decide +kernel
theorem dX9_read_69 : decode cX9_read 69 = .ok (.invokevirtual 159, 3) := by decide +kernel
theorem dX9_read_72 : decode cX9_read 72 = .ok (.aload_n 0, 1) := by decide +kernel
theorem dX9_read_73 : decode cX9_read 73 = .ok (.aload_n 0, 1) := by decide +kernel
theorem dX9_read_74 : decode cX9_read 74 = .ok (.getfield 12, 3) := by decide +kernel
theorem dX9_read_77 : decode cX9_read 77 = .ok (.getfield 192, 3) := by decide +kernel
theorem dX9_read_80 : decode cX9_read 80 = .ok (.iload_n 2, 1) := by decide +kernel
theorem dX9_read_81 : decode cX9_read 81 = .ok (.iaload, 1) := by decide +kernel
theorem dX9_read_82 : decode cX9_read 82 = .ok (.aload_n 0, 1) := by decide +kernel
theorem dX9_read_83 : decode cX9_read 83 = .ok (.getfield 12, 3) := by decide +kernel
theorem dX9_read_86 : decode cX9_read 86 = .ok (.getfield 186, 3) := by decide +kernel
theorem dX9_read_89 : decode cX9_read 89 = .ok (.iload_n 2, 1) := by decide +kernel
theorem dX9_read_90 : decode cX9_read 90 = .ok (.iaload, 1) := by decide +kernel
theorem dX9_read_91 : decode cX9_read 91 = .ok (.iconst 2, 1) := by decide +kernel
theorem dX9_read_92 : decode cX9_read 92 = .ok (.if_icmp .ne 7, 3) := by decide +kernel
theorem dX9_read_95 : decode cX9_read 95 = .ok (.iconst 1, 1) := by decide +kernel
theorem dX9_read_96 : decode cX9_read 96 = .ok (.goto 4, 3) := by decide +kernel
theorem dX9_read_99 : decode cX9_read 99 = .ok (.iconst 0, 1) := by decide +kernel
theorem dX9_read_100 : decode cX9_read 100 = .ok (.aload_n 0, 1) := by decide +kernel
theorem dX9_read_101 : decode cX9_read 101 = .ok (.getfield 48, 3) := by decide +kernel
theorem dX9_read_104 : decode cX9_read 104 = .ok (.getfield 136, 3) := by decide +kernel
theorem dX9_read_107 : decode cX9_read 107 = .ok (.iload_n 1, 1) := by decide +kernel
theorem dX9_read_108 : decode cX9_read 108 = .ok (.iaload, 1) := by decide +kernel
theorem dX9_read_109 : decode cX9_read 109 = .ok (.invokevirtual 196, 3) := by decide +kernel
theorem dX9_read_112 : decode cX9_read 112 = .ok (.aload_n 0, 1) := by decide +kernel
theorem dX9_read_113 : decode cX9_read 113 = .ok (.getfield 48, 3) := by decide +kernel
theorem dX9_read_116 : decode cX9_read 116 = .ok (.getfield 133, 3) := by decide +kernel
theorem dX9_read_119 : decode cX9_read 119 = .ok (.iload_n 1, 1) := by decide +kernel
theorem dX9_read_120 : decode cX9_read 120 = .ok (.aload_n 0, 1) := by decide +kernel
theorem dX9_read_121 : decode cX9_read 121 = .ok (.getfield 12, 3) := by decide +kernel
theorem dX9_read_124 : decode cX9_read 124 = .ok (.getfield 193, 3) := by decide +kernel
theorem dX9_read_127 : decode cX9_read 127 = .ok (.iload_n 2, 1) := by decide +kernel
theorem dX9_read_128 : decode cX9_read 128 = .ok (.iaload, 1) := by decide +kernel
theorem dX9_read_129 : decode cX9_read 129 = .ok (.iastore, 1) := by decide +kernel
theorem dX9_read_130 : decode cX9_read 130 = .ok (.aload_n 0, 1) := by decide +kernel
theorem dX9_read_131 : decode cX9_read 131 = .ok (.getfield 48, 3) := by decide +kernel
theorem dX9_read_134 : decode cX9_read 134 = .ok (.getfield 143, 3) := by decide +kernel
theorem dX9_read_137 : decode cX9_read 137 = .ok (.iload_n 1, 1) := by decide +kernel
theorem dX9_read_138 : decode cX9_read 138 = .ok (.iconst 2, 1) := by decide +kernel
theorem dX9_read_139 : decode cX9_read 139 = .ok (.aload_n 0, 1) := by decide +kernel
theorem dX9_read_140 : decode cX9_read 140 = .ok (.getfield 12, 3) := by decide +kernel
theorem dX9_read_143 : decode cX9_read 143 = .ok (.getfield 186, 3) := by decide +kernel
theorem dX9_read_146 : decode cX9_read 146 = .ok (.iload_n 2, 1) := by decide +kernel
theorem dX9_read_147 : decode cX9_read 147 = .ok (.iaload, 1) := by decide +kernel
theorem dX9_read_148 : decode cX9_read 148 = .ok (.imul, 1) := by decide +kernel
theorem dX9_read_149 : decode cX9_read 149 = .ok (.aload_n 0, 1) := by decide +kernel
theorem dX9_read_150 : decode cX9_read 150 = .ok (.getfield 12, 3) := by decide +kernel
theorem dX9_read_153 : decode cX9_read 153 = .ok (.getfield 192, 3) := by decide +kernel
theorem dX9_read_156 : decode cX9_read 156 = .ok (.iload_n 2, 1) := by decide +kernel
theorem dX9_read_157 : decode cX9_read 157 = .ok (.iaload, 1) := by decide +kernel
theorem dX9_read_158 : decode cX9_read 158 = .ok (.iadd, 1) := by decide +kernel
theorem dX9_read_159 : decode cX9_read 159 = .ok (.iastore, 1) := by decide +kernel
theorem dX9_read_160 : decode cX9_read 160 = .ok (.return_, 1) := by decide +kernel
theorem dX9_visible_0 : decode cX9_visible 0 = .ok (.aload_n 0, 1) := by decide +kernel
theorem dX9_visible_1 : decode cX9_visible 1 = .ok (.getfield 12, 3) := by decide +kernel
theorem dX9_visible_4 : decode cX9_visible 4 = .ok (.iload_n 1, 1) := by decide +kernel
theorem dX9_visible_5 : decode cX9_visible 5 = .ok (.aload_n 0, 1) := by decide +kernel
theorem dX9_visible_6 : decode cX9_visible 6 = .ok (.getfield 65, 3) := by decide +kernel
theorem dX9_visible_9 : decode cX9_visible 9 = .ok (.invokevirtual 68, 3) := by decide +kernel
theorem dX9_visible_12 : decode cX9_visible 12 = .ok (.istore_n 3, 1) := by decide +kernel
theorem dX9_visible_13 : decode cX9_visible 13 = .ok (.iload_n 3, 1) := by decide +kernel
theorem dX9_visible_14 : decode cX9_visible 14 = .ok (.iconst (-1), 1) := by decide +kernel
theorem dX9_visible_15 : decode cX9_visible 15 = .ok (.if_icmp .ne 12, 3) := by decide +kernel
theorem dX9_visible_18 : decode cX9_visible 18 = .ok (.aload_n 0, 1) := by decide +kernel
theorem dX9_visible_19 : decode cX9_visible 19 = .ok (.getfield 52, 3) := by decide +kernel
theorem dX9_visible_22 : decode cX9_visible 22 = .ok (.iconst 4, 1) := by decide +kernel
theorem dX9_visible_23 : decode cX9_visible 23 = .ok (.iload_n 2, 1) := by decide +kernel
theorem dX9_visible_24 : decode cX9_visible 24 = .ok (.invokevirtual 59, 3) := by decide +kernel
theorem dX9_visible_27 : decode cX9_visible 27 = .ok (.iload_n 3, 1) := by decide +kernel
theorem dX9_visible_28 : decode cX9_visible 28 = .ok (.ireturn, 1) := by decide +kernel
theorem dX9_index_0 : decode cX9_index 0 = .ok (.aload_n 0, 1) := by decide +kernel
theorem dX9_index_1 : decode cX9_index 1 = .ok (.getfield 12, 3) := by decide +kernel
theorem dX9_index_4 : decode cX9_index 4 = .ok (.aload_n 0, 1) := by decide +kernel
theorem dX9_index_5 : decode cX9_index 5 = .ok (.getfield 48, 3) := by decide +kernel
theorem dX9_index_8 : decode cX9_index 8 = .ok (.getfield 133, 3) := by decide +kernel
theorem dX9_index_11 : decode cX9_index 11 = .ok (.iload_n 1, 1) := by decide +kernel
theorem dX9_index_12 : decode cX9_index 12 = .ok (.iaload, 1) := by decide +kernel
theorem dX9_index_13 : decode cX9_index 13 = .ok (.aload_n 0, 1) := by decide +kernel
theorem dX9_index_14 : decode cX9_index 14 = .ok (.getfield 65, 3) := by decide +kernel
theorem dX9_index_17 : decode cX9_index 17 = .ok (.invokevirtual 68, 3) := by decide +kernel
theorem dX9_index_20 : decode cX9_index 20 = .ok (.istore_n 2, 1) := by decide +kernel
theorem dX9_index_21 : decode cX9_index 21 = .ok (.aload_n 0, 1) := by decide +kernel
theorem dX9_index_22 : decode cX9_index 22 = .ok (.getfield 48, 3) := by decide +kernel
theorem dX9_index_25 : decode cX9_index 25 = .ok (.getfield 143, 3) := by decide +kernel
theorem dX9_index_28 : decode cX9_index 28 = .ok (.iload_n 1, 1) := by decide +kernel
theorem dX9_index_29 : decode cX9_index 29 = .ok (.sipush 512, 3) := by decide +kernel
theorem dX9_index_32 : decode cX9_index 32 = .ok (.aload_n 0, 1) := by decide +kernel
theorem dX9_index_33 : decode cX9_index 33 = .ok (.getfield 12, 3) := by decide +kernel
theorem dX9_index_36 : decode cX9_index 36 = .ok (.getfield 189, 3) := by decide +kernel
theorem dX9_index_39 : decode cX9_index 39 = .ok (.iload_n 2, 1) := by decide +kernel
theorem dX9_index_40 : decode cX9_index 40 = .ok (.iaload, 1) := by decide +kernel
theorem dX9_index_41 : decode cX9_index 41 = .ok (.imul, 1) := by decide +kernel
theorem dX9_index_42 : decode cX9_index 42 = .ok (.iconst 4, 1) := by decide +kernel
theorem dX9_index_43 : decode cX9_index 43 = .ok (.aload_n 0, 1) := by decide +kernel
theorem dX9_index_44 : decode cX9_index 44 = .ok (.getfield 12, 3) := by decide +kernel
theorem dX9_index_47 : decode cX9_index 47 = .ok (.getfield 186, 3) := by decide +kernel
theorem dX9_index_50 : decode cX9_index 50 = .ok (.iload_n 2, 1) := by decide +kernel
theorem dX9_index_51 : decode cX9_index 51 = .ok (.iaload, 1) := by decide +kernel
theorem dX9_index_52 : decode cX9_index 52 = .ok (.ifCond .ne 7, 3) := by decide +kernel
theorem dX9_index_55 : decode cX9_index 55 = .ok (.iconst 1, 1) := by decide +kernel
theorem dX9_index_56 : decode cX9_index 56 = .ok (.goto 4, 3) := by decide +kernel
theorem dX9_index_59 : decode cX9_index 59 = .ok (.iconst 0, 1) := by decide +kernel
theorem dX9_index_60 : decode cX9_index 60 = .ok (.imul, 1) := by decide +kernel
theorem dX9_index_61 : decode cX9_index 61 = .ok (.iadd, 1) := by decide +kernel
theorem dX9_index_62 : decode cX9_index 62 = .ok (.iconst 2, 1) := by decide +kernel
theorem dX9_index_63 : decode cX9_index 63 = .ok (.aload_n 0, 1) := by decide +kernel
theorem dX9_index_64 : decode cX9_index 64 = .ok (.getfield 25, 3) := by decide +kernel
theorem dX9_index_67 : decode cX9_index 67 = .ok (.aload_n 0, 1) := by decide +kernel
theorem dX9_index_68 : decode cX9_index 68 = .ok (.getfield 56, 3) := by decide +kernel
theorem dX9_index_71 : decode cX9_index 71 = .ok (.iconst 1, 1) := by decide +kernel
theorem dX9_index_72 : decode cX9_index 72 = .ok (.isub, 1) := by decide +kernel
theorem dX9_index_73 : decode cX9_index 73 = .ok (.baload, 1) := by decide +kernel
theorem dX9_index_74 : decode cX9_index 74 = .ok (.ifCond .eq 7, 3) := by decide +kernel
theorem dX9_index_77 : decode cX9_index 77 = .ok (.iconst 1, 1) := by decide +kernel
theorem dX9_index_78 : decode cX9_index 78 = .ok (.goto 4, 3) := by decide +kernel
theorem dX9_index_81 : decode cX9_index 81 = .ok (.iconst 0, 1) := by decide +kernel
theorem dX9_index_82 : decode cX9_index 82 = .ok (.imul, 1) := by decide +kernel
theorem dX9_index_83 : decode cX9_index 83 = .ok (.iadd, 1) := by decide +kernel
theorem dX9_index_84 : decode cX9_index 84 = .ok (.aload_n 0, 1) := by decide +kernel
theorem dX9_index_85 : decode cX9_index 85 = .ok (.getfield 12, 3) := by decide +kernel
theorem dX9_index_88 : decode cX9_index 88 = .ok (.getfield 192, 3) := by decide +kernel
theorem dX9_index_91 : decode cX9_index 91 = .ok (.iload_n 2, 1) := by decide +kernel
theorem dX9_index_92 : decode cX9_index 92 = .ok (.iaload, 1) := by decide +kernel
theorem dX9_index_93 : decode cX9_index 93 = .ok (.iadd, 1) := by decide +kernel
theorem dX9_index_94 : decode cX9_index 94 = .ok (.iastore, 1) := by decide +kernel
theorem dX9_index_95 : decode cX9_index 95 = .ok (.aload_n 0, 1) := by decide +kernel
theorem dX9_index_96 : decode cX9_index 96 = .ok (.getfield 48, 3) := by decide +kernel
theorem dX9_index_99 : decode cX9_index 99 = .ok (.getfield 133, 3) := by decide +kernel
theorem dX9_index_102 : decode cX9_index 102 = .ok (.iload_n 1, 1) := by decide +kernel
theorem dX9_index_103 : decode cX9_index 103 = .ok (.aload_n 0, 1) := by decide +kernel
theorem dX9_index_104 : decode cX9_index 104 = .ok (.getfield 12, 3) := by decide +kernel
theorem dX9_index_107 : decode cX9_index 107 = .ok (.getfield 193, 3) := by decide +kernel
theorem dX9_index_110 : decode cX9_index 110 = .ok (.iload_n 2, 1) := by decide +kernel
theorem dX9_index_111 : decode cX9_index 111 = .ok (.iaload, 1) := by decide +kernel
theorem dX9_index_112 : decode cX9_index 112 = .ok (.iastore, 1) := by decide +kernel
theorem dX9_index_113 : decode cX9_index 113 = .ok (.aload_n 0, 1) := by decide +kernel
theorem dX9_index_114 : decode cX9_index 114 = .ok (.getfield 48, 3) := by decide +kernel
theorem dX9_index_117 : decode cX9_index 117 = .ok (.getfield 136, 3) := by decide +kernel
theorem dX9_index_120 : decode cX9_index 120 = .ok (.iload_n 1, 1) := by decide +kernel
theorem dX9_index_121 : decode cX9_index 121 = .ok (.aload_n 0, 1) := by decide +kernel
theorem dX9_index_122 : decode cX9_index 122 = .ok (.getfield 22, 3) := by decide +kernel
theorem dX9_index_125 : decode cX9_index 125 = .ok (.aload_n 0, 1) := by decide +kernel
theorem dX9_index_126 : decode cX9_index 126 = .ok (.getfield 56, 3) := by decide +kernel
theorem dX9_index_129 : decode cX9_index 129 = .ok (.iconst 1, 1) := by decide +kernel
theorem dX9_index_130 : decode cX9_index 130 = .ok (.isub, 1) := by decide +kernel
theorem dX9_index_131 : decode cX9_index 131 = .ok (.iaload, 1) := by decide +kernel
theorem dX9_index_132 : decode cX9_index 132 = .ok (.iastore, 1) := by decide +kernel
theorem dX9_index_133 : decode cX9_index 133 = .ok (.return_, 1) := by decide +kernel
theorem dX9_endCall_0 : decode cX9_endCall 0 = .ok (.aload_n 0, 1) := by decide +kernel
theorem dX9_endCall_1 : decode cX9_endCall 1 = .ok (.getfield 12, 3) := by decide +kernel
theorem dX9_endCall_4 : decode cX9_endCall 4 = .ok (.getfield 193, 3) := by decide +kernel
theorem dX9_endCall_7 : decode cX9_endCall 7 = .ok (.aload_n 0, 1) := by decide +kernel
theorem dX9_endCall_8 : decode cX9_endCall 8 = .ok (.getfield 12, 3) := by decide +kernel
theorem dX9_endCall_11 : decode cX9_endCall 11 = .ok (.aload_n 0, 1) := by decide +kernel
theorem dX9_endCall_12 : decode cX9_endCall 12 = .ok (.getfield 48, 3) := by decide +kernel
theorem dX9_endCall_15 : decode cX9_endCall 15 = .ok (.getfield 133, 3) := by decide +kernel
theorem dX9_endCall_18 : decode cX9_endCall 18 = .ok (.iload_n 1, 1) := by decide +kernel
theorem dX9_endCall_19 : decode cX9_endCall 19 = .ok (.iaload, 1) := by decide +kernel
theorem dX9_endCall_20 : decode cX9_endCall 20 = .ok (.aload_n 0, 1) := by decide +kernel
theorem dX9_endCall_21 : decode cX9_endCall 21 = .ok (.getfield 65, 3) := by decide +kernel
theorem dX9_endCall_24 : decode cX9_endCall 24 = .ok (.invokevirtual 68, 3) := by decide +kernel
theorem dX9_endCall_27 : decode cX9_endCall 27 = .ok (.iaload, 1) := by decide +kernel
theorem dX9_endCall_28 : decode cX9_endCall 28 = .ok (.istore_n 2, 1) := by decide +kernel
theorem dX9_endCall_29 : decode cX9_endCall 29 = .ok (.aload_n 0, 1) := by decide +kernel
theorem dX9_endCall_30 : decode cX9_endCall 30 = .ok (.dup, 1) := by decide +kernel
theorem dX9_endCall_31 : decode cX9_endCall 31 = .ok (.getfield 56, 3) := by decide +kernel
theorem dX9_endCall_34 : decode cX9_endCall 34 = .ok (.aload_n 0, 1) := by decide +kernel
theorem dX9_endCall_35 : decode cX9_endCall 35 = .ok (.getfield 48, 3) := by decide +kernel
theorem dX9_endCall_38 : decode cX9_endCall 38 = .ok (.getfield 143, 3) := by decide +kernel
theorem dX9_endCall_41 : decode cX9_endCall 41 = .ok (.iload_n 1, 1) := by decide +kernel
theorem dX9_endCall_42 : decode cX9_endCall 42 = .ok (.iaload, 1) := by decide +kernel
theorem dX9_endCall_43 : decode cX9_endCall 43 = .ok (.isub, 1) := by decide +kernel
theorem dX9_endCall_44 : decode cX9_endCall 44 = .ok (.putfield 56, 3) := by decide +kernel
theorem dX9_endCall_47 : decode cX9_endCall 47 = .ok (.aload_n 0, 1) := by decide +kernel
theorem dX9_endCall_48 : decode cX9_endCall 48 = .ok (.aload_n 0, 1) := by decide +kernel
theorem dX9_endCall_49 : decode cX9_endCall 49 = .ok (.getfield 32, 3) := by decide +kernel
theorem dX9_endCall_52 : decode cX9_endCall 52 = .ok (.iload_n 2, 1) := by decide +kernel
theorem dX9_endCall_53 : decode cX9_endCall 53 = .ok (.iaload, 1) := by decide +kernel
theorem dX9_endCall_54 : decode cX9_endCall 54 = .ok (.iconst 0, 1) := by decide +kernel
theorem dX9_endCall_55 : decode cX9_endCall 55 = .ok (.aload_n 0, 1) := by decide +kernel
theorem dX9_endCall_56 : decode cX9_endCall 56 = .ok (.getfield 48, 3) := by decide +kernel
theorem dX9_endCall_59 : decode cX9_endCall 59 = .ok (.getfield 136, 3) := by decide +kernel
theorem dX9_endCall_62 : decode cX9_endCall 62 = .ok (.iload_n 1, 1) := by decide +kernel
theorem dX9_endCall_63 : decode cX9_endCall 63 = .ok (.iaload, 1) := by decide +kernel
theorem dX9_endCall_64 : decode cX9_endCall 64 = .ok (.invokevirtual 196, 3) := by decide +kernel
theorem dX9_endCall_67 : decode cX9_endCall 67 = .ok (.aload_n 0, 1) := by decide +kernel
theorem dX9_endCall_68 : decode cX9_endCall 68 = .ok (.getfield 48, 3) := by decide +kernel
theorem dX9_endCall_71 : decode cX9_endCall 71 = .ok (.getfield 133, 3) := by decide +kernel
theorem dX9_endCall_74 : decode cX9_endCall 74 = .ok (.iload_n 1, 1) := by decide +kernel
theorem dX9_endCall_75 : decode cX9_endCall 75 = .ok (.iload_n 2, 1) := by decide +kernel
theorem dX9_endCall_76 : decode cX9_endCall 76 = .ok (.iastore, 1) := by decide +kernel
theorem dX9_endCall_77 : decode cX9_endCall 77 = .ok (.return_, 1) := by decide +kernel
theorem dX9_statement_0 : decode cX9_statement 0 = .ok (.aload_n 0, 1) := by decide +kernel
theorem dX9_statement_1 : decode cX9_statement 1 = .ok (.getfield 48, 3) := by decide +kernel
theorem dX9_statement_4 : decode cX9_statement 4 = .ok (.getfield 133, 3) := by decide +kernel
theorem dX9_statement_7 : decode cX9_statement 7 = .ok (.iload_n 1, 1) := by decide +kernel
theorem dX9_statement_8 : decode cX9_statement 8 = .ok (.iaload, 1) := by decide +kernel
theorem dX9_statement_9 : decode cX9_statement 9 = .ok (.istore_n 2, 1) := by decide +kernel
theorem dX9_statement_10 : decode cX9_statement 10 = .ok (.aload_n 0, 1) := by decide +kernel
theorem dX9_statement_11 : decode cX9_statement 11 = .ok (.getfield 48, 3) := by decide +kernel
theorem dX9_statement_14 : decode cX9_statement 14 = .ok (.getfield 136, 3) := by decide +kernel
theorem dX9_statement_17 : decode cX9_statement 17 = .ok (.iload_n 1, 1) := by decide +kernel
theorem dX9_statement_18 : decode cX9_statement 18 = .ok (.iaload, 1) := by decide +kernel
theorem dX9_statement_19 : decode cX9_statement 19 = .ok (.istore_n 3, 1) := by decide +kernel
theorem dX9_statement_20 : decode cX9_statement 20 = .ok (.aload_n 0, 1) := by decide +kernel
theorem dX9_statement_21 : decode cX9_statement 21 = .ok (.getfield 48, 3) := by decide +kernel
theorem dX9_statement_24 : decode cX9_statement 24 = .ok (.getfield 107, 3) := by decide +kernel
theorem dX9_statement_27 : decode cX9_statement 27 = .ok (.iload_n 1, 1) := by decide +kernel
theorem dX9_statement_28 : decode cX9_statement 28 = .ok (.aaload, 1) := by decide +kernel
theorem dX9_statement_29 : decode cX9_statement 29 = .ok (.invokevirtual 111, 3) := by decide +kernel
theorem dX9_statement_32 : decode cX9_statement 32 = .ok (.tableswitch 583 0 21 #[104, 112, 155, 233, 583, 241, 583, 272, 281, 289, 289, 297, 339, 347, 583, 583, 404, 413, 484, 539, 569, 576], 104) := by decide +kernel
theorem dX9_statement_136 : decode cX9_statement 136 = .ok (.aload_n 0, 1) := by decide +kernel
theorem dX9_statement_137 : decode cX9_statement 137 = .ok (.iload_n 1, 1) := by decide +kernel
theorem dX9_statement_138 : decode cX9_statement 138 = .ok (.invokevirtual 137, 3) := by decide +kernel
theorem dX9_statement_141 : decode cX9_statement 141 = .ok (.goto 474, 3) := by decide +kernel
theorem dX9_statement_144 : decode cX9_statement 144 = .ok (.aload_n 0, 1) := by decide +kernel
theorem dX9_statement_145 : decode cX9_statement 145 = .ok (.iload_n 2, 1) := by decide +kernel
theorem dX9_statement_146 : decode cX9_statement 146 = .ok (.iload_n 3, 1) := by decide +kernel
theorem dX9_statement_147 : decode cX9_statement 147 = .ok (.invokevirtual 140, 3) := by decide +kernel
theorem dX9_statement_150 : decode cX9_statement 150 = .ok (.aload_n 0, 1) := by decide +kernel
theorem dX9_statement_151 : decode cX9_statement 151 = .ok (.aload_n 0, 1) := by decide +kernel
theorem dX9_statement_152 : decode cX9_statement 152 = .ok (.getfield 12, 3) := by decide +kernel
theorem dX9_statement_155 : decode cX9_statement 155 = .ok (.getfield 72, 3) := by decide +kernel
theorem dX9_statement_158 : decode cX9_statement 158 = .ok (.putfield 65, 3) := by decide +kernel
theorem dX9_statement_161 : decode cX9_statement 161 = .ok (.aload_n 0, 1) := by decide +kernel
theorem dX9_statement_162 : decode cX9_statement 162 = .ok (.getfield 35, 3) := by decide +kernel
theorem dX9_statement_165 : decode cX9_statement 165 = .ok (.aload_n 0, 1) := by decide +kernel
theorem dX9_statement_166 : decode cX9_statement 166 = .ok (.getfield 90, 3) := by decide +kernel
theorem dX9_statement_169 : decode cX9_statement 169 = .ok (.aload_n 0, 1) := by decide +kernel
theorem dX9_statement_170 : decode cX9_statement 170 = .ok (.getfield 93, 3) := by decide +kernel
theorem dX9_statement_173 : decode cX9_statement 173 = .ok (.iastore, 1) := by decide +kernel
theorem dX9_statement_174 : decode cX9_statement 174 = .ok (.aload_n 0, 1) := by decide +kernel
theorem dX9_statement_175 : decode cX9_statement 175 = .ok (.getfield 38, 3) := by decide +kernel
theorem dX9_statement_178 : decode cX9_statement 178 = .ok (.aload_n 0, 1) := by decide +kernel
theorem dX9_statement_179 : decode cX9_statement 179 = .ok (.getfield 90, 3) := by decide +kernel
theorem dX9_statement_182 : decode cX9_statement 182 = .ok (.iconst 0, 1) := by decide +kernel
theorem dX9_statement_183 : decode cX9_statement 183 = .ok (.iastore, 1) := by decide +kernel
theorem dX9_statement_184 : decode cX9_statement 184 = .ok (.goto 431, 3) := by decide +kernel
theorem dX9_statement_187 : decode cX9_statement 187 = .ok (.aload_n 0, 1) := by decide +kernel
theorem dX9_statement_188 : decode cX9_statement 188 = .ok (.iload_n 2, 1) := by decide +kernel
theorem dX9_statement_189 : decode cX9_statement 189 = .ok (.iload_n 3, 1) := by decide +kernel
theorem dX9_statement_190 : decode cX9_statement 190 = .ok (.invokevirtual 140, 3) := by decide +kernel
theorem dX9_statement_193 : decode cX9_statement 193 = .ok (.aload_n 0, 1) := by decide +kernel
theorem dX9_statement_194 : decode cX9_statement 194 = .ok (.getfield 12, 3) := by decide +kernel
theorem dX9_statement_197 : decode cX9_statement 197 = .ok (.iload_n 2, 1) := by decide +kernel
theorem dX9_statement_198 : decode cX9_statement 198 = .ok (.iconst 3, 1) := by decide +kernel
theorem dX9_statement_199 : decode cX9_statement 199 = .ok (.aload_n 0, 1) := by decide +kernel
theorem dX9_statement_200 : decode cX9_statement 200 = .ok (.getfield 48, 3) := by decide +kernel
theorem dX9_statement_203 : decode cX9_statement 203 = .ok (.getfield 143, 3) := by decide +kernel
theorem dX9_statement_206 : decode cX9_statement 206 = .ok (.iload_n 1, 1) := by decide +kernel
theorem dX9_statement_207 : decode cX9_statement 207 = .ok (.iaload, 1) := by decide +kernel
theorem dX9_statement_208 : decode cX9_statement 208 = .ok (.iconst 0, 1) := by decide +kernel
theorem dX9_statement_209 : decode cX9_statement 209 = .ok (.aload_n 0, 1) := by decide +kernel
theorem dX9_statement_210 : decode cX9_statement 210 = .ok (.getfield 38, 3) := by decide +kernel
theorem dX9_statement_213 : decode cX9_statement 213 = .ok (.aload_n 0, 1) := by decide +kernel
theorem dX9_statement_214 : decode cX9_statement 214 = .ok (.getfield 90, 3) := by decide +kernel
theorem dX9_statement_217 : decode cX9_statement 217 = .ok (.iaload, 1) := by decide +kernel
theorem dX9_statement_218 : decode cX9_statement 218 = .ok (.invokevirtual 146, 3) := by decide +kernel
theorem dX9_statement_221 : decode cX9_statement 221 = .ok (.aload_n 0, 1) := by decide +kernel
theorem dX9_statement_222 : decode cX9_statement 222 = .ok (.getfield 41, 3) := by decide +kernel
theorem dX9_statement_225 : decode cX9_statement 225 = .ok (.aload_n 0, 1) := by decide +kernel
theorem dX9_statement_226 : decode cX9_statement 226 = .ok (.getfield 93, 3) := by decide +kernel
theorem dX9_statement_229 : decode cX9_statement 229 = .ok (.aload_n 0, 1) := by decide +kernel
theorem dX9_statement_230 : decode cX9_statement 230 = .ok (.getfield 48, 3) := by decide +kernel
theorem dX9_statement_233 : decode cX9_statement 233 = .ok (.getfield 143, 3) := by decide +kernel
theorem dX9_statement_236 : decode cX9_statement 236 = .ok (.iload_n 1, 1) := by decide +kernel
theorem dX9_statement_237 : decode cX9_statement 237 = .ok (.iaload, 1) := by decide +kernel
theorem dX9_statement_238 : decode cX9_statement 238 = .ok (.iastore, 1) := by decide +kernel
theorem dX9_statement_239 : decode cX9_statement 239 = .ok (.aload_n 0, 1) := by decide +kernel
theorem dX9_statement_240 : decode cX9_statement 240 = .ok (.dup, 1) := by decide +kernel
theorem dX9_statement_241 : decode cX9_statement 241 = .ok (.getfield 93, 3) := by decide +kernel
theorem dX9_statement_244 : decode cX9_statement 244 = .ok (.iconst 1, 1) := by decide +kernel
theorem dX9_statement_245 : decode cX9_statement 245 = .ok (.iadd, 1) := by decide +kernel
theorem dX9_statement_246 : decode cX9_statement 246 = .ok (.putfield 93, 3) := by decide +kernel
theorem dX9_statement_249 : decode cX9_statement 249 = .ok (.aload_n 0, 1) := by decide +kernel
theorem dX9_statement_250 : decode cX9_statement 250 = .ok (.getfield 38, 3) := by decide +kernel
theorem dX9_statement_253 : decode cX9_statement 253 = .ok (.aload_n 0, 1) := by decide +kernel
theorem dX9_statement_254 : decode cX9_statement 254 = .ok (.getfield 90, 3) := by decide +kernel
theorem dX9_statement_257 : decode cX9_statement 257 = .ok (.dup2, 1) := by decide +kernel
theorem dX9_statement_258 : decode cX9_statement 258 = .ok (.iaload, 1) := by decide +kernel
theorem dX9_statement_259 : decode cX9_statement 259 = .ok (.iconst 1, 1) := by decide +kernel
theorem dX9_statement_260 : decode cX9_statement 260 = .ok (.iadd, 1) := by decide +kernel
theorem dX9_statement_261 : decode cX9_statement 261 = .ok (.iastore, 1) := by decide +kernel
theorem dX9_statement_262 : decode cX9_statement 262 = .ok (.goto 353, 3) := by decide +kernel
theorem dX9_statement_265 : decode cX9_statement 265 = .ok (.aload_n 0, 1) := by decide +kernel
theorem dX9_statement_266 : decode cX9_statement 266 = .ok (.iload_n 1, 1) := by decide +kernel
theorem dX9_statement_267 : decode cX9_statement 267 = .ok (.invokevirtual 150, 3) := by decide +kernel
theorem dX9_statement_270 : decode cX9_statement 270 = .ok (.goto 345, 3) := by decide +kernel
theorem dX9_statement_273 : decode cX9_statement 273 = .ok (.aload_n 0, 1) := by decide +kernel
theorem dX9_statement_274 : decode cX9_statement 274 = .ok (.dup, 1) := by decide +kernel
theorem dX9_statement_275 : decode cX9_statement 275 = .ok (.getfield 56, 3) := by decide +kernel
theorem dX9_statement_278 : decode cX9_statement 278 = .ok (.iconst 1, 1) := by decide +kernel
theorem dX9_statement_279 : decode cX9_statement 279 = .ok (.isub, 1) := by decide +kernel
theorem dX9_statement_280 : decode cX9_statement 280 = .ok (.putfield 56, 3) := by decide +kernel
theorem dX9_statement_283 : decode cX9_statement 283 = .ok (.aload_n 0, 1) := by decide +kernel
theorem dX9_statement_284 : decode cX9_statement 284 = .ok (.getfield 48, 3) := by decide +kernel
theorem dX9_statement_287 : decode cX9_statement 287 = .ok (.getfield 143, 3) := by decide +kernel
theorem dX9_statement_290 : decode cX9_statement 290 = .ok (.iload_n 1, 1) := by decide +kernel
theorem dX9_statement_291 : decode cX9_statement 291 = .ok (.aload_n 0, 1) := by decide +kernel
theorem dX9_statement_292 : decode cX9_statement 292 = .ok (.getfield 18, 3) := by decide +kernel
theorem dX9_statement_295 : decode cX9_statement 295 = .ok (.aload_n 0, 1) := by decide +kernel
theorem dX9_statement_296 : decode cX9_statement 296 = .ok (.getfield 56, 3) := by decide +kernel
theorem dX9_statement_299 : decode cX9_statement 299 = .ok (.iaload, 1) := by decide +kernel
theorem dX9_statement_300 : decode cX9_statement 300 = .ok (.iastore, 1) := by decide +kernel
theorem dX9_statement_301 : decode cX9_statement 301 = .ok (.goto 314, 3) := by decide +kernel
theorem dX9_statement_304 : decode cX9_statement 304 = .ok (.aload_n 0, 1) := by decide +kernel
theorem dX9_statement_305 : decode cX9_statement 305 = .ok (.iload_n 2, 1) := by decide +kernel
theorem dX9_statement_306 : decode cX9_statement 306 = .ok (.iload_n 3, 1) := by decide +kernel
theorem dX9_statement_307 : decode cX9_statement 307 = .ok (.invokevirtual 140, 3) := by decide +kernel
theorem dX9_statement_310 : decode cX9_statement 310 = .ok (.goto 305, 3) := by decide +kernel
theorem dX9_statement_313 : decode cX9_statement 313 = .ok (.aload_n 0, 1) := by decide +kernel
theorem dX9_statement_314 : decode cX9_statement 314 = .ok (.iload_n 1, 1) := by decide +kernel
theorem dX9_statement_315 : decode cX9_statement 315 = .ok (.invokevirtual 153, 3) := by decide +kernel
theorem dX9_statement_318 : decode cX9_statement 318 = .ok (.goto 297, 3) := by decide +kernel
theorem dX9_statement_321 : decode cX9_statement 321 = .ok (.aload_n 0, 1) := by decide +kernel
theorem dX9_statement_322 : decode cX9_statement 322 = .ok (.iload_n 1, 1) := by decide +kernel
theorem dX9_statement_323 : decode cX9_statement 323 = .ok (.invokevirtual 156, 3) := by decide +kernel
theorem dX9_statement_326 : decode cX9_statement 326 = .ok (.goto 289, 3) := by decide +kernel
theorem dX9_statement_329 : decode cX9_statement 329 = .ok (.aload_n 0, 1) := by decide +kernel
theorem dX9_statement_330 : decode cX9_statement 330 = .ok (.aload_n 0, 1) := by decide +kernel
theorem dX9_statement_331 : decode cX9_statement 331 = .ok (.getfield 18, 3) := by decide +kernel
theorem dX9_statement_334 : decode cX9_statement 334 = .ok (.aload_n 0, 1) := by decide +kernel
theorem dX9_statement_335 : decode cX9_statement 335 = .ok (.getfield 56, 3) := by decide +kernel
theorem dX9_statement_338 : decode cX9_statement 338 = .ok (.iconst 1, 1) := by decide +kernel
theorem dX9_statement_339 : decode cX9_statement 339 = .ok (.isub, 1) := by decide +kernel
theorem dX9_statement_340 : decode cX9_statement 340 = .ok (.iaload, 1) := by decide +kernel
theorem dX9_statement_341 : decode cX9_statement 341 = .ok (.ifCond .ne 7, 3) := by decide +kernel
theorem dX9_statement_344 : decode cX9_statement 344 = .ok (.iconst 1, 1) := by decide +kernel
theorem dX9_statement_345 : decode cX9_statement 345 = .ok (.goto 4, 3) := by decide +kernel
theorem dX9_statement_348 : decode cX9_statement 348 = .ok (.iconst 0, 1) := by decide +kernel
theorem dX9_statement_349 : decode cX9_statement 349 = .ok (.aload_n 0, 1) := by decide +kernel
theorem dX9_statement_350 : decode cX9_statement 350 = .ok (.getfield 22, 3) := by decide +kernel
theorem dX9_statement_353 : decode cX9_statement 353 = .ok (.aload_n 0, 1) := by decide +kernel
theorem dX9_statement_354 : decode cX9_statement 354 = .ok (.getfield 56, 3) := by decide +kernel
theorem dX9_statement_357 : decode cX9_statement 357 = .ok (.iconst 1, 1) := by decide +kernel
theorem dX9_statement_358 : decode cX9_statement 358 = .ok (.isub, 1) := by decide +kernel
theorem dX9_statement_359 : decode cX9_statement 359 = .ok (.iaload, 1) := by decide +kernel
theorem dX9_statement_360 : decode cX9_statement 360 = .ok (.invokevirtual 159, 3) := by decide +kernel
theorem dX9_statement_363 : decode cX9_statement 363 = .ok (.aload_n 0, 1) := by decide +kernel
theorem dX9_statement_364 : decode cX9_statement 364 = .ok (.iload_n 1, 1) := by decide +kernel
theorem dX9_statement_365 : decode cX9_statement 365 = .ok (.invokevirtual 163, 3) := by decide +kernel
theorem dX9_statement_368 : decode cX9_statement 368 = .ok (.goto 247, 3) := by decide +kernel
theorem dX9_statement_371 : decode cX9_statement 371 = .ok (.aload_n 0, 1) := by decide +kernel
theorem dX9_statement_372 : decode cX9_statement 372 = .ok (.iload_n 1, 1) := by decide +kernel
theorem dX9_statement_373 : decode cX9_statement 373 = .ok (.invokevirtual 166, 3) := by decide +kernel
theorem dX9_statement_376 : decode cX9_statement 376 = .ok (.goto 239, 3) := by decide +kernel
theorem dX9_statement_379 : decode cX9_statement 379 = .ok (.aload_n 0, 1) := by decide +kernel
theorem dX9_statement_380 : decode cX9_statement 380 = .ok (.dup, 1) := by decide +kernel
theorem dX9_statement_381 : decode cX9_statement 381 = .ok (.getfield 56, 3) := by decide +kernel
theorem dX9_statement_384 : decode cX9_statement 384 = .ok (.iconst 1, 1) := by decide +kernel
theorem dX9_statement_385 : decode cX9_statement 385 = .ok (.isub, 1) := by decide +kernel
theorem dX9_statement_386 : decode cX9_statement 386 = .ok (.putfield 56, 3) := by decide +kernel
theorem dX9_statement_389 : decode cX9_statement 389 = .ok (.aload_n 0, 1) := by decide +kernel
theorem dX9_statement_390 : decode cX9_statement 390 = .ok (.aload_n 0, 1) := by decide +kernel
theorem dX9_statement_391 : decode cX9_statement 391 = .ok (.getfield 18, 3) := by decide +kernel
theorem dX9_statement_394 : decode cX9_statement 394 = .ok (.aload_n 0, 1) := by decide +kernel
theorem dX9_statement_395 : decode cX9_statement 395 = .ok (.getfield 56, 3) := by decide +kernel
theorem dX9_statement_398 : decode cX9_statement 398 = .ok (.iaload, 1) := by decide +kernel
theorem dX9_statement_399 : decode cX9_statement 399 = .ok (.iconst 1, 1) := by decide +kernel
theorem dX9_statement_400 : decode cX9_statement 400 = .ok (.if_icmp .ne 7, 3) := by decide +kernel
theorem dX9_statement_403 : decode cX9_statement 403 = .ok (.iconst 1, 1) := by decide +kernel
theorem dX9_statement_404 : decode cX9_statement 404 = .ok (.goto 4, 3) := by decide +kernel
theorem dX9_statement_407 : decode cX9_statement 407 = .ok (.iconst 0, 1) := by decide +kernel
theorem dX9_statement_408 : decode cX9_statement 408 = .ok (.aload_n 0, 1) := by decide +kernel
theorem dX9_statement_409 : decode cX9_statement 409 = .ok (.getfield 22, 3) := by decide +kernel
theorem dX9_statement_412 : decode cX9_statement 412 = .ok (.aload_n 0, 1) := by decide +kernel
theorem dX9_statement_413 : decode cX9_statement 413 = .ok (.getfield 56, 3) := by decide +kernel
theorem dX9_statement_416 : decode cX9_statement 416 = .ok (.iaload, 1) := by decide +kernel
theorem dX9_statement_417 : decode cX9_statement 417 = .ok (.invokevirtual 159, 3) := by decide +kernel
theorem dX9_statement_420 : decode cX9_statement 420 = .ok (.aload_n 0, 1) := by decide +kernel
theorem dX9_statement_421 : decode cX9_statement 421 = .ok (.getfield 48, 3) := by decide +kernel
theorem dX9_statement_424 : decode cX9_statement 424 = .ok (.getfield 133, 3) := by decide +kernel
theorem dX9_statement_427 : decode cX9_statement 427 = .ok (.iload_n 1, 1) := by decide +kernel
theorem dX9_statement_428 : decode cX9_statement 428 = .ok (.aload_n 0, 1) := by decide +kernel
theorem dX9_statement_429 : decode cX9_statement 429 = .ok (.getfield 78, 3) := by decide +kernel
theorem dX9_statement_432 : decode cX9_statement 432 = .ok (.iastore, 1) := by decide +kernel
theorem dX9_statement_433 : decode cX9_statement 433 = .ok (.goto 182, 3) := by decide +kernel
theorem dX9_statement_436 : decode cX9_statement 436 = .ok (.aload_n 0, 1) := by decide +kernel
theorem dX9_statement_437 : decode cX9_statement 437 = .ok (.iload_n 2, 1) := by decide +kernel
theorem dX9_statement_438 : decode cX9_statement 438 = .ok (.iload_n 3, 1) := by decide +kernel
theorem dX9_statement_439 : decode cX9_statement 439 = .ok (.invokevirtual 140, 3) := by decide +kernel
theorem dX9_statement_442 : decode cX9_statement 442 = .ok (.goto 173, 3) := by decide +kernel
theorem dX9_statement_445 : decode cX9_statement 445 = .ok (.aload_n 0, 1) := by decide +kernel
theorem dX9_statement_446 : decode cX9_statement 446 = .ok (.aload_n 0, 1) := by decide +kernel
theorem dX9_statement_447 : decode cX9_statement 447 = .ok (.getfield 18, 3) := by decide +kernel
theorem dX9_statement_450 : decode cX9_statement 450 = .ok (.aload_n 0, 1) := by decide +kernel
theorem dX9_statement_451 : decode cX9_statement 451 = .ok (.getfield 56, 3) := by decide +kernel
theorem dX9_statement_454 : decode cX9_statement 454 = .ok (.iconst 1, 1) := by decide +kernel
theorem dX9_statement_455 : decode cX9_statement 455 = .ok (.isub, 1) := by decide +kernel
theorem dX9_statement_456 : decode cX9_statement 456 = .ok (.iaload, 1) := by decide +kernel
theorem dX9_statement_457 : decode cX9_statement 457 = .ok (.ifCond .ne 7, 3) := by decide +kernel
theorem dX9_statement_460 : decode cX9_statement 460 = .ok (.iconst 1, 1) := by decide +kernel
theorem dX9_statement_461 : decode cX9_statement 461 = .ok (.goto 4, 3) := by decide +kernel
theorem dX9_statement_464 : decode cX9_statement 464 = .ok (.iconst 0, 1) := by decide +kernel
theorem dX9_statement_465 : decode cX9_statement 465 = .ok (.aload_n 0, 1) := by decide +kernel
theorem dX9_statement_466 : decode cX9_statement 466 = .ok (.getfield 22, 3) := by decide +kernel
theorem dX9_statement_469 : decode cX9_statement 469 = .ok (.aload_n 0, 1) := by decide +kernel
theorem dX9_statement_470 : decode cX9_statement 470 = .ok (.getfield 56, 3) := by decide +kernel
theorem dX9_statement_473 : decode cX9_statement 473 = .ok (.iconst 1, 1) := by decide +kernel
theorem dX9_statement_474 : decode cX9_statement 474 = .ok (.isub, 1) := by decide +kernel
theorem dX9_statement_475 : decode cX9_statement 475 = .ok (.iaload, 1) := by decide +kernel
theorem dX9_statement_476 : decode cX9_statement 476 = .ok (.invokevirtual 159, 3) := by decide +kernel
theorem dX9_statement_479 : decode cX9_statement 479 = .ok (.aload_n 0, 1) := by decide +kernel
theorem dX9_statement_480 : decode cX9_statement 480 = .ok (.getfield 25, 3) := by decide +kernel
theorem dX9_statement_483 : decode cX9_statement 483 = .ok (.aload_n 0, 1) := by decide +kernel
theorem dX9_statement_484 : decode cX9_statement 484 = .ok (.getfield 56, 3) := by decide +kernel
theorem dX9_statement_487 : decode cX9_statement 487 = .ok (.iconst 1, 1) := by decide +kernel
theorem dX9_statement_488 : decode cX9_statement 488 = .ok (.isub, 1) := by decide +kernel
theorem dX9_statement_489 : decode cX9_statement 489 = .ok (.baload, 1) := by decide +kernel
theorem dX9_statement_490 : decode cX9_statement 490 = .ok (.ifCond .ne 125, 3) := by decide +kernel
theorem dX9_statement_493 : decode cX9_statement 493 = .ok (.aload_n 0, 1) := by decide +kernel
theorem dX9_statement_494 : decode cX9_statement 494 = .ok (.getfield 52, 3) := by decide +kernel
theorem dX9_statement_497 : decode cX9_statement 497 = .ok (.bipush 6, 2) := by decide +kernel
theorem dX9_statement_499 : decode cX9_statement 499 = .ok (.aload_n 0, 1) := by decide +kernel
theorem dX9_statement_500 : decode cX9_statement 500 = .ok (.getfield 22, 3) := by decide +kernel
theorem dX9_statement_503 : decode cX9_statement 503 = .ok (.aload_n 0, 1) := by decide +kernel
theorem dX9_statement_504 : decode cX9_statement 504 = .ok (.getfield 56, 3) := by decide +kernel
theorem dX9_statement_507 : decode cX9_statement 507 = .ok (.iconst 1, 1) := by decide +kernel
theorem dX9_statement_508 : decode cX9_statement 508 = .ok (.isub, 1) := by decide +kernel
theorem dX9_statement_509 : decode cX9_statement 509 = .ok (.iaload, 1) := by decide +kernel
theorem dX9_statement_510 : decode cX9_statement 510 = .ok (.invokevirtual 59, 3) := by decide +kernel
theorem dX9_statement_513 : decode cX9_statement 513 = .ok (.goto 102, 3) := by decide +kernel
theorem dX9_statement_516 : decode cX9_statement 516 = .ok (.aload_n 0, 1) := by decide +kernel
theorem dX9_statement_517 : decode cX9_statement 517 = .ok (.dup, 1) := by decide +kernel
theorem dX9_statement_518 : decode cX9_statement 518 = .ok (.getfield 56, 3) := by decide +kernel
theorem dX9_statement_521 : decode cX9_statement 521 = .ok (.iconst 2, 1) := by decide +kernel
theorem dX9_statement_522 : decode cX9_statement 522 = .ok (.isub, 1) := by decide +kernel
theorem dX9_statement_523 : decode cX9_statement 523 = .ok (.putfield 56, 3) := by decide +kernel
theorem dX9_statement_526 : decode cX9_statement 526 = .ok (.aload_n 0, 1) := by decide +kernel
theorem dX9_statement_527 : decode cX9_statement 527 = .ok (.invokevirtual 169, 3) := by decide +kernel
theorem dX9_statement_530 : decode cX9_statement 530 = .ok (.aload_n 0, 1) := by decide +kernel
theorem dX9_statement_531 : decode cX9_statement 531 = .ok (.getfield 12, 3) := by decide +kernel
theorem dX9_statement_534 : decode cX9_statement 534 = .ok (.iload_n 2, 1) := by decide +kernel
theorem dX9_statement_535 : decode cX9_statement 535 = .ok (.iconst 2, 1) := by decide +kernel
theorem dX9_statement_536 : decode cX9_statement 536 = .ok (.iconst 0, 1) := by decide +kernel
theorem dX9_statement_537 : decode cX9_statement 537 = .ok (.iconst 0, 1) := by decide +kernel
theorem dX9_statement_538 : decode cX9_statement 538 = .ok (.aload_n 0, 1) := by decide +kernel
theorem dX9_statement_539 : decode cX9_statement 539 = .ok (.getfield 87, 3) := by decide +kernel
theorem dX9_statement_542 : decode cX9_statement 542 = .ok (.invokevirtual 146, 3) := by decide +kernel
theorem dX9_statement_545 : decode cX9_statement 545 = .ok (.aload_n 0, 1) := by decide +kernel
theorem dX9_statement_546 : decode cX9_statement 546 = .ok (.getfield 48, 3) := by decide +kernel
theorem dX9_statement_549 : decode cX9_statement 549 = .ok (.getfield 133, 3) := by decide +kernel
theorem dX9_statement_552 : decode cX9_statement 552 = .ok (.iload_n 1, 1) := by decide +kernel
theorem dX9_statement_553 : decode cX9_statement 553 = .ok (.aload_n 0, 1) := by decide +kernel
theorem dX9_statement_554 : decode cX9_statement 554 = .ok (.getfield 87, 3) := by decide +kernel
theorem dX9_statement_557 : decode cX9_statement 557 = .ok (.iastore, 1) := by decide +kernel
theorem dX9_statement_558 : decode cX9_statement 558 = .ok (.aload_n 0, 1) := by decide +kernel
theorem dX9_statement_559 : decode cX9_statement 559 = .ok (.dup, 1) := by decide +kernel
theorem dX9_statement_560 : decode cX9_statement 560 = .ok (.getfield 87, 3) := by decide +kernel
theorem dX9_statement_563 : decode cX9_statement 563 = .ok (.iconst 1, 1) := by decide +kernel
theorem dX9_statement_564 : decode cX9_statement 564 = .ok (.iadd, 1) := by decide +kernel
theorem dX9_statement_565 : decode cX9_statement 565 = .ok (.putfield 87, 3) := by decide +kernel
theorem dX9_statement_568 : decode cX9_statement 568 = .ok (.goto 47, 3) := by decide +kernel
theorem dX9_statement_571 : decode cX9_statement 571 = .ok (.aload_n 0, 1) := by decide +kernel
theorem dX9_statement_572 : decode cX9_statement 572 = .ok (.invokevirtual 172, 3) := by decide +kernel
theorem dX9_statement_575 : decode cX9_statement 575 = .ok (.aload_n 0, 1) := by decide +kernel
theorem dX9_statement_576 : decode cX9_statement 576 = .ok (.dup, 1) := by decide +kernel
theorem dX9_statement_577 : decode cX9_statement 577 = .ok (.getfield 87, 3) := by decide +kernel
theorem dX9_statement_580 : decode cX9_statement 580 = .ok (.iconst 1, 1) := by decide +kernel
theorem dX9_statement_581 : decode cX9_statement 581 = .ok (.isub, 1) := by decide +kernel
theorem dX9_statement_582 : decode cX9_statement 582 = .ok (.putfield 87, 3) := by decide +kernel
theorem dX9_statement_585 : decode cX9_statement 585 = .ok (.aload_n 0, 1) := by decide +kernel
theorem dX9_statement_586 : decode cX9_statement 586 = .ok (.getfield 48, 3) := by decide +kernel
theorem dX9_statement_589 : decode cX9_statement 589 = .ok (.getfield 133, 3) := by decide +kernel
theorem dX9_statement_592 : decode cX9_statement 592 = .ok (.iload_n 1, 1) := by decide +kernel
theorem dX9_statement_593 : decode cX9_statement 593 = .ok (.aload_n 0, 1) := by decide +kernel
theorem dX9_statement_594 : decode cX9_statement 594 = .ok (.getfield 87, 3) := by decide +kernel
theorem dX9_statement_597 : decode cX9_statement 597 = .ok (.iastore, 1) := by decide +kernel
theorem dX9_statement_598 : decode cX9_statement 598 = .ok (.goto 17, 3) := by decide +kernel
theorem dX9_statement_601 : decode cX9_statement 601 = .ok (.aload_n 0, 1) := by decide +kernel
theorem dX9_statement_602 : decode cX9_statement 602 = .ok (.invokevirtual 169, 3) := by decide +kernel
theorem dX9_statement_605 : decode cX9_statement 605 = .ok (.goto 10, 3) := by decide +kernel
theorem dX9_statement_608 : decode cX9_statement 608 = .ok (.aload_n 0, 1) := by decide +kernel
theorem dX9_statement_609 : decode cX9_statement 609 = .ok (.invokevirtual 172, 3) := by decide +kernel
theorem dX9_statement_612 : decode cX9_statement 612 = .ok (.goto 3, 3) := by decide +kernel
theorem dX9_statement_615 : decode cX9_statement 615 = .ok (.return_, 1) := by decide +kernel
theorem dX9_input_0 : decode cX9_input 0 = .ok (.aload_n 0, 1) := by decide +kernel
theorem dX9_input_1 : decode cX9_input 1 = .ok (.getfield 48, 3) := by decide +kernel
theorem dX9_input_4 : decode cX9_input 4 = .ok (.getfield 143, 3) := by decide +kernel
theorem dX9_input_7 : decode cX9_input 7 = .ok (.iload_n 1, 1) := by decide +kernel
theorem dX9_input_8 : decode cX9_input 8 = .ok (.iaload, 1) := by decide +kernel
theorem dX9_input_9 : decode cX9_input 9 = .ok (.iconst 1, 1) := by decide +kernel
theorem dX9_input_10 : decode cX9_input 10 = .ok (.iand, 1) := by decide +kernel
theorem dX9_input_11 : decode cX9_input 11 = .ok (.istore_n 2, 1) := by decide +kernel
theorem dX9_input_12 : decode cX9_input 12 = .ok (.aload_n 0, 1) := by decide +kernel
theorem dX9_input_13 : decode cX9_input 13 = .ok (.getfield 48, 3) := by decide +kernel
theorem dX9_input_16 : decode cX9_input 16 = .ok (.getfield 143, 3) := by decide +kernel
theorem dX9_input_19 : decode cX9_input 19 = .ok (.iload_n 1, 1) := by decide +kernel
theorem dX9_input_20 : decode cX9_input 20 = .ok (.iaload, 1) := by decide +kernel
theorem dX9_input_21 : decode cX9_input 21 = .ok (.sipush 256, 3) := by decide +kernel
theorem dX9_input_24 : decode cX9_input 24 = .ok (.irem, 1) := by decide +kernel
theorem dX9_input_25 : decode cX9_input 25 = .ok (.iconst 2, 1) := by decide +kernel
theorem dX9_input_26 : decode cX9_input 26 = .ok (.idiv, 1) := by decide +kernel
theorem dX9_input_27 : decode cX9_input 27 = .ok (.istore_n 3, 1) := by decide +kernel
theorem dX9_input_28 : decode cX9_input 28 = .ok (.aload_n 0, 1) := by decide +kernel
theorem dX9_input_29 : decode cX9_input 29 = .ok (.aload_n 0, 1) := by decide +kernel
theorem dX9_input_30 : decode cX9_input 30 = .ok (.getfield 48, 3) := by decide +kernel
theorem dX9_input_33 : decode cX9_input 33 = .ok (.getfield 133, 3) := by decide +kernel
theorem dX9_input_36 : decode cX9_input 36 = .ok (.iload_n 1, 1) := by decide +kernel
theorem dX9_input_37 : decode cX9_input 37 = .ok (.iaload, 1) := by decide +kernel
theorem dX9_input_38 : decode cX9_input 38 = .ok (.aload_n 0, 1) := by decide +kernel
theorem dX9_input_39 : decode cX9_input 39 = .ok (.getfield 48, 3) := by decide +kernel
theorem dX9_input_42 : decode cX9_input 42 = .ok (.getfield 136, 3) := by decide +kernel
theorem dX9_input_45 : decode cX9_input 45 = .ok (.iload_n 1, 1) := by decide +kernel
theorem dX9_input_46 : decode cX9_input 46 = .ok (.iaload, 1) := by decide +kernel
theorem dX9_input_47 : decode cX9_input 47 = .ok (.invokevirtual 140, 3) := by decide +kernel
theorem dX9_input_50 : decode cX9_input 50 = .ok (.aload_n 0, 1) := by decide +kernel
theorem dX9_input_51 : decode cX9_input 51 = .ok (.getfield 12, 3) := by decide +kernel
theorem dX9_input_54 : decode cX9_input 54 = .ok (.aload_n 0, 1) := by decide +kernel
theorem dX9_input_55 : decode cX9_input 55 = .ok (.getfield 48, 3) := by decide +kernel
theorem dX9_input_58 : decode cX9_input 58 = .ok (.getfield 133, 3) := by decide +kernel
theorem dX9_input_61 : decode cX9_input 61 = .ok (.iload_n 1, 1) := by decide +kernel
theorem dX9_input_62 : decode cX9_input 62 = .ok (.iaload, 1) := by decide +kernel
theorem dX9_input_63 : decode cX9_input 63 = .ok (.iconst 0, 1) := by decide +kernel
theorem dX9_input_64 : decode cX9_input 64 = .ok (.iload_n 2, 1) := by decide +kernel
theorem dX9_input_65 : decode cX9_input 65 = .ok (.iload_n 3, 1) := by decide +kernel
theorem dX9_input_66 : decode cX9_input 66 = .ok (.aload_n 0, 1) := by decide +kernel
theorem dX9_input_67 : decode cX9_input 67 = .ok (.getfield 81, 3) := by decide +kernel
theorem dX9_input_70 : decode cX9_input 70 = .ok (.invokevirtual 146, 3) := by decide +kernel
theorem dX9_input_73 : decode cX9_input 73 = .ok (.aload_n 0, 1) := by decide +kernel
theorem dX9_input_74 : decode cX9_input 74 = .ok (.getfield 48, 3) := by decide +kernel
theorem dX9_input_77 : decode cX9_input 77 = .ok (.getfield 133, 3) := by decide +kernel
theorem dX9_input_80 : decode cX9_input 80 = .ok (.iload_n 1, 1) := by decide +kernel
theorem dX9_input_81 : decode cX9_input 81 = .ok (.aload_n 0, 1) := by decide +kernel
theorem dX9_input_82 : decode cX9_input 82 = .ok (.getfield 81, 3) := by decide +kernel
theorem dX9_input_85 : decode cX9_input 85 = .ok (.iastore, 1) := by decide +kernel
theorem dX9_input_86 : decode cX9_input 86 = .ok (.aload_n 0, 1) := by decide +kernel
theorem dX9_input_87 : decode cX9_input 87 = .ok (.dup, 1) := by decide +kernel
theorem dX9_input_88 : decode cX9_input 88 = .ok (.getfield 81, 3) := by decide +kernel
theorem dX9_input_91 : decode cX9_input 91 = .ok (.iconst 1, 1) := by decide +kernel
theorem dX9_input_92 : decode cX9_input 92 = .ok (.iload_n 3, 1) := by decide +kernel
theorem dX9_input_93 : decode cX9_input 93 = .ok (.invokestatic 175, 3) := by decide +kernel
theorem dX9_input_96 : decode cX9_input 96 = .ok (.iadd, 1) := by decide +kernel
theorem dX9_input_97 : decode cX9_input 97 = .ok (.putfield 81, 3) := by decide +kernel
theorem dX9_input_100 : decode cX9_input 100 = .ok (.aload_n 0, 1) := by decide +kernel
theorem dX9_input_101 : decode cX9_input 101 = .ok (.dup, 1) := by decide +kernel
theorem dX9_input_102 : decode cX9_input 102 = .ok (.getfield 84, 3) := by decide +kernel
theorem dX9_input_105 : decode cX9_input 105 = .ok (.iconst 1, 1) := by decide +kernel
theorem dX9_input_106 : decode cX9_input 106 = .ok (.iload_n 3, 1) := by decide +kernel
theorem dX9_input_107 : decode cX9_input 107 = .ok (.invokestatic 175, 3) := by decide +kernel
theorem dX9_input_110 : decode cX9_input 110 = .ok (.iload_n 2, 1) := by decide +kernel
theorem dX9_input_111 : decode cX9_input 111 = .ok (.iconst 1, 1) := by decide +kernel
theorem dX9_input_112 : decode cX9_input 112 = .ok (.if_icmp .ne 7, 3) := by decide +kernel
theorem dX9_input_115 : decode cX9_input 115 = .ok (.iconst 1, 1) := by decide +kernel
theorem dX9_input_116 : decode cX9_input 116 = .ok (.goto 7, 3) := by decide +kernel
theorem dX9_input_119 : decode cX9_input 119 = .ok (.aload_n 0, 1) := by decide +kernel
theorem dX9_input_120 : decode cX9_input 120 = .ok (.getfield 44, 3) := by decide +kernel
theorem dX9_input_123 : decode cX9_input 123 = .ok (.imul, 1) := by decide +kernel
theorem dX9_input_124 : decode cX9_input 124 = .ok (.iadd, 1) := by decide +kernel
theorem dX9_input_125 : decode cX9_input 125 = .ok (.putfield 84, 3) := by decide +kernel
theorem dX9_input_128 : decode cX9_input 128 = .ok (.return_, 1) := by decide +kernel
theorem dX9_comesIn_0 : decode cX9_comesIn 0 = .ok (.aload_n 0, 1) := by decide +kernel
theorem dX9_comesIn_1 : decode cX9_comesIn 1 = .ok (.getfield 12, 3) := by decide +kernel
theorem dX9_comesIn_4 : decode cX9_comesIn 4 = .ok (.iload_n 1, 1) := by decide +kernel
theorem dX9_comesIn_5 : decode cX9_comesIn 5 = .ok (.aload_n 0, 1) := by decide +kernel
theorem dX9_comesIn_6 : decode cX9_comesIn 6 = .ok (.getfield 65, 3) := by decide +kernel
theorem dX9_comesIn_9 : decode cX9_comesIn 9 = .ok (.invokevirtual 68, 3) := by decide +kernel
theorem dX9_comesIn_12 : decode cX9_comesIn 12 = .ok (.iconst (-1), 1) := by decide +kernel
theorem dX9_comesIn_13 : decode cX9_comesIn 13 = .ok (.if_icmp .eq 12, 3) := by decide +kernel
theorem dX9_comesIn_16 : decode cX9_comesIn 16 = .ok (.aload_n 0, 1) := by decide +kernel
theorem dX9_comesIn_17 : decode cX9_comesIn 17 = .ok (.getfield 52, 3) := by decide +kernel
theorem dX9_comesIn_20 : decode cX9_comesIn 20 = .ok (.iconst 4, 1) := by decide +kernel
theorem dX9_comesIn_21 : decode cX9_comesIn 21 = .ok (.iload_n 2, 1) := by decide +kernel
theorem dX9_comesIn_22 : decode cX9_comesIn 22 = .ok (.invokevirtual 59, 3) := by decide +kernel
theorem dX9_comesIn_25 : decode cX9_comesIn 25 = .ok (.return_, 1) := by decide +kernel
theorem dX9_endDef_0 : decode cX9_endDef 0 = .ok (.aload_n 0, 1) := by decide +kernel
theorem dX9_endDef_1 : decode cX9_endDef 1 = .ok (.dup, 1) := by decide +kernel
theorem dX9_endDef_2 : decode cX9_endDef 2 = .ok (.getfield 56, 3) := by decide +kernel
theorem dX9_endDef_5 : decode cX9_endDef 5 = .ok (.iconst 1, 1) := by decide +kernel
theorem dX9_endDef_6 : decode cX9_endDef 6 = .ok (.isub, 1) := by decide +kernel
theorem dX9_endDef_7 : decode cX9_endDef 7 = .ok (.putfield 56, 3) := by decide +kernel
theorem dX9_endDef_10 : decode cX9_endDef 10 = .ok (.aload_n 0, 1) := by decide +kernel
theorem dX9_endDef_11 : decode cX9_endDef 11 = .ok (.aload_n 0, 1) := by decide +kernel
theorem dX9_endDef_12 : decode cX9_endDef 12 = .ok (.getfield 18, 3) := by decide +kernel
theorem dX9_endDef_15 : decode cX9_endDef 15 = .ok (.aload_n 0, 1) := by decide +kernel
theorem dX9_endDef_16 : decode cX9_endDef 16 = .ok (.getfield 56, 3) := by decide +kernel
theorem dX9_endDef_19 : decode cX9_endDef 19 = .ok (.iaload, 1) := by decide +kernel
theorem dX9_endDef_20 : decode cX9_endDef 20 = .ok (.aload_n 0, 1) := by decide +kernel
theorem dX9_endDef_21 : decode cX9_endDef 21 = .ok (.getfield 48, 3) := by decide +kernel
theorem dX9_endDef_24 : decode cX9_endDef 24 = .ok (.getfield 143, 3) := by decide +kernel
theorem dX9_endDef_27 : decode cX9_endDef 27 = .ok (.iload_n 1, 1) := by decide +kernel
theorem dX9_endDef_28 : decode cX9_endDef 28 = .ok (.iaload, 1) := by decide +kernel
theorem dX9_endDef_29 : decode cX9_endDef 29 = .ok (.if_icmp .ne 7, 3) := by decide +kernel
theorem dX9_endDef_32 : decode cX9_endDef 32 = .ok (.iconst 1, 1) := by decide +kernel
theorem dX9_endDef_33 : decode cX9_endDef 33 = .ok (.goto 4, 3) := by decide +kernel
theorem dX9_endDef_36 : decode cX9_endDef 36 = .ok (.iconst 0, 1) := by decide +kernel
theorem dX9_endDef_37 : decode cX9_endDef 37 = .ok (.aload_n 0, 1) := by decide +kernel
theorem dX9_endDef_38 : decode cX9_endDef 38 = .ok (.getfield 22, 3) := by decide +kernel
theorem dX9_endDef_41 : decode cX9_endDef 41 = .ok (.aload_n 0, 1) := by decide +kernel
theorem dX9_endDef_42 : decode cX9_endDef 42 = .ok (.getfield 56, 3) := by decide +kernel
theorem dX9_endDef_45 : decode cX9_endDef 45 = .ok (.iaload, 1) := by decide +kernel
theorem dX9_endDef_46 : decode cX9_endDef 46 = .ok (.invokevirtual 159, 3) := by decide +kernel
theorem dX9_endDef_49 : decode cX9_endDef 49 = .ok (.aload_n 0, 1) := by decide +kernel
theorem dX9_endDef_50 : decode cX9_endDef 50 = .ok (.getfield 12, 3) := by decide +kernel
theorem dX9_endDef_53 : decode cX9_endDef 53 = .ok (.aload_n 0, 1) := by decide +kernel
theorem dX9_endDef_54 : decode cX9_endDef 54 = .ok (.getfield 65, 3) := by decide +kernel
theorem dX9_endDef_57 : decode cX9_endDef 57 = .ok (.putfield 72, 3) := by decide +kernel
theorem dX9_endDef_60 : decode cX9_endDef 60 = .ok (.aload_n 0, 1) := by decide +kernel
theorem dX9_endDef_61 : decode cX9_endDef 61 = .ok (.iconst (-1), 1) := by decide +kernel
theorem dX9_endDef_62 : decode cX9_endDef 62 = .ok (.putfield 65, 3) := by decide +kernel
theorem dX9_endDef_65 : decode cX9_endDef 65 = .ok (.aload_n 0, 1) := by decide +kernel
theorem dX9_endDef_66 : decode cX9_endDef 66 = .ok (.getfield 32, 3) := by decide +kernel
theorem dX9_endDef_69 : decode cX9_endDef 69 = .ok (.aload_n 0, 1) := by decide +kernel
theorem dX9_endDef_70 : decode cX9_endDef 70 = .ok (.getfield 90, 3) := by decide +kernel
theorem dX9_endDef_73 : decode cX9_endDef 73 = .ok (.aload_n 0, 1) := by decide +kernel
theorem dX9_endDef_74 : decode cX9_endDef 74 = .ok (.getfield 48, 3) := by decide +kernel
theorem dX9_endDef_77 : decode cX9_endDef 77 = .ok (.getfield 143, 3) := by decide +kernel
theorem dX9_endDef_80 : decode cX9_endDef 80 = .ok (.iload_n 1, 1) := by decide +kernel
theorem dX9_endDef_81 : decode cX9_endDef 81 = .ok (.iaload, 1) := by decide +kernel
theorem dX9_endDef_82 : decode cX9_endDef 82 = .ok (.iastore, 1) := by decide +kernel
theorem dX9_endDef_83 : decode cX9_endDef 83 = .ok (.aload_n 0, 1) := by decide +kernel
theorem dX9_endDef_84 : decode cX9_endDef 84 = .ok (.getfield 12, 3) := by decide +kernel
theorem dX9_endDef_87 : decode cX9_endDef 87 = .ok (.aload_n 0, 1) := by decide +kernel
theorem dX9_endDef_88 : decode cX9_endDef 88 = .ok (.getfield 48, 3) := by decide +kernel
theorem dX9_endDef_91 : decode cX9_endDef 91 = .ok (.getfield 133, 3) := by decide +kernel
theorem dX9_endDef_94 : decode cX9_endDef 94 = .ok (.iload_n 1, 1) := by decide +kernel
theorem dX9_endDef_95 : decode cX9_endDef 95 = .ok (.iaload, 1) := by decide +kernel
theorem dX9_endDef_96 : decode cX9_endDef 96 = .ok (.iconst 4, 1) := by decide +kernel
theorem dX9_endDef_97 : decode cX9_endDef 97 = .ok (.aload_n 0, 1) := by decide +kernel
theorem dX9_endDef_98 : decode cX9_endDef 98 = .ok (.getfield 48, 3) := by decide +kernel
theorem dX9_endDef_101 : decode cX9_endDef 101 = .ok (.getfield 143, 3) := by decide +kernel
theorem dX9_endDef_104 : decode cX9_endDef 104 = .ok (.iload_n 1, 1) := by decide +kernel
theorem dX9_endDef_105 : decode cX9_endDef 105 = .ok (.iaload, 1) := by decide +kernel
theorem dX9_endDef_106 : decode cX9_endDef 106 = .ok (.iconst 0, 1) := by decide +kernel
theorem dX9_endDef_107 : decode cX9_endDef 107 = .ok (.aload_n 0, 1) := by decide +kernel
theorem dX9_endDef_108 : decode cX9_endDef 108 = .ok (.getfield 90, 3) := by decide +kernel
theorem dX9_endDef_111 : decode cX9_endDef 111 = .ok (.invokevirtual 146, 3) := by decide +kernel
theorem dX9_endDef_114 : decode cX9_endDef 114 = .ok (.aload_n 0, 1) := by decide +kernel
theorem dX9_endDef_115 : decode cX9_endDef 115 = .ok (.getfield 48, 3) := by decide +kernel
theorem dX9_endDef_118 : decode cX9_endDef 118 = .ok (.getfield 133, 3) := by decide +kernel
theorem dX9_endDef_121 : decode cX9_endDef 121 = .ok (.iload_n 1, 1) := by decide +kernel
theorem dX9_endDef_122 : decode cX9_endDef 122 = .ok (.aload_n 0, 1) := by decide +kernel
theorem dX9_endDef_123 : decode cX9_endDef 123 = .ok (.getfield 90, 3) := by decide +kernel
theorem dX9_endDef_126 : decode cX9_endDef 126 = .ok (.iastore, 1) := by decide +kernel
theorem dX9_endDef_127 : decode cX9_endDef 127 = .ok (.aload_n 0, 1) := by decide +kernel
theorem dX9_endDef_128 : decode cX9_endDef 128 = .ok (.dup, 1) := by decide +kernel
theorem dX9_endDef_129 : decode cX9_endDef 129 = .ok (.getfield 90, 3) := by decide +kernel
theorem dX9_endDef_132 : decode cX9_endDef 132 = .ok (.iconst 1, 1) := by decide +kernel
theorem dX9_endDef_133 : decode cX9_endDef 133 = .ok (.iadd, 1) := by decide +kernel
theorem dX9_endDef_134 : decode cX9_endDef 134 = .ok (.putfield 90, 3) := by decide +kernel
theorem dX9_endDef_137 : decode cX9_endDef 137 = .ok (.return_, 1) := by decide +kernel
theorem dX9_endVar_0 : decode cX9_endVar 0 = .ok (.aload_n 0, 1) := by decide +kernel
theorem dX9_endVar_1 : decode cX9_endVar 1 = .ok (.getfield 48, 3) := by decide +kernel
theorem dX9_endVar_4 : decode cX9_endVar 4 = .ok (.getfield 143, 3) := by decide +kernel
theorem dX9_endVar_7 : decode cX9_endVar 7 = .ok (.iload_n 1, 1) := by decide +kernel
theorem dX9_endVar_8 : decode cX9_endVar 8 = .ok (.iaload, 1) := by decide +kernel
theorem dX9_endVar_9 : decode cX9_endVar 9 = .ok (.iconst 1, 1) := by decide +kernel
theorem dX9_endVar_10 : decode cX9_endVar 10 = .ok (.iand, 1) := by decide +kernel
theorem dX9_endVar_11 : decode cX9_endVar 11 = .ok (.istore_n 2, 1) := by decide +kernel
theorem dX9_endVar_12 : decode cX9_endVar 12 = .ok (.aload_n 0, 1) := by decide +kernel
theorem dX9_endVar_13 : decode cX9_endVar 13 = .ok (.getfield 48, 3) := by decide +kernel
theorem dX9_endVar_16 : decode cX9_endVar 16 = .ok (.getfield 143, 3) := by decide +kernel
theorem dX9_endVar_19 : decode cX9_endVar 19 = .ok (.iload_n 1, 1) := by decide +kernel
theorem dX9_endVar_20 : decode cX9_endVar 20 = .ok (.iaload, 1) := by decide +kernel
theorem dX9_endVar_21 : decode cX9_endVar 21 = .ok (.iconst 2, 1) := by decide +kernel
theorem dX9_endVar_22 : decode cX9_endVar 22 = .ok (.idiv, 1) := by decide +kernel
theorem dX9_endVar_23 : decode cX9_endVar 23 = .ok (.istore_n 3, 1) := by decide +kernel
theorem dX9_endVar_24 : decode cX9_endVar 24 = .ok (.aload_n 0, 1) := by decide +kernel
theorem dX9_endVar_25 : decode cX9_endVar 25 = .ok (.getfield 48, 3) := by decide +kernel
theorem dX9_endVar_28 : decode cX9_endVar 28 = .ok (.getfield 136, 3) := by decide +kernel
theorem dX9_endVar_31 : decode cX9_endVar 31 = .ok (.iload_n 1, 1) := by decide +kernel
theorem dX9_endVar_32 : decode cX9_endVar 32 = .ok (.iaload, 1) := by decide +kernel
theorem dX9_endVar_33 : decode cX9_endVar 33 = .ok (.iconst 1, 1) := by decide +kernel
theorem dX9_endVar_34 : decode cX9_endVar 34 = .ok (.if_icmp .ne 44, 3) := by decide +kernel
theorem dX9_endVar_37 : decode cX9_endVar 37 = .ok (.aload_n 0, 1) := by decide +kernel
theorem dX9_endVar_38 : decode cX9_endVar 38 = .ok (.dup, 1) := by decide +kernel
theorem dX9_endVar_39 : decode cX9_endVar 39 = .ok (.getfield 56, 3) := by decide +kernel
theorem dX9_endVar_42 : decode cX9_endVar 42 = .ok (.iconst 1, 1) := by decide +kernel
theorem dX9_endVar_43 : decode cX9_endVar 43 = .ok (.isub, 1) := by decide +kernel
theorem dX9_endVar_44 : decode cX9_endVar 44 = .ok (.putfield 56, 3) := by decide +kernel
theorem dX9_endVar_47 : decode cX9_endVar 47 = .ok (.aload_n 0, 1) := by decide +kernel
theorem dX9_endVar_48 : decode cX9_endVar 48 = .ok (.aload_n 0, 1) := by decide +kernel
theorem dX9_endVar_49 : decode cX9_endVar 49 = .ok (.getfield 18, 3) := by decide +kernel
theorem dX9_endVar_52 : decode cX9_endVar 52 = .ok (.aload_n 0, 1) := by decide +kernel
theorem dX9_endVar_53 : decode cX9_endVar 53 = .ok (.getfield 56, 3) := by decide +kernel
theorem dX9_endVar_56 : decode cX9_endVar 56 = .ok (.iaload, 1) := by decide +kernel
theorem dX9_endVar_57 : decode cX9_endVar 57 = .ok (.iload_n 2, 1) := by decide +kernel
theorem dX9_endVar_58 : decode cX9_endVar 58 = .ok (.if_icmp .ne 7, 3) := by decide +kernel
theorem dX9_endVar_61 : decode cX9_endVar 61 = .ok (.iconst 1, 1) := by decide +kernel
theorem dX9_endVar_62 : decode cX9_endVar 62 = .ok (.goto 4, 3) := by decide +kernel
theorem dX9_endVar_65 : decode cX9_endVar 65 = .ok (.iconst 0, 1) := by decide +kernel
theorem dX9_endVar_66 : decode cX9_endVar 66 = .ok (.aload_n 0, 1) := by decide +kernel
theorem dX9_endVar_67 : decode cX9_endVar 67 = .ok (.getfield 22, 3) := by decide +kernel
theorem dX9_endVar_70 : decode cX9_endVar 70 = .ok (.aload_n 0, 1) := by decide +kernel
theorem dX9_endVar_71 : decode cX9_endVar 71 = .ok (.getfield 56, 3) := by decide +kernel
theorem dX9_endVar_74 : decode cX9_endVar 74 = .ok (.iaload, 1) := by decide +kernel
theorem dX9_endVar_75 : decode cX9_endVar 75 = .ok (.invokevirtual 159, 3) := by decide +kernel
theorem dX9_endVar_78 : decode cX9_endVar 78 = .ok (.aload_n 0, 1) := by decide +kernel
theorem dX9_endVar_79 : decode cX9_endVar 79 = .ok (.getfield 12, 3) := by decide +kernel
theorem dX9_endVar_82 : decode cX9_endVar 82 = .ok (.aload_n 0, 1) := by decide +kernel
theorem dX9_endVar_83 : decode cX9_endVar 83 = .ok (.getfield 48, 3) := by decide +kernel
theorem dX9_endVar_86 : decode cX9_endVar 86 = .ok (.getfield 133, 3) := by decide +kernel
theorem dX9_endVar_89 : decode cX9_endVar 89 = .ok (.iload_n 1, 1) := by decide +kernel
theorem dX9_endVar_90 : decode cX9_endVar 90 = .ok (.iaload, 1) := by decide +kernel
theorem dX9_endVar_91 : decode cX9_endVar 91 = .ok (.iconst 1, 1) := by decide +kernel
theorem dX9_endVar_92 : decode cX9_endVar 92 = .ok (.iload_n 2, 1) := by decide +kernel
theorem dX9_endVar_93 : decode cX9_endVar 93 = .ok (.iload_n 3, 1) := by decide +kernel
theorem dX9_endVar_94 : decode cX9_endVar 94 = .ok (.aload_n 0, 1) := by decide +kernel
theorem dX9_endVar_95 : decode cX9_endVar 95 = .ok (.getfield 78, 3) := by decide +kernel
theorem dX9_endVar_98 : decode cX9_endVar 98 = .ok (.invokevirtual 146, 3) := by decide +kernel
theorem dX9_endVar_101 : decode cX9_endVar 101 = .ok (.aload_n 0, 1) := by decide +kernel
theorem dX9_endVar_102 : decode cX9_endVar 102 = .ok (.getfield 48, 3) := by decide +kernel
theorem dX9_endVar_105 : decode cX9_endVar 105 = .ok (.getfield 133, 3) := by decide +kernel
theorem dX9_endVar_108 : decode cX9_endVar 108 = .ok (.iload_n 1, 1) := by decide +kernel
theorem dX9_endVar_109 : decode cX9_endVar 109 = .ok (.aload_n 0, 1) := by decide +kernel
theorem dX9_endVar_110 : decode cX9_endVar 110 = .ok (.getfield 78, 3) := by decide +kernel
theorem dX9_endVar_113 : decode cX9_endVar 113 = .ok (.iastore, 1) := by decide +kernel
theorem dX9_endVar_114 : decode cX9_endVar 114 = .ok (.aload_n 0, 1) := by decide +kernel
theorem dX9_endVar_115 : decode cX9_endVar 115 = .ok (.dup, 1) := by decide +kernel
theorem dX9_endVar_116 : decode cX9_endVar 116 = .ok (.getfield 78, 3) := by decide +kernel
theorem dX9_endVar_119 : decode cX9_endVar 119 = .ok (.iconst 1, 1) := by decide +kernel
theorem dX9_endVar_120 : decode cX9_endVar 120 = .ok (.iload_n 3, 1) := by decide +kernel
theorem dX9_endVar_121 : decode cX9_endVar 121 = .ok (.invokestatic 175, 3) := by decide +kernel
theorem dX9_endVar_124 : decode cX9_endVar 124 = .ok (.iadd, 1) := by decide +kernel
theorem dX9_endVar_125 : decode cX9_endVar 125 = .ok (.putfield 78, 3) := by decide +kernel
theorem dX9_endVar_128 : decode cX9_endVar 128 = .ok (.return_, 1) := by decide +kernel
theorem dX9_target_0 : decode cX9_target 0 = .ok (.aload_n 0, 1) := by decide +kernel
theorem dX9_target_1 : decode cX9_target 1 = .ok (.aload_n 0, 1) := by decide +kernel
theorem dX9_target_2 : decode cX9_target 2 = .ok (.getfield 48, 3) := by decide +kernel
theorem dX9_target_5 : decode cX9_target 5 = .ok (.getfield 133, 3) := by decide +kernel
theorem dX9_target_8 : decode cX9_target 8 = .ok (.iload_n 1, 1) := by decide +kernel
theorem dX9_target_9 : decode cX9_target 9 = .ok (.iaload, 1) := by decide +kernel
theorem dX9_target_10 : decode cX9_target 10 = .ok (.aload_n 0, 1) := by decide +kernel
theorem dX9_target_11 : decode cX9_target 11 = .ok (.getfield 48, 3) := by decide +kernel
theorem dX9_target_14 : decode cX9_target 14 = .ok (.getfield 136, 3) := by decide +kernel
theorem dX9_target_17 : decode cX9_target 17 = .ok (.iload_n 1, 1) := by decide +kernel
theorem dX9_target_18 : decode cX9_target 18 = .ok (.iaload, 1) := by decide +kernel
theorem dX9_target_19 : decode cX9_target 19 = .ok (.invokevirtual 180, 3) := by decide +kernel
theorem dX9_target_22 : decode cX9_target 22 = .ok (.istore_n 2, 1) := by decide +kernel
theorem dX9_target_23 : decode cX9_target 23 = .ok (.iload_n 2, 1) := by decide +kernel
theorem dX9_target_24 : decode cX9_target 24 = .ok (.iconst (-1), 1) := by decide +kernel
theorem dX9_target_25 : decode cX9_target 25 = .ok (.if_icmp .ne 4, 3) := by decide +kernel
theorem dX9_target_28 : decode cX9_target 28 = .ok (.return_, 1) := by decide +kernel
theorem dX9_target_29 : decode cX9_target 29 = .ok (.aload_n 0, 1) := by decide +kernel
theorem dX9_target_30 : decode cX9_target 30 = .ok (.getfield 48, 3) := by decide +kernel
theorem dX9_target_33 : decode cX9_target 33 = .ok (.getfield 107, 3) := by decide +kernel
theorem dX9_target_36 : decode cX9_target 36 = .ok (.iload_n 1, 1) := by decide +kernel
theorem dX9_target_37 : decode cX9_target 37 = .ok (.aaload, 1) := by decide +kernel
theorem dX9_target_38 : decode cX9_target 38 = .ok (.getstatic 183, 3) := by decide +kernel
theorem dX9_target_41 : decode cX9_target 41 = .ok (.if_acmp .ne 7, 3) := by decide +kernel
theorem dX9_target_44 : decode cX9_target 44 = .ok (.iconst 1, 1) := by decide +kernel
theorem dX9_target_45 : decode cX9_target 45 = .ok (.goto 4, 3) := by decide +kernel
theorem dX9_target_48 : decode cX9_target 48 = .ok (.iconst 0, 1) := by decide +kernel
theorem dX9_target_49 : decode cX9_target 49 = .ok (.istore_n 3, 1) := by decide +kernel
theorem dX9_target_50 : decode cX9_target 50 = .ok (.aload_n 0, 1) := by decide +kernel
theorem dX9_target_51 : decode cX9_target 51 = .ok (.aload_n 0, 1) := by decide +kernel
theorem dX9_target_52 : decode cX9_target 52 = .ok (.getfield 12, 3) := by decide +kernel
theorem dX9_target_55 : decode cX9_target 55 = .ok (.getfield 186, 3) := by decide +kernel
theorem dX9_target_58 : decode cX9_target 58 = .ok (.iload_n 2, 1) := by decide +kernel
theorem dX9_target_59 : decode cX9_target 59 = .ok (.iaload, 1) := by decide +kernel
theorem dX9_target_60 : decode cX9_target 60 = .ok (.iconst 1, 1) := by decide +kernel
theorem dX9_target_61 : decode cX9_target 61 = .ok (.if_icmp .ne 28, 3) := by decide +kernel
theorem dX9_target_64 : decode cX9_target 64 = .ok (.aload_n 0, 1) := by decide +kernel
theorem dX9_target_65 : decode cX9_target 65 = .ok (.getfield 12, 3) := by decide +kernel
theorem dX9_target_68 : decode cX9_target 68 = .ok (.getfield 189, 3) := by decide +kernel
theorem dX9_target_71 : decode cX9_target 71 = .ok (.iload_n 2, 1) := by decide +kernel
theorem dX9_target_72 : decode cX9_target 72 = .ok (.iaload, 1) := by decide +kernel
theorem dX9_target_73 : decode cX9_target 73 = .ok (.ifCond .le 7, 3) := by decide +kernel
theorem dX9_target_76 : decode cX9_target 76 = .ok (.iconst 1, 1) := by decide +kernel
theorem dX9_target_77 : decode cX9_target 77 = .ok (.goto 4, 3) := by decide +kernel
theorem dX9_target_80 : decode cX9_target 80 = .ok (.iconst 0, 1) := by decide +kernel
theorem dX9_target_81 : decode cX9_target 81 = .ok (.iload_n 3, 1) := by decide +kernel
theorem dX9_target_82 : decode cX9_target 82 = .ok (.if_icmp .ne 7, 3) := by decide +kernel
theorem dX9_target_85 : decode cX9_target 85 = .ok (.iconst 1, 1) := by decide +kernel
theorem dX9_target_86 : decode cX9_target 86 = .ok (.goto 4, 3) := by decide +kernel
theorem dX9_target_89 : decode cX9_target 89 = .ok (.iconst 0, 1) := by decide +kernel
theorem dX9_target_90 : decode cX9_target 90 = .ok (.aload_n 0, 1) := by decide +kernel
theorem dX9_target_91 : decode cX9_target 91 = .ok (.getfield 48, 3) := by decide +kernel
theorem dX9_target_94 : decode cX9_target 94 = .ok (.getfield 136, 3) := by decide +kernel
theorem dX9_target_97 : decode cX9_target 97 = .ok (.iload_n 1, 1) := by decide +kernel
theorem dX9_target_98 : decode cX9_target 98 = .ok (.iaload, 1) := by decide +kernel
theorem dX9_target_99 : decode cX9_target 99 = .ok (.invokevirtual 159, 3) := by decide +kernel
theorem dX9_target_102 : decode cX9_target 102 = .ok (.return_, 1) := by decide +kernel
theorem dX9_assign_0 : decode cX9_assign 0 = .ok (.aload_n 0, 1) := by decide +kernel
theorem dX9_assign_1 : decode cX9_assign 1 = .ok (.getfield 12, 3) := by decide +kernel
theorem dX9_assign_4 : decode cX9_assign 4 = .ok (.aload_n 0, 1) := by decide +kernel
theorem dX9_assign_5 : decode cX9_assign 5 = .ok (.getfield 48, 3) := by decide +kernel
theorem dX9_assign_8 : decode cX9_assign 8 = .ok (.getfield 133, 3) := by decide +kernel
theorem dX9_assign_11 : decode cX9_assign 11 = .ok (.iload_n 1, 1) := by decide +kernel
theorem dX9_assign_12 : decode cX9_assign 12 = .ok (.iaload, 1) := by decide +kernel
theorem dX9_assign_13 : decode cX9_assign 13 = .ok (.aload_n 0, 1) := by decide +kernel
theorem dX9_assign_14 : decode cX9_assign 14 = .ok (.getfield 65, 3) := by decide +kernel
theorem dX9_assign_17 : decode cX9_assign 17 = .ok (.invokevirtual 68, 3) := by decide +kernel
theorem dX9_assign_20 : decode cX9_assign 20 = .ok (.istore_n 2, 1) := by decide +kernel
theorem dX9_assign_21 : decode cX9_assign 21 = .ok (.aload_n 0, 1) := by decide +kernel
theorem dX9_assign_22 : decode cX9_assign 22 = .ok (.dup, 1) := by decide +kernel
theorem dX9_assign_23 : decode cX9_assign 23 = .ok (.getfield 56, 3) := by decide +kernel
theorem dX9_assign_26 : decode cX9_assign 26 = .ok (.iconst 1, 1) := by decide +kernel
theorem dX9_assign_27 : decode cX9_assign 27 = .ok (.isub, 1) := by decide +kernel
theorem dX9_assign_28 : decode cX9_assign 28 = .ok (.putfield 56, 3) := by decide +kernel
theorem dX9_assign_31 : decode cX9_assign 31 = .ok (.aload_n 0, 1) := by decide +kernel
theorem dX9_assign_32 : decode cX9_assign 32 = .ok (.aload_n 0, 1) := by decide +kernel
theorem dX9_assign_33 : decode cX9_assign 33 = .ok (.getfield 18, 3) := by decide +kernel
theorem dX9_assign_36 : decode cX9_assign 36 = .ok (.aload_n 0, 1) := by decide +kernel
theorem dX9_assign_37 : decode cX9_assign 37 = .ok (.getfield 56, 3) := by decide +kernel
theorem dX9_assign_40 : decode cX9_assign 40 = .ok (.iaload, 1) := by decide +kernel
theorem dX9_assign_41 : decode cX9_assign 41 = .ok (.aload_n 0, 1) := by decide +kernel
theorem dX9_assign_42 : decode cX9_assign 42 = .ok (.getfield 12, 3) := by decide +kernel
theorem dX9_assign_45 : decode cX9_assign 45 = .ok (.getfield 192, 3) := by decide +kernel
theorem dX9_assign_48 : decode cX9_assign 48 = .ok (.iload_n 2, 1) := by decide +kernel
theorem dX9_assign_49 : decode cX9_assign 49 = .ok (.iaload, 1) := by decide +kernel
theorem dX9_assign_50 : decode cX9_assign 50 = .ok (.if_icmp .ne 7, 3) := by decide +kernel
theorem dX9_assign_53 : decode cX9_assign 53 = .ok (.iconst 1, 1) := by decide +kernel
theorem dX9_assign_54 : decode cX9_assign 54 = .ok (.goto 4, 3) := by decide +kernel
theorem dX9_assign_57 : decode cX9_assign 57 = .ok (.iconst 0, 1) := by decide +kernel
theorem dX9_assign_58 : decode cX9_assign 58 = .ok (.aload_n 0, 1) := by decide +kernel
theorem dX9_assign_59 : decode cX9_assign 59 = .ok (.getfield 22, 3) := by decide +kernel
theorem dX9_assign_62 : decode cX9_assign 62 = .ok (.aload_n 0, 1) := by decide +kernel
theorem dX9_assign_63 : decode cX9_assign 63 = .ok (.getfield 56, 3) := by decide +kernel
theorem dX9_assign_66 : decode cX9_assign 66 = .ok (.iaload, 1) := by decide +kernel
theorem dX9_assign_67 : decode cX9_assign 67 = .ok (.invokevirtual 159, 3) := by decide +kernel
theorem dX9_assign_70 : decode cX9_assign 70 = .ok (.aload_n 0, 1) := by decide +kernel
theorem dX9_assign_71 : decode cX9_assign 71 = .ok (.getfield 48, 3) := by decide +kernel
theorem dX9_assign_74 : decode cX9_assign 74 = .ok (.getfield 143, 3) := by decide +kernel
theorem dX9_assign_77 : decode cX9_assign 77 = .ok (.iload_n 1, 1) := by decide +kernel
theorem dX9_assign_78 : decode cX9_assign 78 = .ok (.iaload, 1) := by decide +kernel
theorem dX9_assign_79 : decode cX9_assign 79 = .ok (.iconst 1, 1) := by decide +kernel
theorem dX9_assign_80 : decode cX9_assign 80 = .ok (.if_icmp .ne 7, 3) := by decide +kernel
theorem dX9_assign_83 : decode cX9_assign 83 = .ok (.iconst 1, 1) := by decide +kernel
theorem dX9_assign_84 : decode cX9_assign 84 = .ok (.goto 4, 3) := by decide +kernel
theorem dX9_assign_87 : decode cX9_assign 87 = .ok (.iconst 0, 1) := by decide +kernel
theorem dX9_assign_88 : decode cX9_assign 88 = .ok (.istore_n 3, 1) := by decide +kernel
theorem dX9_assign_89 : decode cX9_assign 89 = .ok (.iload_n 3, 1) := by decide +kernel
theorem dX9_assign_90 : decode cX9_assign 90 = .ok (.ifCond .eq 13, 3) := by decide +kernel
theorem dX9_assign_93 : decode cX9_assign 93 = .ok (.aload_n 0, 1) := by decide +kernel
theorem dX9_assign_94 : decode cX9_assign 94 = .ok (.dup, 1) := by decide +kernel
theorem dX9_assign_95 : decode cX9_assign 95 = .ok (.getfield 56, 3) := by decide +kernel
theorem dX9_assign_98 : decode cX9_assign 98 = .ok (.iconst 1, 1) := by decide +kernel
theorem dX9_assign_99 : decode cX9_assign 99 = .ok (.isub, 1) := by decide +kernel
theorem dX9_assign_100 : decode cX9_assign 100 = .ok (.putfield 56, 3) := by decide +kernel
theorem dX9_assign_103 : decode cX9_assign 103 = .ok (.aload_n 0, 1) := by decide +kernel
theorem dX9_assign_104 : decode cX9_assign 104 = .ok (.getfield 48, 3) := by decide +kernel
theorem dX9_assign_107 : decode cX9_assign 107 = .ok (.getfield 143, 3) := by decide +kernel
theorem dX9_assign_110 : decode cX9_assign 110 = .ok (.iload_n 1, 1) := by decide +kernel
theorem dX9_assign_111 : decode cX9_assign 111 = .ok (.iload_n 3, 1) := by decide +kernel
theorem dX9_assign_112 : decode cX9_assign 112 = .ok (.ifCond .eq 49, 3) := by decide +kernel
theorem dX9_assign_115 : decode cX9_assign 115 = .ok (.sipush 512, 3) := by decide +kernel
theorem dX9_assign_118 : decode cX9_assign 118 = .ok (.aload_n 0, 1) := by decide +kernel
theorem dX9_assign_119 : decode cX9_assign 119 = .ok (.getfield 12, 3) := by decide +kernel
theorem dX9_assign_122 : decode cX9_assign 122 = .ok (.getfield 189, 3) := by decide +kernel
theorem dX9_assign_125 : decode cX9_assign 125 = .ok (.iload_n 2, 1) := by decide +kernel
theorem dX9_assign_126 : decode cX9_assign 126 = .ok (.iaload, 1) := by decide +kernel
theorem dX9_assign_127 : decode cX9_assign 127 = .ok (.imul, 1) := by decide +kernel
theorem dX9_assign_128 : decode cX9_assign 128 = .ok (.iconst 2, 1) := by decide +kernel
theorem dX9_assign_129 : decode cX9_assign 129 = .ok (.aload_n 0, 1) := by decide +kernel
theorem dX9_assign_130 : decode cX9_assign 130 = .ok (.getfield 25, 3) := by decide +kernel
theorem dX9_assign_133 : decode cX9_assign 133 = .ok (.aload_n 0, 1) := by decide +kernel
theorem dX9_assign_134 : decode cX9_assign 134 = .ok (.getfield 56, 3) := by decide +kernel
theorem dX9_assign_137 : decode cX9_assign 137 = .ok (.baload, 1) := by decide +kernel
theorem dX9_assign_138 : decode cX9_assign 138 = .ok (.ifCond .eq 7, 3) := by decide +kernel
theorem dX9_assign_141 : decode cX9_assign 141 = .ok (.iconst 1, 1) := by decide +kernel
theorem dX9_assign_142 : decode cX9_assign 142 = .ok (.goto 4, 3) := by decide +kernel
theorem dX9_assign_145 : decode cX9_assign 145 = .ok (.iconst 0, 1) := by decide +kernel
theorem dX9_assign_146 : decode cX9_assign 146 = .ok (.imul, 1) := by decide +kernel
theorem dX9_assign_147 : decode cX9_assign 147 = .ok (.iadd, 1) := by decide +kernel
theorem dX9_assign_148 : decode cX9_assign 148 = .ok (.aload_n 0, 1) := by decide +kernel
theorem dX9_assign_149 : decode cX9_assign 149 = .ok (.getfield 12, 3) := by decide +kernel
theorem dX9_assign_152 : decode cX9_assign 152 = .ok (.getfield 192, 3) := by decide +kernel
theorem dX9_assign_155 : decode cX9_assign 155 = .ok (.iload_n 2, 1) := by decide +kernel
theorem dX9_assign_156 : decode cX9_assign 156 = .ok (.iaload, 1) := by decide +kernel
theorem dX9_assign_157 : decode cX9_assign 157 = .ok (.iadd, 1) := by decide +kernel
theorem dX9_assign_158 : decode cX9_assign 158 = .ok (.goto 12, 3) := by decide +kernel
theorem dX9_assign_161 : decode cX9_assign 161 = .ok (.aload_n 0, 1) := by decide +kernel
theorem dX9_assign_162 : decode cX9_assign 162 = .ok (.getfield 12, 3) := by decide +kernel
theorem dX9_assign_165 : decode cX9_assign 165 = .ok (.getfield 192, 3) := by decide +kernel
theorem dX9_assign_168 : decode cX9_assign 168 = .ok (.iload_n 2, 1) := by decide +kernel
theorem dX9_assign_169 : decode cX9_assign 169 = .ok (.iaload, 1) := by decide +kernel
theorem dX9_assign_170 : decode cX9_assign 170 = .ok (.iastore, 1) := by decide +kernel
theorem dX9_assign_171 : decode cX9_assign 171 = .ok (.aload_n 0, 1) := by decide +kernel
theorem dX9_assign_172 : decode cX9_assign 172 = .ok (.getfield 48, 3) := by decide +kernel
theorem dX9_assign_175 : decode cX9_assign 175 = .ok (.getfield 133, 3) := by decide +kernel
theorem dX9_assign_178 : decode cX9_assign 178 = .ok (.iload_n 1, 1) := by decide +kernel
theorem dX9_assign_179 : decode cX9_assign 179 = .ok (.aload_n 0, 1) := by decide +kernel
theorem dX9_assign_180 : decode cX9_assign 180 = .ok (.getfield 12, 3) := by decide +kernel
theorem dX9_assign_183 : decode cX9_assign 183 = .ok (.getfield 193, 3) := by decide +kernel
theorem dX9_assign_186 : decode cX9_assign 186 = .ok (.iload_n 2, 1) := by decide +kernel
theorem dX9_assign_187 : decode cX9_assign 187 = .ok (.iaload, 1) := by decide +kernel
theorem dX9_assign_188 : decode cX9_assign 188 = .ok (.iastore, 1) := by decide +kernel
theorem dX9_assign_189 : decode cX9_assign 189 = .ok (.return_, 1) := by decide +kernel
theorem dX9_mark_0 : decode cX9_mark 0 = .ok (.aload_n 0, 1) := by decide +kernel
theorem dX9_mark_1 : decode cX9_mark 1 = .ok (.getfield 29, 3) := by decide +kernel
theorem dX9_mark_4 : decode cX9_mark 4 = .ok (.iconst 2, 1) := by decide +kernel
theorem dX9_mark_5 : decode cX9_mark 5 = .ok (.aload_n 0, 1) := by decide +kernel
theorem dX9_mark_6 : decode cX9_mark 6 = .ok (.getfield 75, 3) := by decide +kernel
theorem dX9_mark_9 : decode cX9_mark 9 = .ok (.imul, 1) := by decide +kernel
theorem dX9_mark_10 : decode cX9_mark 10 = .ok (.aload_n 0, 1) := by decide +kernel
theorem dX9_mark_11 : decode cX9_mark 11 = .ok (.getfield 12, 3) := by decide +kernel
theorem dX9_mark_14 : decode cX9_mark 14 = .ok (.getfield 72, 3) := by decide +kernel
theorem dX9_mark_17 : decode cX9_mark 17 = .ok (.iastore, 1) := by decide +kernel
theorem dX9_mark_18 : decode cX9_mark 18 = .ok (.aload_n 0, 1) := by decide +kernel
theorem dX9_mark_19 : decode cX9_mark 19 = .ok (.getfield 29, 3) := by decide +kernel
theorem dX9_mark_22 : decode cX9_mark 22 = .ok (.iconst 2, 1) := by decide +kernel
theorem dX9_mark_23 : decode cX9_mark 23 = .ok (.aload_n 0, 1) := by decide +kernel
theorem dX9_mark_24 : decode cX9_mark 24 = .ok (.getfield 75, 3) := by decide +kernel
theorem dX9_mark_27 : decode cX9_mark 27 = .ok (.imul, 1) := by decide +kernel
theorem dX9_mark_28 : decode cX9_mark 28 = .ok (.iconst 1, 1) := by decide +kernel
theorem dX9_mark_29 : decode cX9_mark 29 = .ok (.iadd, 1) := by decide +kernel
theorem dX9_mark_30 : decode cX9_mark 30 = .ok (.aload_n 0, 1) := by decide +kernel
theorem dX9_mark_31 : decode cX9_mark 31 = .ok (.getfield 78, 3) := by decide +kernel
theorem dX9_mark_34 : decode cX9_mark 34 = .ok (.iastore, 1) := by decide +kernel
theorem dX9_mark_35 : decode cX9_mark 35 = .ok (.aload_n 0, 1) := by decide +kernel
theorem dX9_mark_36 : decode cX9_mark 36 = .ok (.dup, 1) := by decide +kernel
theorem dX9_mark_37 : decode cX9_mark 37 = .ok (.getfield 75, 3) := by decide +kernel
theorem dX9_mark_40 : decode cX9_mark 40 = .ok (.iconst 1, 1) := by decide +kernel
theorem dX9_mark_41 : decode cX9_mark 41 = .ok (.iadd, 1) := by decide +kernel
theorem dX9_mark_42 : decode cX9_mark 42 = .ok (.putfield 75, 3) := by decide +kernel
theorem dX9_mark_45 : decode cX9_mark 45 = .ok (.return_, 1) := by decide +kernel
theorem dX9_release_0 : decode cX9_release 0 = .ok (.aload_n 0, 1) := by decide +kernel
theorem dX9_release_1 : decode cX9_release 1 = .ok (.dup, 1) := by decide +kernel
theorem dX9_release_2 : decode cX9_release 2 = .ok (.getfield 75, 3) := by decide +kernel
theorem dX9_release_5 : decode cX9_release 5 = .ok (.iconst 1, 1) := by decide +kernel
theorem dX9_release_6 : decode cX9_release 6 = .ok (.isub, 1) := by decide +kernel
theorem dX9_release_7 : decode cX9_release 7 = .ok (.putfield 75, 3) := by decide +kernel
theorem dX9_release_10 : decode cX9_release 10 = .ok (.aload_n 0, 1) := by decide +kernel
theorem dX9_release_11 : decode cX9_release 11 = .ok (.getfield 12, 3) := by decide +kernel
theorem dX9_release_14 : decode cX9_release 14 = .ok (.aload_n 0, 1) := by decide +kernel
theorem dX9_release_15 : decode cX9_release 15 = .ok (.getfield 29, 3) := by decide +kernel
theorem dX9_release_18 : decode cX9_release 18 = .ok (.iconst 2, 1) := by decide +kernel
theorem dX9_release_19 : decode cX9_release 19 = .ok (.aload_n 0, 1) := by decide +kernel
theorem dX9_release_20 : decode cX9_release 20 = .ok (.getfield 75, 3) := by decide +kernel
theorem dX9_release_23 : decode cX9_release 23 = .ok (.imul, 1) := by decide +kernel
theorem dX9_release_24 : decode cX9_release 24 = .ok (.iaload, 1) := by decide +kernel
theorem dX9_release_25 : decode cX9_release 25 = .ok (.putfield 72, 3) := by decide +kernel
theorem dX9_release_28 : decode cX9_release 28 = .ok (.aload_n 0, 1) := by decide +kernel
theorem dX9_release_29 : decode cX9_release 29 = .ok (.aload_n 0, 1) := by decide +kernel
theorem dX9_release_30 : decode cX9_release 30 = .ok (.getfield 29, 3) := by decide +kernel
theorem dX9_release_33 : decode cX9_release 33 = .ok (.iconst 2, 1) := by decide +kernel
theorem dX9_release_34 : decode cX9_release 34 = .ok (.aload_n 0, 1) := by decide +kernel
theorem dX9_release_35 : decode cX9_release 35 = .ok (.getfield 75, 3) := by decide +kernel
theorem dX9_release_38 : decode cX9_release 38 = .ok (.imul, 1) := by decide +kernel
theorem dX9_release_39 : decode cX9_release 39 = .ok (.iconst 1, 1) := by decide +kernel
theorem dX9_release_40 : decode cX9_release 40 = .ok (.iadd, 1) := by decide +kernel
theorem dX9_release_41 : decode cX9_release 41 = .ok (.iaload, 1) := by decide +kernel
theorem dX9_release_42 : decode cX9_release 42 = .ok (.putfield 78, 3) := by decide +kernel
theorem dX9_release_45 : decode cX9_release 45 = .ok (.return_, 1) := by decide +kernel
theorem dX13_init_0 : decode cX13_init 0 = .ok (.aload_n 0, 1) := by decide +kernel
theorem dX13_init_1 : decode cX13_init 1 = .ok (.invokespecial 3, 3) := by decide +kernel
theorem dX13_init_4 : decode cX13_init 4 = .ok (.aload_n 0, 1) := by decide +kernel
theorem dX13_init_5 : decode cX13_init 5 = .ok (.ldc 9, 2) := by decide +kernel
theorem dX13_init_7 : decode cX13_init 7 = .ok (.newarray .int, 2) := by decide +kernel
theorem dX13_init_9 : decode cX13_init 9 = .ok (.putfield 10, 3) := by decide +kernel
theorem dX13_init_12 : decode cX13_init 12 = .ok (.aload_n 0, 1) := by decide +kernel
theorem dX13_init_13 : decode cX13_init 13 = .ok (.ldc 9, 2) := by decide +kernel
theorem dX13_init_15 : decode cX13_init 15 = .ok (.newarray .int, 2) := by decide +kernel
theorem dX13_init_17 : decode cX13_init 17 = .ok (.putfield 16, 3) := by decide +kernel
theorem dX13_init_20 : decode cX13_init 20 = .ok (.aload_n 0, 1) := by decide +kernel
theorem dX13_init_21 : decode cX13_init 21 = .ok (.sipush 2002, 3) := by decide +kernel
theorem dX13_init_24 : decode cX13_init 24 = .ok (.newarray .int, 2) := by decide +kernel
theorem dX13_init_26 : decode cX13_init 26 = .ok (.putfield 19, 3) := by decide +kernel
theorem dX13_init_29 : decode cX13_init 29 = .ok (.aload_n 0, 1) := by decide +kernel
theorem dX13_init_30 : decode cX13_init 30 = .ok (.sipush 2002, 3) := by decide +kernel
theorem dX13_init_33 : decode cX13_init 33 = .ok (.newarray .int, 2) := by decide +kernel
theorem dX13_init_35 : decode cX13_init 35 = .ok (.putfield 22, 3) := by decide +kernel
theorem dX13_init_38 : decode cX13_init 38 = .ok (.aload_n 0, 1) := by decide +kernel
theorem dX13_init_39 : decode cX13_init 39 = .ok (.sipush 2001, 3) := by decide +kernel
theorem dX13_init_42 : decode cX13_init 42 = .ok (.newarray .int, 2) := by decide +kernel
theorem dX13_init_44 : decode cX13_init 44 = .ok (.putfield 25, 3) := by decide +kernel
theorem dX13_init_47 : decode cX13_init 47 = .ok (.aload_n 0, 1) := by decide +kernel
theorem dX13_init_48 : decode cX13_init 48 = .ok (.sipush 2001, 3) := by decide +kernel
theorem dX13_init_51 : decode cX13_init 51 = .ok (.newarray .int, 2) := by decide +kernel
theorem dX13_init_53 : decode cX13_init 53 = .ok (.putfield 28, 3) := by decide +kernel
theorem dX13_init_56 : decode cX13_init 56 = .ok (.aload_n 0, 1) := by decide +kernel
theorem dX13_init_57 : decode cX13_init 57 = .ok (.iload_n 1, 1) := by decide +kernel
theorem dX13_init_58 : decode cX13_init 58 = .ok (.putfield 31, 3) := by decide +kernel
theorem dX13_init_61 : decode cX13_init 61 = .ok (.aload_n 0, 1) := by decide +kernel
theorem dX13_init_62 : decode cX13_init 62 = .ok (.aload_n 3, 1) := by decide +kernel
theorem dX13_init_63 : decode cX13_init 63 = .ok (.putfield 35, 3) := by decide +kernel
theorem dX13_init_66 : decode cX13_init 66 = .ok (.aload_n 0, 1) := by decide +kernel
theorem dX13_init_67 : decode cX13_init 67 = .ok (.aload 4, 2) := by decide +kernel
theorem dX13_init_69 : decode cX13_init 69 = .ok (.putfield 39, 3) := by decide +kernel
theorem dX13_init_72 : decode cX13_init 72 = .ok (.aload_n 0, 1) := by decide +kernel
theorem dX13_init_73 : decode cX13_init 73 = .ok (.iload_n 2, 1) := by decide +kernel
theorem dX13_init_74 : decode cX13_init 74 = .ok (.sipush 256, 3) := by decide +kernel
theorem dX13_init_77 : decode cX13_init 77 = .ok (.imul, 1) := by decide +kernel
theorem dX13_init_78 : decode cX13_init 78 = .ok (.newarray .int, 2) := by decide +kernel
theorem dX13_init_80 : decode cX13_init 80 = .ok (.putfield 43, 3) := by decide +kernel
theorem dX13_init_83 : decode cX13_init 83 = .ok (.aload_n 0, 1) := by decide +kernel
theorem dX13_init_84 : decode cX13_init 84 = .ok (.iload_n 1, 1) := by decide +kernel
theorem dX13_init_85 : decode cX13_init 85 = .ok (.iconst 1, 1) := by decide +kernel
theorem dX13_init_86 : decode cX13_init 86 = .ok (.iadd, 1) := by decide +kernel
theorem dX13_init_87 : decode cX13_init 87 = .ok (.newarray .int, 2) := by decide +kernel
theorem dX13_init_89 : decode cX13_init 89 = .ok (.putfield 46, 3) := by decide +kernel
theorem dX13_init_92 : decode cX13_init 92 = .ok (.aload_n 0, 1) := by decide +kernel
theorem dX13_init_93 : decode cX13_init 93 = .ok (.iload_n 2, 1) := by decide +kernel
theorem dX13_init_94 : decode cX13_init 94 = .ok (.sipush 4000, 3) := by decide +kernel
theorem dX13_init_97 : decode cX13_init 97 = .ok (.imul, 1) := by decide +kernel
theorem dX13_init_98 : decode cX13_init 98 = .ok (.bipush 8, 2) := by decide +kernel
theorem dX13_init_100 : decode cX13_init 100 = .ok (.idiv, 1) := by decide +kernel
theorem dX13_init_101 : decode cX13_init 101 = .ok (.newarray .int, 2) := by decide +kernel
theorem dX13_init_103 : decode cX13_init 103 = .ok (.putfield 49, 3) := by decide +kernel
theorem dX13_init_106 : decode cX13_init 106 = .ok (.return_, 1) := by decide +kernel
theorem dX13_make_0 : decode cX13_make 0 = .ok (.aload_n 0, 1) := by decide +kernel
theorem dX13_make_1 : decode cX13_make 1 = .ok (.invokevirtual 52, 3) := by decide +kernel
theorem dX13_make_4 : decode cX13_make 4 = .ok (.iconst 0, 1) := by decide +kernel
theorem dX13_make_5 : decode cX13_make 5 = .ok (.istore_n 1, 1) := by decide +kernel
theorem dX13_make_6 : decode cX13_make 6 = .ok (.iconst 0, 1) := by decide +kernel
theorem dX13_make_7 : decode cX13_make 7 = .ok (.istore_n 2, 1) := by decide +kernel
theorem dX13_make_8 : decode cX13_make 8 = .ok (.iload_n 2, 1) := by decide +kernel
theorem dX13_make_9 : decode cX13_make 9 = .ok (.aload_n 0, 1) := by decide +kernel
theorem dX13_make_10 : decode cX13_make 10 = .ok (.getfield 31, 3) := by decide +kernel
theorem dX13_make_13 : decode cX13_make 13 = .ok (.if_icmp .ge 92, 3) := by decide +kernel
theorem dX13_make_16 : decode cX13_make 16 = .ok (.aload_n 0, 1) := by decide +kernel
theorem dX13_make_17 : decode cX13_make 17 = .ok (.getfield 46, 3) := by decide +kernel
theorem dX13_make_20 : decode cX13_make 20 = .ok (.iload_n 2, 1) := by decide +kernel
theorem dX13_make_21 : decode cX13_make 21 = .ok (.iload_n 1, 1) := by decide +kernel
theorem dX13_make_22 : decode cX13_make 22 = .ok (.iastore, 1) := by decide +kernel
theorem dX13_make_23 : decode cX13_make 23 = .ok (.iconst 0, 1) := by decide +kernel
theorem dX13_make_24 : decode cX13_make 24 = .ok (.istore_n 3, 1) := by decide +kernel
theorem dX13_make_25 : decode cX13_make 25 = .ok (.iload_n 3, 1) := by decide +kernel
theorem dX13_make_26 : decode cX13_make 26 = .ok (.aload_n 0, 1) := by decide +kernel
theorem dX13_make_27 : decode cX13_make 27 = .ok (.getfield 39, 3) := by decide +kernel
theorem dX13_make_30 : decode cX13_make 30 = .ok (.getfield 55, 3) := by decide +kernel
theorem dX13_make_33 : decode cX13_make 33 = .ok (.if_icmp .ge 66, 3) := by decide +kernel
theorem dX13_make_36 : decode cX13_make 36 = .ok (.iconst 0, 1) := by decide +kernel
theorem dX13_make_37 : decode cX13_make 37 = .ok (.istore 4, 2) := by decide +kernel
theorem dX13_make_39 : decode cX13_make 39 = .ok (.iload 4, 2) := by decide +kernel
theorem dX13_make_41 : decode cX13_make 41 = .ok (.aload_n 0, 1) := by decide +kernel
theorem dX13_make_42 : decode cX13_make 42 = .ok (.getfield 39, 3) := by decide +kernel
theorem dX13_make_45 : decode cX13_make 45 = .ok (.getfield 60, 3) := by decide +kernel
theorem dX13_make_48 : decode cX13_make 48 = .ok (.iload_n 3, 1) := by decide +kernel
theorem dX13_make_49 : decode cX13_make 49 = .ok (.iaload, 1) := by decide +kernel
theorem dX13_make_50 : decode cX13_make 50 = .ok (.if_icmp .ge 43, 3) := by decide +kernel
theorem dX13_make_53 : decode cX13_make 53 = .ok (.aload_n 0, 1) := by decide +kernel
theorem dX13_make_54 : decode cX13_make 54 = .ok (.getfield 39, 3) := by decide +kernel
theorem dX13_make_57 : decode cX13_make 57 = .ok (.getfield 63, 3) := by decide +kernel
theorem dX13_make_60 : decode cX13_make 60 = .ok (.iload_n 3, 1) := by decide +kernel
theorem dX13_make_61 : decode cX13_make 61 = .ok (.iaload, 1) := by decide +kernel
theorem dX13_make_62 : decode cX13_make 62 = .ok (.iload_n 2, 1) := by decide +kernel
theorem dX13_make_63 : decode cX13_make 63 = .ok (.if_icmp .ne 30, 3) := by decide +kernel
theorem dX13_make_66 : decode cX13_make 66 = .ok (.aload_n 0, 1) := by decide +kernel
theorem dX13_make_67 : decode cX13_make 67 = .ok (.getfield 43, 3) := by decide +kernel
theorem dX13_make_70 : decode cX13_make 70 = .ok (.iload_n 1, 1) := by decide +kernel
theorem dX13_make_71 : decode cX13_make 71 = .ok (.aload_n 0, 1) := by decide +kernel
theorem dX13_make_72 : decode cX13_make 72 = .ok (.getfield 39, 3) := by decide +kernel
theorem dX13_make_75 : decode cX13_make 75 = .ok (.getfield 66, 3) := by decide +kernel
theorem dX13_make_78 : decode cX13_make 78 = .ok (.iload_n 3, 1) := by decide +kernel
theorem dX13_make_79 : decode cX13_make 79 = .ok (.iaload, 1) := by decide +kernel
theorem dX13_make_80 : decode cX13_make 80 = .ok (.iload 4, 2) := by decide +kernel
theorem dX13_make_82 : decode cX13_make 82 = .ok (.iadd, 1) := by decide +kernel
theorem dX13_make_83 : decode cX13_make 83 = .ok (.iastore, 1) := by decide +kernel
theorem dX13_make_84 : decode cX13_make 84 = .ok (.iinc 1 1, 3) := by decide +kernel
theorem dX13_make_87 : decode cX13_make 87 = .ok (.iinc 4 1, 3) := by decide +kernel
theorem dX13_make_90 : decode cX13_make 90 = .ok (.goto (-51), 3) := by decide +kernel
theorem dX13_make_93 : decode cX13_make 93 = .ok (.iinc 3 1, 3) := by decide +kernel
theorem dX13_make_96 : decode cX13_make 96 = .ok (.goto (-71), 3) := by decide +kernel
theorem dX13_make_99 : decode cX13_make 99 = .ok (.iinc 2 1, 3) := by decide +kernel
theorem dX13_make_102 : decode cX13_make 102 = .ok (.goto (-94), 3) := by decide +kernel
theorem dX13_make_105 : decode cX13_make 105 = .ok (.aload_n 0, 1) := by decide +kernel
theorem dX13_make_106 : decode cX13_make 106 = .ok (.getfield 46, 3) := by decide +kernel
theorem dX13_make_109 : decode cX13_make 109 = .ok (.aload_n 0, 1) := by decide +kernel
theorem dX13_make_110 : decode cX13_make 110 = .ok (.getfield 31, 3) := by decide +kernel
theorem dX13_make_113 : decode cX13_make 113 = .ok (.iload_n 1, 1) := by decide +kernel
theorem dX13_make_114 : decode cX13_make 114 = .ok (.iastore, 1) := by decide +kernel
theorem dX13_make_115 : decode cX13_make 115 = .ok (.aload_n 0, 1) := by decide +kernel
theorem dX13_make_116 : decode cX13_make 116 = .ok (.iconst 0, 1) := by decide +kernel
theorem dX13_make_117 : decode cX13_make 117 = .ok (.putfield 69, 3) := by decide +kernel
theorem dX13_make_120 : decode cX13_make 120 = .ok (.iconst 0, 1) := by decide +kernel
theorem dX13_make_121 : decode cX13_make 121 = .ok (.istore_n 2, 1) := by decide +kernel
theorem dX13_make_122 : decode cX13_make 122 = .ok (.iload_n 2, 1) := by decide +kernel
theorem dX13_make_123 : decode cX13_make 123 = .ok (.aload_n 0, 1) := by decide +kernel
theorem dX13_make_124 : decode cX13_make 124 = .ok (.getfield 39, 3) := by decide +kernel
theorem dX13_make_127 : decode cX13_make 127 = .ok (.getfield 72, 3) := by decide +kernel
theorem dX13_make_130 : decode cX13_make 130 = .ok (.if_icmp .ge 68, 3) := by decide +kernel
theorem dX13_make_133 : decode cX13_make 133 = .ok (.iconst 0, 1) := by decide +kernel
theorem dX13_make_134 : decode cX13_make 134 = .ok (.istore_n 3, 1) := by decide +kernel
theorem dX13_make_135 : decode cX13_make 135 = .ok (.iload_n 3, 1) := by decide +kernel
theorem dX13_make_136 : decode cX13_make 136 = .ok (.aload_n 0, 1) := by decide +kernel
theorem dX13_make_137 : decode cX13_make 137 = .ok (.getfield 39, 3) := by decide +kernel
theorem dX13_make_140 : decode cX13_make 140 = .ok (.getfield 75, 3) := by decide +kernel
theorem dX13_make_143 : decode cX13_make 143 = .ok (.iload_n 2, 1) := by decide +kernel
theorem dX13_make_144 : decode cX13_make 144 = .ok (.iaload, 1) := by decide +kernel
theorem dX13_make_145 : decode cX13_make 145 = .ok (.if_icmp .ge 47, 3) := by decide +kernel
theorem dX13_make_148 : decode cX13_make 148 = .ok (.aload_n 0, 1) := by decide +kernel
theorem dX13_make_149 : decode cX13_make 149 = .ok (.getfield 49, 3) := by decide +kernel
theorem dX13_make_152 : decode cX13_make 152 = .ok (.aload_n 0, 1) := by decide +kernel
theorem dX13_make_153 : decode cX13_make 153 = .ok (.getfield 69, 3) := by decide +kernel
theorem dX13_make_156 : decode cX13_make 156 = .ok (.aload_n 0, 1) := by decide +kernel
theorem dX13_make_157 : decode cX13_make 157 = .ok (.getfield 39, 3) := by decide +kernel
theorem dX13_make_160 : decode cX13_make 160 = .ok (.getfield 78, 3) := by decide +kernel
theorem dX13_make_163 : decode cX13_make 163 = .ok (.aload_n 0, 1) := by decide +kernel
theorem dX13_make_164 : decode cX13_make 164 = .ok (.getfield 39, 3) := by decide +kernel
theorem dX13_make_167 : decode cX13_make 167 = .ok (.getfield 81, 3) := by decide +kernel
theorem dX13_make_170 : decode cX13_make 170 = .ok (.iload_n 2, 1) := by decide +kernel
theorem dX13_make_171 : decode cX13_make 171 = .ok (.imul, 1) := by decide +kernel
theorem dX13_make_172 : decode cX13_make 172 = .ok (.iload_n 3, 1) := by decide +kernel
theorem dX13_make_173 : decode cX13_make 173 = .ok (.iadd, 1) := by decide +kernel
theorem dX13_make_174 : decode cX13_make 174 = .ok (.iaload, 1) := by decide +kernel
theorem dX13_make_175 : decode cX13_make 175 = .ok (.iastore, 1) := by decide +kernel
theorem dX13_make_176 : decode cX13_make 176 = .ok (.aload_n 0, 1) := by decide +kernel
theorem dX13_make_177 : decode cX13_make 177 = .ok (.dup, 1) := by decide +kernel
theorem dX13_make_178 : decode cX13_make 178 = .ok (.getfield 69, 3) := by decide +kernel
theorem dX13_make_181 : decode cX13_make 181 = .ok (.iconst 1, 1) := by decide +kernel
theorem dX13_make_182 : decode cX13_make 182 = .ok (.iadd, 1) := by decide +kernel
theorem dX13_make_183 : decode cX13_make 183 = .ok (.putfield 69, 3) := by decide +kernel
theorem dX13_make_186 : decode cX13_make 186 = .ok (.iinc 3 1, 3) := by decide +kernel
theorem dX13_make_189 : decode cX13_make 189 = .ok (.goto (-54), 3) := by decide +kernel
theorem dX13_make_192 : decode cX13_make 192 = .ok (.iinc 2 1, 3) := by decide +kernel
theorem dX13_make_195 : decode cX13_make 195 = .ok (.goto (-73), 3) := by decide +kernel
theorem dX13_make_198 : decode cX13_make 198 = .ok (.return_, 1) := by decide +kernel
theorem dX13_sort_0 : decode cX13_sort 0 = .ok (.iconst 0, 1) := by decide +kernel
theorem dX13_sort_1 : decode cX13_sort 1 = .ok (.istore_n 1, 1) := by decide +kernel
theorem dX13_sort_2 : decode cX13_sort 2 = .ok (.iload_n 1, 1) := by decide +kernel
theorem dX13_sort_3 : decode cX13_sort 3 = .ok (.aload_n 0, 1) := by decide +kernel
theorem dX13_sort_4 : decode cX13_sort 4 = .ok (.getfield 35, 3) := by decide +kernel
theorem dX13_sort_7 : decode cX13_sort 7 = .ok (.getfield 84, 3) := by decide +kernel
theorem dX13_sort_10 : decode cX13_sort 10 = .ok (.iconst 1, 1) := by decide +kernel
theorem dX13_sort_11 : decode cX13_sort 11 = .ok (.iadd, 1) := by decide +kernel
theorem dX13_sort_12 : decode cX13_sort 12 = .ok (.if_icmp .gt 23, 3) := by decide +kernel
theorem dX13_sort_15 : decode cX13_sort 15 = .ok (.aload_n 0, 1) := by decide +kernel
theorem dX13_sort_16 : decode cX13_sort 16 = .ok (.getfield 19, 3) := by decide +kernel
theorem dX13_sort_19 : decode cX13_sort 19 = .ok (.iload_n 1, 1) := by decide +kernel
theorem dX13_sort_20 : decode cX13_sort 20 = .ok (.iconst 0, 1) := by decide +kernel
theorem dX13_sort_21 : decode cX13_sort 21 = .ok (.iastore, 1) := by decide +kernel
theorem dX13_sort_22 : decode cX13_sort 22 = .ok (.aload_n 0, 1) := by decide +kernel
theorem dX13_sort_23 : decode cX13_sort 23 = .ok (.getfield 22, 3) := by decide +kernel
theorem dX13_sort_26 : decode cX13_sort 26 = .ok (.iload_n 1, 1) := by decide +kernel
theorem dX13_sort_27 : decode cX13_sort 27 = .ok (.iconst 0, 1) := by decide +kernel
theorem dX13_sort_28 : decode cX13_sort 28 = .ok (.iastore, 1) := by decide +kernel
theorem dX13_sort_29 : decode cX13_sort 29 = .ok (.iinc 1 1, 3) := by decide +kernel
theorem dX13_sort_32 : decode cX13_sort 32 = .ok (.goto (-30), 3) := by decide +kernel
theorem dX13_sort_35 : decode cX13_sort 35 = .ok (.iconst 0, 1) := by decide +kernel
theorem dX13_sort_36 : decode cX13_sort 36 = .ok (.istore_n 1, 1) := by decide +kernel
theorem dX13_sort_37 : decode cX13_sort 37 = .ok (.iload_n 1, 1) := by decide +kernel
theorem dX13_sort_38 : decode cX13_sort 38 = .ok (.aload_n 0, 1) := by decide +kernel
theorem dX13_sort_39 : decode cX13_sort 39 = .ok (.getfield 35, 3) := by decide +kernel
theorem dX13_sort_42 : decode cX13_sort 42 = .ok (.getfield 89, 3) := by decide +kernel
theorem dX13_sort_45 : decode cX13_sort 45 = .ok (.if_icmp .ge 65, 3) := by decide +kernel
theorem dX13_sort_48 : decode cX13_sort 48 = .ok (.aload_n 0, 1) := by decide +kernel
theorem dX13_sort_49 : decode cX13_sort 49 = .ok (.getfield 19, 3) := by decide +kernel
theorem dX13_sort_52 : decode cX13_sort 52 = .ok (.aload_n 0, 1) := by decide +kernel
theorem dX13_sort_53 : decode cX13_sort 53 = .ok (.getfield 35, 3) := by decide +kernel
theorem dX13_sort_56 : decode cX13_sort 56 = .ok (.getfield 91, 3) := by decide +kernel
theorem dX13_sort_59 : decode cX13_sort 59 = .ok (.iload_n 1, 1) := by decide +kernel
theorem dX13_sort_60 : decode cX13_sort 60 = .ok (.saload, 1) := by decide +kernel
theorem dX13_sort_61 : decode cX13_sort 61 = .ok (.iconst 1, 1) := by decide +kernel
theorem dX13_sort_62 : decode cX13_sort 62 = .ok (.iadd, 1) := by decide +kernel
theorem dX13_sort_63 : decode cX13_sort 63 = .ok (.dup2, 1) := by decide +kernel
theorem dX13_sort_64 : decode cX13_sort 64 = .ok (.iaload, 1) := by decide +kernel
theorem dX13_sort_65 : decode cX13_sort 65 = .ok (.iconst 1, 1) := by decide +kernel
theorem dX13_sort_66 : decode cX13_sort 66 = .ok (.iadd, 1) := by decide +kernel
theorem dX13_sort_67 : decode cX13_sort 67 = .ok (.iastore, 1) := by decide +kernel
theorem dX13_sort_68 : decode cX13_sort 68 = .ok (.aload_n 0, 1) := by decide +kernel
theorem dX13_sort_69 : decode cX13_sort 69 = .ok (.getfield 22, 3) := by decide +kernel
theorem dX13_sort_72 : decode cX13_sort 72 = .ok (.aload_n 0, 1) := by decide +kernel
theorem dX13_sort_73 : decode cX13_sort 73 = .ok (.getfield 35, 3) := by decide +kernel
theorem dX13_sort_76 : decode cX13_sort 76 = .ok (.getfield 91, 3) := by decide +kernel
theorem dX13_sort_79 : decode cX13_sort 79 = .ok (.iload_n 1, 1) := by decide +kernel
theorem dX13_sort_80 : decode cX13_sort 80 = .ok (.saload, 1) := by decide +kernel
theorem dX13_sort_81 : decode cX13_sort 81 = .ok (.iconst 1, 1) := by decide +kernel
theorem dX13_sort_82 : decode cX13_sort 82 = .ok (.iadd, 1) := by decide +kernel
theorem dX13_sort_83 : decode cX13_sort 83 = .ok (.dup2, 1) := by decide +kernel
theorem dX13_sort_84 : decode cX13_sort 84 = .ok (.iaload, 1) := by decide +kernel
theorem dX13_sort_85 : decode cX13_sort 85 = .ok (.aload_n 0, 1) := by decide +kernel
theorem dX13_sort_86 : decode cX13_sort 86 = .ok (.getfield 35, 3) := by decide +kernel
theorem dX13_sort_89 : decode cX13_sort 89 = .ok (.getfield 95, 3) := by decide +kernel
theorem dX13_sort_92 : decode cX13_sort 92 = .ok (.iload_n 1, 1) := by decide +kernel
theorem dX13_sort_93 : decode cX13_sort 93 = .ok (.baload, 1) := by decide +kernel
theorem dX13_sort_94 : decode cX13_sort 94 = .ok (.ifCond .eq 7, 3) := by decide +kernel
theorem dX13_sort_97 : decode cX13_sort 97 = .ok (.iconst 1, 1) := by decide +kernel
theorem dX13_sort_98 : decode cX13_sort 98 = .ok (.goto 4, 3) := by decide +kernel
theorem dX13_sort_101 : decode cX13_sort 101 = .ok (.iconst 0, 1) := by decide +kernel
theorem dX13_sort_102 : decode cX13_sort 102 = .ok (.iadd, 1) := by decide +kernel
theorem dX13_sort_103 : decode cX13_sort 103 = .ok (.iastore, 1) := by decide +kernel
theorem dX13_sort_104 : decode cX13_sort 104 = .ok (.iinc 1 1, 3) := by decide +kernel
theorem dX13_sort_107 : decode cX13_sort 107 = .ok (.goto (-70), 3) := by decide +kernel
theorem dX13_sort_110 : decode cX13_sort 110 = .ok (.iconst 1, 1) := by decide +kernel
theorem dX13_sort_111 : decode cX13_sort 111 = .ok (.istore_n 1, 1) := by decide +kernel
theorem dX13_sort_112 : decode cX13_sort 112 = .ok (.iload_n 1, 1) := by decide +kernel
theorem dX13_sort_113 : decode cX13_sort 113 = .ok (.aload_n 0, 1) := by decide +kernel
theorem dX13_sort_114 : decode cX13_sort 114 = .ok (.getfield 35, 3) := by decide +kernel
theorem dX13_sort_117 : decode cX13_sort 117 = .ok (.getfield 84, 3) := by decide +kernel
theorem dX13_sort_120 : decode cX13_sort 120 = .ok (.iconst 1, 1) := by decide +kernel
theorem dX13_sort_121 : decode cX13_sort 121 = .ok (.iadd, 1) := by decide +kernel
theorem dX13_sort_122 : decode cX13_sort 122 = .ok (.if_icmp .gt 43, 3) := by decide +kernel
theorem dX13_sort_125 : decode cX13_sort 125 = .ok (.aload_n 0, 1) := by decide +kernel
theorem dX13_sort_126 : decode cX13_sort 126 = .ok (.getfield 19, 3) := by decide +kernel
theorem dX13_sort_129 : decode cX13_sort 129 = .ok (.iload_n 1, 1) := by decide +kernel
theorem dX13_sort_130 : decode cX13_sort 130 = .ok (.dup2, 1) := by decide +kernel
theorem dX13_sort_131 : decode cX13_sort 131 = .ok (.iaload, 1) := by decide +kernel
theorem dX13_sort_132 : decode cX13_sort 132 = .ok (.aload_n 0, 1) := by decide +kernel
theorem dX13_sort_133 : decode cX13_sort 133 = .ok (.getfield 19, 3) := by decide +kernel
theorem dX13_sort_136 : decode cX13_sort 136 = .ok (.iload_n 1, 1) := by decide +kernel
theorem dX13_sort_137 : decode cX13_sort 137 = .ok (.iconst 1, 1) := by decide +kernel
theorem dX13_sort_138 : decode cX13_sort 138 = .ok (.isub, 1) := by decide +kernel
theorem dX13_sort_139 : decode cX13_sort 139 = .ok (.iaload, 1) := by decide +kernel
theorem dX13_sort_140 : decode cX13_sort 140 = .ok (.iadd, 1) := by decide +kernel
theorem dX13_sort_141 : decode cX13_sort 141 = .ok (.iastore, 1) := by decide +kernel
theorem dX13_sort_142 : decode cX13_sort 142 = .ok (.aload_n 0, 1) := by decide +kernel
theorem dX13_sort_143 : decode cX13_sort 143 = .ok (.getfield 22, 3) := by decide +kernel
theorem dX13_sort_146 : decode cX13_sort 146 = .ok (.iload_n 1, 1) := by decide +kernel
theorem dX13_sort_147 : decode cX13_sort 147 = .ok (.dup2, 1) := by decide +kernel
theorem dX13_sort_148 : decode cX13_sort 148 = .ok (.iaload, 1) := by decide +kernel
theorem dX13_sort_149 : decode cX13_sort 149 = .ok (.aload_n 0, 1) := by decide +kernel
theorem dX13_sort_150 : decode cX13_sort 150 = .ok (.getfield 22, 3) := by decide +kernel
theorem dX13_sort_153 : decode cX13_sort 153 = .ok (.iload_n 1, 1) := by decide +kernel
theorem dX13_sort_154 : decode cX13_sort 154 = .ok (.iconst 1, 1) := by decide +kernel
theorem dX13_sort_155 : decode cX13_sort 155 = .ok (.isub, 1) := by decide +kernel
theorem dX13_sort_156 : decode cX13_sort 156 = .ok (.iaload, 1) := by decide +kernel
theorem dX13_sort_157 : decode cX13_sort 157 = .ok (.iadd, 1) := by decide +kernel
theorem dX13_sort_158 : decode cX13_sort 158 = .ok (.iastore, 1) := by decide +kernel
theorem dX13_sort_159 : decode cX13_sort 159 = .ok (.iinc 1 1, 3) := by decide +kernel
theorem dX13_sort_162 : decode cX13_sort 162 = .ok (.goto (-50), 3) := by decide +kernel
theorem dX13_sort_165 : decode cX13_sort 165 = .ok (.iconst 0, 1) := by decide +kernel
theorem dX13_sort_166 : decode cX13_sort 166 = .ok (.istore_n 1, 1) := by decide +kernel
theorem dX13_sort_167 : decode cX13_sort 167 = .ok (.iload_n 1, 1) := by decide +kernel
theorem dX13_sort_168 : decode cX13_sort 168 = .ok (.aload_n 0, 1) := by decide +kernel
theorem dX13_sort_169 : decode cX13_sort 169 = .ok (.getfield 35, 3) := by decide +kernel
theorem dX13_sort_172 : decode cX13_sort 172 = .ok (.getfield 84, 3) := by decide +kernel
theorem dX13_sort_175 : decode cX13_sort 175 = .ok (.if_icmp .gt 33, 3) := by decide +kernel
theorem dX13_sort_178 : decode cX13_sort 178 = .ok (.aload_n 0, 1) := by decide +kernel
theorem dX13_sort_179 : decode cX13_sort 179 = .ok (.getfield 25, 3) := by decide +kernel
theorem dX13_sort_182 : decode cX13_sort 182 = .ok (.iload_n 1, 1) := by decide +kernel
theorem dX13_sort_183 : decode cX13_sort 183 = .ok (.aload_n 0, 1) := by decide +kernel
theorem dX13_sort_184 : decode cX13_sort 184 = .ok (.getfield 19, 3) := by decide +kernel
theorem dX13_sort_187 : decode cX13_sort 187 = .ok (.iload_n 1, 1) := by decide +kernel
theorem dX13_sort_188 : decode cX13_sort 188 = .ok (.iaload, 1) := by decide +kernel
theorem dX13_sort_189 : decode cX13_sort 189 = .ok (.iastore, 1) := by decide +kernel
theorem dX13_sort_190 : decode cX13_sort 190 = .ok (.aload_n 0, 1) := by decide +kernel
theorem dX13_sort_191 : decode cX13_sort 191 = .ok (.getfield 28, 3) := by decide +kernel
theorem dX13_sort_194 : decode cX13_sort 194 = .ok (.iload_n 1, 1) := by decide +kernel
theorem dX13_sort_195 : decode cX13_sort 195 = .ok (.aload_n 0, 1) := by decide +kernel
theorem dX13_sort_196 : decode cX13_sort 196 = .ok (.getfield 22, 3) := by decide +kernel
theorem dX13_sort_199 : decode cX13_sort 199 = .ok (.iload_n 1, 1) := by decide +kernel
theorem dX13_sort_200 : decode cX13_sort 200 = .ok (.iaload, 1) := by decide +kernel
theorem dX13_sort_201 : decode cX13_sort 201 = .ok (.iastore, 1) := by decide +kernel
theorem dX13_sort_202 : decode cX13_sort 202 = .ok (.iinc 1 1, 3) := by decide +kernel
theorem dX13_sort_205 : decode cX13_sort 205 = .ok (.goto (-38), 3) := by decide +kernel
theorem dX13_sort_208 : decode cX13_sort 208 = .ok (.iconst 0, 1) := by decide +kernel
theorem dX13_sort_209 : decode cX13_sort 209 = .ok (.istore_n 1, 1) := by decide +kernel
theorem dX13_sort_210 : decode cX13_sort 210 = .ok (.iload_n 1, 1) := by decide +kernel
theorem dX13_sort_211 : decode cX13_sort 211 = .ok (.aload_n 0, 1) := by decide +kernel
theorem dX13_sort_212 : decode cX13_sort 212 = .ok (.getfield 35, 3) := by decide +kernel
theorem dX13_sort_215 : decode cX13_sort 215 = .ok (.getfield 89, 3) := by decide +kernel
theorem dX13_sort_218 : decode cX13_sort 218 = .ok (.if_icmp .ge 78, 3) := by decide +kernel
theorem dX13_sort_221 : decode cX13_sort 221 = .ok (.aload_n 0, 1) := by decide +kernel
theorem dX13_sort_222 : decode cX13_sort 222 = .ok (.getfield 35, 3) := by decide +kernel
theorem dX13_sort_225 : decode cX13_sort 225 = .ok (.getfield 91, 3) := by decide +kernel
theorem dX13_sort_228 : decode cX13_sort 228 = .ok (.iload_n 1, 1) := by decide +kernel
theorem dX13_sort_229 : decode cX13_sort 229 = .ok (.saload, 1) := by decide +kernel
theorem dX13_sort_230 : decode cX13_sort 230 = .ok (.istore_n 2, 1) := by decide +kernel
theorem dX13_sort_231 : decode cX13_sort 231 = .ok (.aload_n 0, 1) := by decide +kernel
theorem dX13_sort_232 : decode cX13_sort 232 = .ok (.getfield 10, 3) := by decide +kernel
theorem dX13_sort_235 : decode cX13_sort 235 = .ok (.aload_n 0, 1) := by decide +kernel
theorem dX13_sort_236 : decode cX13_sort 236 = .ok (.getfield 25, 3) := by decide +kernel
theorem dX13_sort_239 : decode cX13_sort 239 = .ok (.iload_n 2, 1) := by decide +kernel
theorem dX13_sort_240 : decode cX13_sort 240 = .ok (.iaload, 1) := by decide +kernel
theorem dX13_sort_241 : decode cX13_sort 241 = .ok (.iload_n 1, 1) := by decide +kernel
theorem dX13_sort_242 : decode cX13_sort 242 = .ok (.iastore, 1) := by decide +kernel
theorem dX13_sort_243 : decode cX13_sort 243 = .ok (.aload_n 0, 1) := by decide +kernel
theorem dX13_sort_244 : decode cX13_sort 244 = .ok (.getfield 25, 3) := by decide +kernel
theorem dX13_sort_247 : decode cX13_sort 247 = .ok (.iload_n 2, 1) := by decide +kernel
theorem dX13_sort_248 : decode cX13_sort 248 = .ok (.dup2, 1) := by decide +kernel
theorem dX13_sort_249 : decode cX13_sort 249 = .ok (.iaload, 1) := by decide +kernel
theorem dX13_sort_250 : decode cX13_sort 250 = .ok (.iconst 1, 1) := by decide +kernel
theorem dX13_sort_251 : decode cX13_sort 251 = .ok (.iadd, 1) := by decide +kernel
theorem dX13_sort_252 : decode cX13_sort 252 = .ok (.iastore, 1) := by decide +kernel
theorem dX13_sort_253 : decode cX13_sort 253 = .ok (.aload_n 0, 1) := by decide +kernel
theorem dX13_sort_254 : decode cX13_sort 254 = .ok (.getfield 35, 3) := by decide +kernel
theorem dX13_sort_257 : decode cX13_sort 257 = .ok (.getfield 95, 3) := by decide +kernel
theorem dX13_sort_260 : decode cX13_sort 260 = .ok (.iload_n 1, 1) := by decide +kernel
theorem dX13_sort_261 : decode cX13_sort 261 = .ok (.baload, 1) := by decide +kernel
theorem dX13_sort_262 : decode cX13_sort 262 = .ok (.ifCond .ne 6, 3) := by decide +kernel
theorem dX13_sort_265 : decode cX13_sort 265 = .ok (.goto 25, 3) := by decide +kernel
theorem dX13_sort_268 : decode cX13_sort 268 = .ok (.aload_n 0, 1) := by decide +kernel
theorem dX13_sort_269 : decode cX13_sort 269 = .ok (.getfield 16, 3) := by decide +kernel
theorem dX13_sort_272 : decode cX13_sort 272 = .ok (.aload_n 0, 1) := by decide +kernel
theorem dX13_sort_273 : decode cX13_sort 273 = .ok (.getfield 28, 3) := by decide +kernel
theorem dX13_sort_276 : decode cX13_sort 276 = .ok (.iload_n 2, 1) := by decide +kernel
theorem dX13_sort_277 : decode cX13_sort 277 = .ok (.iaload, 1) := by decide +kernel
theorem dX13_sort_278 : decode cX13_sort 278 = .ok (.iload_n 1, 1) := by decide +kernel
theorem dX13_sort_279 : decode cX13_sort 279 = .ok (.iastore, 1) := by decide +kernel
theorem dX13_sort_280 : decode cX13_sort 280 = .ok (.aload_n 0, 1) := by decide +kernel
theorem dX13_sort_281 : decode cX13_sort 281 = .ok (.getfield 28, 3) := by decide +kernel
theorem dX13_sort_284 : decode cX13_sort 284 = .ok (.iload_n 2, 1) := by decide +kernel
theorem dX13_sort_285 : decode cX13_sort 285 = .ok (.dup2, 1) := by decide +kernel
theorem dX13_sort_286 : decode cX13_sort 286 = .ok (.iaload, 1) := by decide +kernel
theorem dX13_sort_287 : decode cX13_sort 287 = .ok (.iconst 1, 1) := by decide +kernel
theorem dX13_sort_288 : decode cX13_sort 288 = .ok (.iadd, 1) := by decide +kernel
theorem dX13_sort_289 : decode cX13_sort 289 = .ok (.iastore, 1) := by decide +kernel
theorem dX13_sort_290 : decode cX13_sort 290 = .ok (.iinc 1 1, 3) := by decide +kernel
theorem dX13_sort_293 : decode cX13_sort 293 = .ok (.goto (-83), 3) := by decide +kernel
theorem dX13_sort_296 : decode cX13_sort 296 = .ok (.return_, 1) := by decide +kernel
theorem dX13_length_0 : decode cX13_length 0 = .ok (.iload_n 2, 1) := by decide +kernel
theorem dX13_length_1 : decode cX13_length 1 = .ok (.ifCond .ne 9, 3) := by decide +kernel
theorem dX13_length_4 : decode cX13_length 4 = .ok (.aload_n 0, 1) := by decide +kernel
theorem dX13_length_5 : decode cX13_length 5 = .ok (.iload_n 1, 1) := by decide +kernel
theorem dX13_length_6 : decode cX13_length 6 = .ok (.invokevirtual 98, 3) := by decide +kernel
theorem dX13_length_9 : decode cX13_length 9 = .ok (.ireturn, 1) := by decide +kernel
theorem dX13_length_10 : decode cX13_length 10 = .ok (.iload_n 2, 1) := by decide +kernel
theorem dX13_length_11 : decode cX13_length 11 = .ok (.aload_n 0, 1) := by decide +kernel
theorem dX13_length_12 : decode cX13_length 12 = .ok (.getfield 35, 3) := by decide +kernel
theorem dX13_length_15 : decode cX13_length 15 = .ok (.getfield 84, 3) := by decide +kernel
theorem dX13_length_18 : decode cX13_length 18 = .ok (.if_icmp .le 10, 3) := by decide +kernel
theorem dX13_length_21 : decode cX13_length 21 = .ok (.aload_n 0, 1) := by decide +kernel
theorem dX13_length_22 : decode cX13_length 22 = .ok (.getfield 69, 3) := by decide +kernel
theorem dX13_length_25 : decode cX13_length 25 = .ok (.goto 20, 3) := by decide +kernel
theorem dX13_length_28 : decode cX13_length 28 = .ok (.iconst 2, 1) := by decide +kernel
theorem dX13_length_29 : decode cX13_length 29 = .ok (.aload_n 0, 1) := by decide +kernel
theorem dX13_length_30 : decode cX13_length 30 = .ok (.getfield 22, 3) := by decide +kernel
theorem dX13_length_33 : decode cX13_length 33 = .ok (.iload_n 2, 1) := by decide +kernel
theorem dX13_length_34 : decode cX13_length 34 = .ok (.iconst 1, 1) := by decide +kernel
theorem dX13_length_35 : decode cX13_length 35 = .ok (.iadd, 1) := by decide +kernel
theorem dX13_length_36 : decode cX13_length 36 = .ok (.iaload, 1) := by decide +kernel
theorem dX13_length_37 : decode cX13_length 37 = .ok (.aload_n 0, 1) := by decide +kernel
theorem dX13_length_38 : decode cX13_length 38 = .ok (.getfield 22, 3) := by decide +kernel
theorem dX13_length_41 : decode cX13_length 41 = .ok (.iload_n 2, 1) := by decide +kernel
theorem dX13_length_42 : decode cX13_length 42 = .ok (.iaload, 1) := by decide +kernel
theorem dX13_length_43 : decode cX13_length 43 = .ok (.isub, 1) := by decide +kernel
theorem dX13_length_44 : decode cX13_length 44 = .ok (.imul, 1) := by decide +kernel
theorem dX13_length_45 : decode cX13_length 45 = .ok (.ireturn, 1) := by decide +kernel
theorem dX13_owned_0 : decode cX13_owned 0 = .ok (.aload_n 0, 1) := by decide +kernel
theorem dX13_owned_1 : decode cX13_owned 1 = .ok (.getfield 46, 3) := by decide +kernel
theorem dX13_owned_4 : decode cX13_owned 4 = .ok (.iload_n 1, 1) := by decide +kernel
theorem dX13_owned_5 : decode cX13_owned 5 = .ok (.iconst 1, 1) := by decide +kernel
theorem dX13_owned_6 : decode cX13_owned 6 = .ok (.iadd, 1) := by decide +kernel
theorem dX13_owned_7 : decode cX13_owned 7 = .ok (.iaload, 1) := by decide +kernel
theorem dX13_owned_8 : decode cX13_owned 8 = .ok (.aload_n 0, 1) := by decide +kernel
theorem dX13_owned_9 : decode cX13_owned 9 = .ok (.getfield 46, 3) := by decide +kernel
theorem dX13_owned_12 : decode cX13_owned 12 = .ok (.iload_n 1, 1) := by decide +kernel
theorem dX13_owned_13 : decode cX13_owned 13 = .ok (.iaload, 1) := by decide +kernel
theorem dX13_owned_14 : decode cX13_owned 14 = .ok (.isub, 1) := by decide +kernel
theorem dX13_owned_15 : decode cX13_owned 15 = .ok (.ireturn, 1) := by decide +kernel
theorem dX13_wireOf_0 : decode cX13_wireOf 0 = .ok (.aload_n 0, 1) := by decide +kernel
theorem dX13_wireOf_1 : decode cX13_wireOf 1 = .ok (.getfield 43, 3) := by decide +kernel
theorem dX13_wireOf_4 : decode cX13_wireOf 4 = .ok (.aload_n 0, 1) := by decide +kernel
theorem dX13_wireOf_5 : decode cX13_wireOf 5 = .ok (.getfield 46, 3) := by decide +kernel
theorem dX13_wireOf_8 : decode cX13_wireOf 8 = .ok (.iload_n 1, 1) := by decide +kernel
theorem dX13_wireOf_9 : decode cX13_wireOf 9 = .ok (.iaload, 1) := by decide +kernel
theorem dX13_wireOf_10 : decode cX13_wireOf 10 = .ok (.iload_n 2, 1) := by decide +kernel
theorem dX13_wireOf_11 : decode cX13_wireOf 11 = .ok (.iadd, 1) := by decide +kernel
theorem dX13_wireOf_12 : decode cX13_wireOf 12 = .ok (.iaload, 1) := by decide +kernel
theorem dX13_wireOf_13 : decode cX13_wireOf 13 = .ok (.ireturn, 1) := by decide +kernel
theorem dX14_init_0 : decode cX14_init 0 = .ok (.aload_n 0, 1) := by decide +kernel
theorem dX14_init_1 : decode cX14_init 1 = .ok (.invokespecial 3, 3) := by decide +kernel
theorem dX14_init_4 : decode cX14_init 4 = .ok (.aload_n 0, 1) := by decide +kernel
theorem dX14_init_5 : decode cX14_init 5 = .ok (.new 9, 3) := by decide +kernel
theorem dX14_init_8 : decode cX14_init 8 = .ok (.dup, 1) := by decide +kernel
theorem dX14_init_9 : decode cX14_init 9 = .ok (.ldc 11, 2) := by decide +kernel
theorem dX14_init_11 : decode cX14_init 11 = .ok (.invokespecial 12, 3) := by decide +kernel
theorem dX14_init_14 : decode cX14_init 14 = .ok (.putfield 15, 3) := by decide +kernel
theorem dX14_init_17 : decode cX14_init 17 = .ok (.aload_n 0, 1) := by decide +kernel
theorem dX14_init_18 : decode cX14_init 18 = .ok (.new 9, 3) := by decide +kernel
theorem dX14_init_21 : decode cX14_init 21 = .ok (.dup, 1) := by decide +kernel
theorem dX14_init_22 : decode cX14_init 22 = .ok (.sipush 8192, 3) := by decide +kernel
theorem dX14_init_25 : decode cX14_init 25 = .ok (.invokespecial 12, 3) := by decide +kernel
theorem dX14_init_28 : decode cX14_init 28 = .ok (.putfield 21, 3) := by decide +kernel
theorem dX14_init_31 : decode cX14_init 31 = .ok (.aload_n 0, 1) := by decide +kernel
theorem dX14_init_32 : decode cX14_init 32 = .ok (.new 9, 3) := by decide +kernel
theorem dX14_init_35 : decode cX14_init 35 = .ok (.dup, 1) := by decide +kernel
theorem dX14_init_36 : decode cX14_init 36 = .ok (.ldc 24, 2) := by decide +kernel
theorem dX14_init_38 : decode cX14_init 38 = .ok (.invokespecial 12, 3) := by decide +kernel
theorem dX14_init_41 : decode cX14_init 41 = .ok (.putfield 25, 3) := by decide +kernel
theorem dX14_init_44 : decode cX14_init 44 = .ok (.aload_n 0, 1) := by decide +kernel
theorem dX14_init_45 : decode cX14_init 45 = .ok (.new 9, 3) := by decide +kernel
theorem dX14_init_48 : decode cX14_init 48 = .ok (.dup, 1) := by decide +kernel
theorem dX14_init_49 : decode cX14_init 49 = .ok (.ldc 24, 2) := by decide +kernel
theorem dX14_init_51 : decode cX14_init 51 = .ok (.invokespecial 12, 3) := by decide +kernel
theorem dX14_init_54 : decode cX14_init 54 = .ok (.putfield 28, 3) := by decide +kernel
theorem dX14_init_57 : decode cX14_init 57 = .ok (.aload_n 0, 1) := by decide +kernel
theorem dX14_init_58 : decode cX14_init 58 = .ok (.new 9, 3) := by decide +kernel
theorem dX14_init_61 : decode cX14_init 61 = .ok (.dup, 1) := by decide +kernel
theorem dX14_init_62 : decode cX14_init 62 = .ok (.ldc 24, 2) := by decide +kernel
theorem dX14_init_64 : decode cX14_init 64 = .ok (.invokespecial 12, 3) := by decide +kernel
theorem dX14_init_67 : decode cX14_init 67 = .ok (.putfield 31, 3) := by decide +kernel
theorem dX14_init_70 : decode cX14_init 70 = .ok (.aload_n 0, 1) := by decide +kernel
theorem dX14_init_71 : decode cX14_init 71 = .ok (.bipush 64, 2) := by decide +kernel
theorem dX14_init_73 : decode cX14_init 73 = .ok (.newarray .int, 2) := by decide +kernel
theorem dX14_init_75 : decode cX14_init 75 = .ok (.putfield 34, 3) := by decide +kernel
theorem dX14_init_78 : decode cX14_init 78 = .ok (.aload_n 0, 1) := by decide +kernel
theorem dX14_init_79 : decode cX14_init 79 = .ok (.aload_n 1, 1) := by decide +kernel
theorem dX14_init_80 : decode cX14_init 80 = .ok (.putfield 38, 3) := by decide +kernel
theorem dX14_init_83 : decode cX14_init 83 = .ok (.aload_n 0, 1) := by decide +kernel
theorem dX14_init_84 : decode cX14_init 84 = .ok (.iload_n 2, 1) := by decide +kernel
theorem dX14_init_85 : decode cX14_init 85 = .ok (.putfield 42, 3) := by decide +kernel
theorem dX14_init_88 : decode cX14_init 88 = .ok (.return_, 1) := by decide +kernel
theorem dX14_isDone_0 : decode cX14_isDone 0 = .ok (.aload_n 0, 1) := by decide +kernel
theorem dX14_isDone_1 : decode cX14_isDone 1 = .ok (.getfield 46, 3) := by decide +kernel
theorem dX14_isDone_4 : decode cX14_isDone 4 = .ok (.aload_n 0, 1) := by decide +kernel
theorem dX14_isDone_5 : decode cX14_isDone 5 = .ok (.getfield 38, 3) := by decide +kernel
theorem dX14_isDone_8 : decode cX14_isDone 8 = .ok (.getfield 58, 3) := by decide +kernel
theorem dX14_isDone_11 : decode cX14_isDone 11 = .ok (.getfield 64, 3) := by decide +kernel
theorem dX14_isDone_14 : decode cX14_isDone 14 = .ok (.iconst 2, 1) := by decide +kernel
theorem dX14_isDone_15 : decode cX14_isDone 15 = .ok (.iadd, 1) := by decide +kernel
theorem dX14_isDone_16 : decode cX14_isDone 16 = .ok (.if_icmp .ne 7, 3) := by decide +kernel
theorem dX14_isDone_19 : decode cX14_isDone 19 = .ok (.iconst 1, 1) := by decide +kernel
theorem dX14_isDone_20 : decode cX14_isDone 20 = .ok (.goto 4, 3) := by decide +kernel
theorem dX14_isDone_23 : decode cX14_isDone 23 = .ok (.iconst 0, 1) := by decide +kernel
theorem dX14_isDone_24 : decode cX14_isDone 24 = .ok (.ireturn, 1) := by decide +kernel
theorem dX14_begin_0 : decode cX14_begin 0 = .ok (.aload_n 0, 1) := by decide +kernel
theorem dX14_begin_1 : decode cX14_begin 1 = .ok (.iconst 0, 1) := by decide +kernel
theorem dX14_begin_2 : decode cX14_begin 2 = .ok (.putfield 46, 3) := by decide +kernel
theorem dX14_begin_5 : decode cX14_begin 5 = .ok (.aload_n 0, 1) := by decide +kernel
theorem dX14_begin_6 : decode cX14_begin 6 = .ok (.iconst 0, 1) := by decide +kernel
theorem dX14_begin_7 : decode cX14_begin 7 = .ok (.putfield 49, 3) := by decide +kernel
theorem dX14_begin_10 : decode cX14_begin 10 = .ok (.aload_n 0, 1) := by decide +kernel
theorem dX14_begin_11 : decode cX14_begin 11 = .ok (.iconst 0, 1) := by decide +kernel
theorem dX14_begin_12 : decode cX14_begin 12 = .ok (.putfield 52, 3) := by decide +kernel
theorem dX14_begin_15 : decode cX14_begin 15 = .ok (.aload_n 0, 1) := by decide +kernel
theorem dX14_begin_16 : decode cX14_begin 16 = .ok (.iconst 0, 1) := by decide +kernel
theorem dX14_begin_17 : decode cX14_begin 17 = .ok (.putfield 55, 3) := by decide +kernel
theorem dX14_begin_20 : decode cX14_begin 20 = .ok (.return_, 1) := by decide +kernel
theorem dX14_bit_0 : decode cX14_bit 0 = .ok (.iload_n 2, 1) := by decide +kernel
theorem dX14_bit_1 : decode cX14_bit 1 = .ok (.ifCond .ne 23, 3) := by decide +kernel
theorem dX14_bit_4 : decode cX14_bit 4 = .ok (.aload_n 1, 1) := by decide +kernel
theorem dX14_bit_5 : decode cX14_bit 5 = .ok (.getfield 21, 3) := by decide +kernel
theorem dX14_bit_8 : decode cX14_bit 8 = .ok (.aload_n 0, 1) := by decide +kernel
theorem dX14_bit_9 : decode cX14_bit 9 = .ok (.getfield 38, 3) := by decide +kernel
theorem dX14_bit_12 : decode cX14_bit 12 = .ok (.aload_n 0, 1) := by decide +kernel
theorem dX14_bit_13 : decode cX14_bit 13 = .ok (.getfield 42, 3) := by decide +kernel
theorem dX14_bit_16 : decode cX14_bit 16 = .ok (.iload_n 3, 1) := by decide +kernel
theorem dX14_bit_17 : decode cX14_bit 17 = .ok (.invokevirtual 73, 3) := by decide +kernel
theorem dX14_bit_20 : decode cX14_bit 20 = .ok (.invokevirtual 69, 3) := by decide +kernel
theorem dX14_bit_23 : decode cX14_bit 23 = .ok (.ireturn, 1) := by decide +kernel
theorem dX14_bit_24 : decode cX14_bit 24 = .ok (.iload_n 2, 1) := by decide +kernel
theorem dX14_bit_25 : decode cX14_bit 25 = .ok (.aload_n 0, 1) := by decide +kernel
theorem dX14_bit_26 : decode cX14_bit 26 = .ok (.getfield 38, 3) := by decide +kernel
theorem dX14_bit_29 : decode cX14_bit 29 = .ok (.getfield 58, 3) := by decide +kernel
theorem dX14_bit_32 : decode cX14_bit 32 = .ok (.getfield 64, 3) := by decide +kernel
theorem dX14_bit_35 : decode cX14_bit 35 = .ok (.if_icmp .le 17, 3) := by decide +kernel
theorem dX14_bit_38 : decode cX14_bit 38 = .ok (.aload_n 0, 1) := by decide +kernel
theorem dX14_bit_39 : decode cX14_bit 39 = .ok (.aload_n 0, 1) := by decide +kernel
theorem dX14_bit_40 : decode cX14_bit 40 = .ok (.getfield 38, 3) := by decide +kernel
theorem dX14_bit_43 : decode cX14_bit 43 = .ok (.getfield 77, 3) := by decide +kernel
theorem dX14_bit_46 : decode cX14_bit 46 = .ok (.iload_n 3, 1) := by decide +kernel
theorem dX14_bit_47 : decode cX14_bit 47 = .ok (.iaload, 1) := by decide +kernel
theorem dX14_bit_48 : decode cX14_bit 48 = .ok (.invokevirtual 80, 3) := by decide +kernel
theorem dX14_bit_51 : decode cX14_bit 51 = .ok (.ireturn, 1) := by decide +kernel
theorem dX14_bit_52 : decode cX14_bit 52 = .ok (.aload_n 0, 1) := by decide +kernel
theorem dX14_bit_53 : decode cX14_bit 53 = .ok (.getfield 38, 3) := by decide +kernel
theorem dX14_bit_56 : decode cX14_bit 56 = .ok (.getfield 83, 3) := by decide +kernel
theorem dX14_bit_59 : decode cX14_bit 59 = .ok (.aload_n 0, 1) := by decide +kernel
theorem dX14_bit_60 : decode cX14_bit 60 = .ok (.getfield 38, 3) := by decide +kernel
theorem dX14_bit_63 : decode cX14_bit 63 = .ok (.getfield 86, 3) := by decide +kernel
theorem dX14_bit_66 : decode cX14_bit 66 = .ok (.iload_n 2, 1) := by decide +kernel
theorem dX14_bit_67 : decode cX14_bit 67 = .ok (.iaload, 1) := by decide +kernel
theorem dX14_bit_68 : decode cX14_bit 68 = .ok (.iload_n 3, 1) := by decide +kernel
theorem dX14_bit_69 : decode cX14_bit 69 = .ok (.iconst 2, 1) := by decide +kernel
theorem dX14_bit_70 : decode cX14_bit 70 = .ok (.idiv, 1) := by decide +kernel
theorem dX14_bit_71 : decode cX14_bit 71 = .ok (.iadd, 1) := by decide +kernel
theorem dX14_bit_72 : decode cX14_bit 72 = .ok (.iaload, 1) := by decide +kernel
theorem dX14_bit_73 : decode cX14_bit 73 = .ok (.istore 4, 2) := by decide +kernel
theorem dX14_bit_75 : decode cX14_bit 75 = .ok (.iload_n 3, 1) := by decide +kernel
theorem dX14_bit_76 : decode cX14_bit 76 = .ok (.iconst 2, 1) := by decide +kernel
theorem dX14_bit_77 : decode cX14_bit 77 = .ok (.irem, 1) := by decide +kernel
theorem dX14_bit_78 : decode cX14_bit 78 = .ok (.ifCond .ne 33, 3) := by decide +kernel
theorem dX14_bit_81 : decode cX14_bit 81 = .ok (.aload_n 0, 1) := by decide +kernel
theorem dX14_bit_82 : decode cX14_bit 82 = .ok (.aload_n 0, 1) := by decide +kernel
theorem dX14_bit_83 : decode cX14_bit 83 = .ok (.getfield 38, 3) := by decide +kernel
theorem dX14_bit_86 : decode cX14_bit 86 = .ok (.getfield 58, 3) := by decide +kernel
theorem dX14_bit_89 : decode cX14_bit 89 = .ok (.getfield 89, 3) := by decide +kernel
theorem dX14_bit_92 : decode cX14_bit 92 = .ok (.iload 4, 2) := by decide +kernel
theorem dX14_bit_94 : decode cX14_bit 94 = .ok (.iaload, 1) := by decide +kernel
theorem dX14_bit_95 : decode cX14_bit 95 = .ok (.invokevirtual 80, 3) := by decide +kernel
theorem dX14_bit_98 : decode cX14_bit 98 = .ok (.aload_n 0, 1) := by decide +kernel
theorem dX14_bit_99 : decode cX14_bit 99 = .ok (.getfield 25, 3) := by decide +kernel
theorem dX14_bit_102 : decode cX14_bit 102 = .ok (.iload 4, 2) := by decide +kernel
theorem dX14_bit_104 : decode cX14_bit 104 = .ok (.invokevirtual 69, 3) := by decide +kernel
theorem dX14_bit_107 : decode cX14_bit 107 = .ok (.ixor, 1) := by decide +kernel
theorem dX14_bit_108 : decode cX14_bit 108 = .ok (.goto 30, 3) := by decide +kernel
theorem dX14_bit_111 : decode cX14_bit 111 = .ok (.aload_n 0, 1) := by decide +kernel
theorem dX14_bit_112 : decode cX14_bit 112 = .ok (.aload_n 0, 1) := by decide +kernel
theorem dX14_bit_113 : decode cX14_bit 113 = .ok (.getfield 38, 3) := by decide +kernel
theorem dX14_bit_116 : decode cX14_bit 116 = .ok (.getfield 58, 3) := by decide +kernel
theorem dX14_bit_119 : decode cX14_bit 119 = .ok (.getfield 92, 3) := by decide +kernel
theorem dX14_bit_122 : decode cX14_bit 122 = .ok (.iload 4, 2) := by decide +kernel
theorem dX14_bit_124 : decode cX14_bit 124 = .ok (.iaload, 1) := by decide +kernel
theorem dX14_bit_125 : decode cX14_bit 125 = .ok (.invokevirtual 80, 3) := by decide +kernel
theorem dX14_bit_128 : decode cX14_bit 128 = .ok (.aload_n 0, 1) := by decide +kernel
theorem dX14_bit_129 : decode cX14_bit 129 = .ok (.getfield 28, 3) := by decide +kernel
theorem dX14_bit_132 : decode cX14_bit 132 = .ok (.iload 4, 2) := by decide +kernel
theorem dX14_bit_134 : decode cX14_bit 134 = .ok (.invokevirtual 69, 3) := by decide +kernel
theorem dX14_bit_137 : decode cX14_bit 137 = .ok (.ixor, 1) := by decide +kernel
theorem dX14_bit_138 : decode cX14_bit 138 = .ok (.ireturn, 1) := by decide +kernel
theorem dX14_shareOf_0 : decode cX14_shareOf 0 = .ok (.aload_n 0, 1) := by decide +kernel
theorem dX14_shareOf_1 : decode cX14_shareOf 1 = .ok (.getfield 42, 3) := by decide +kernel
theorem dX14_shareOf_4 : decode cX14_shareOf 4 = .ok (.ifCond .ne 9, 3) := by decide +kernel
theorem dX14_shareOf_7 : decode cX14_shareOf 7 = .ok (.iload_n 1, 1) := by decide +kernel
theorem dX14_shareOf_8 : decode cX14_shareOf 8 = .ok (.iconst 1, 1) := by decide +kernel
theorem dX14_shareOf_9 : decode cX14_shareOf 9 = .ok (.iand, 1) := by decide +kernel
theorem dX14_shareOf_10 : decode cX14_shareOf 10 = .ok (.goto 4, 3) := by decide +kernel
theorem dX14_shareOf_13 : decode cX14_shareOf 13 = .ok (.iconst 0, 1) := by decide +kernel
theorem dX14_shareOf_14 : decode cX14_shareOf 14 = .ok (.istore_n 2, 1) := by decide +kernel
theorem dX14_shareOf_15 : decode cX14_shareOf 15 = .ok (.iload_n 1, 1) := by decide +kernel
theorem dX14_shareOf_16 : decode cX14_shareOf 16 = .ok (.ifCond .ge 7, 3) := by decide +kernel
theorem dX14_shareOf_19 : decode cX14_shareOf 19 = .ok (.iload_n 2, 1) := by decide +kernel
theorem dX14_shareOf_20 : decode cX14_shareOf 20 = .ok (.goto 15, 3) := by decide +kernel
theorem dX14_shareOf_23 : decode cX14_shareOf 23 = .ok (.aload_n 0, 1) := by decide +kernel
theorem dX14_shareOf_24 : decode cX14_shareOf 24 = .ok (.getfield 15, 3) := by decide +kernel
theorem dX14_shareOf_27 : decode cX14_shareOf 27 = .ok (.iload_n 1, 1) := by decide +kernel
theorem dX14_shareOf_28 : decode cX14_shareOf 28 = .ok (.iconst 2, 1) := by decide +kernel
theorem dX14_shareOf_29 : decode cX14_shareOf 29 = .ok (.idiv, 1) := by decide +kernel
theorem dX14_shareOf_30 : decode cX14_shareOf 30 = .ok (.invokevirtual 69, 3) := by decide +kernel
theorem dX14_shareOf_33 : decode cX14_shareOf 33 = .ok (.iload_n 2, 1) := by decide +kernel
theorem dX14_shareOf_34 : decode cX14_shareOf 34 = .ok (.ixor, 1) := by decide +kernel
theorem dX14_shareOf_35 : decode cX14_shareOf 35 = .ok (.ireturn, 1) := by decide +kernel
theorem dX14_take_0 : decode cX14_take 0 = .ok (.aload_n 0, 1) := by decide +kernel
theorem dX14_take_1 : decode cX14_take 1 = .ok (.getfield 49, 3) := by decide +kernel
theorem dX14_take_4 : decode cX14_take 4 = .ok (.aload_n 0, 1) := by decide +kernel
theorem dX14_take_5 : decode cX14_take 5 = .ok (.getfield 34, 3) := by decide +kernel
theorem dX14_take_8 : decode cX14_take 8 = .ok (.arraylength, 1) := by decide +kernel
theorem dX14_take_9 : decode cX14_take 9 = .ok (.if_icmp .ne 20, 3) := by decide +kernel
theorem dX14_take_12 : decode cX14_take 12 = .ok (.aload_n 0, 1) := by decide +kernel
theorem dX14_take_13 : decode cX14_take 13 = .ok (.aload_n 0, 1) := by decide +kernel
theorem dX14_take_14 : decode cX14_take 14 = .ok (.getfield 34, 3) := by decide +kernel
theorem dX14_take_17 : decode cX14_take 17 = .ok (.iconst 2, 1) := by decide +kernel
theorem dX14_take_18 : decode cX14_take 18 = .ok (.aload_n 0, 1) := by decide +kernel
theorem dX14_take_19 : decode cX14_take 19 = .ok (.getfield 49, 3) := by decide +kernel
theorem dX14_take_22 : decode cX14_take 22 = .ok (.imul, 1) := by decide +kernel
theorem dX14_take_23 : decode cX14_take 23 = .ok (.invokestatic 95, 3) := by decide +kernel
theorem dX14_take_26 : decode cX14_take 26 = .ok (.putfield 34, 3) := by decide +kernel
theorem dX14_take_29 : decode cX14_take 29 = .ok (.aload_n 0, 1) := by decide +kernel
theorem dX14_take_30 : decode cX14_take 30 = .ok (.getfield 34, 3) := by decide +kernel
theorem dX14_take_33 : decode cX14_take 33 = .ok (.aload_n 0, 1) := by decide +kernel
theorem dX14_take_34 : decode cX14_take 34 = .ok (.getfield 49, 3) := by decide +kernel
theorem dX14_take_37 : decode cX14_take 37 = .ok (.bipush 16, 2) := by decide +kernel
theorem dX14_take_39 : decode cX14_take 39 = .ok (.iload_n 2, 1) := by decide +kernel
theorem dX14_take_40 : decode cX14_take 40 = .ok (.imul, 1) := by decide +kernel
theorem dX14_take_41 : decode cX14_take 41 = .ok (.iload_n 1, 1) := by decide +kernel
theorem dX14_take_42 : decode cX14_take 42 = .ok (.iadd, 1) := by decide +kernel
theorem dX14_take_43 : decode cX14_take 43 = .ok (.iastore, 1) := by decide +kernel
theorem dX14_take_44 : decode cX14_take 44 = .ok (.aload_n 0, 1) := by decide +kernel
theorem dX14_take_45 : decode cX14_take 45 = .ok (.dup, 1) := by decide +kernel
theorem dX14_take_46 : decode cX14_take 46 = .ok (.getfield 49, 3) := by decide +kernel
theorem dX14_take_49 : decode cX14_take 49 = .ok (.iconst 1, 1) := by decide +kernel
theorem dX14_take_50 : decode cX14_take 50 = .ok (.iadd, 1) := by decide +kernel
theorem dX14_take_51 : decode cX14_take 51 = .ok (.putfield 49, 3) := by decide +kernel
theorem dX14_take_54 : decode cX14_take 54 = .ok (.iload_n 2, 1) := by decide +kernel
theorem dX14_take_55 : decode cX14_take 55 = .ok (.aload_n 0, 1) := by decide +kernel
theorem dX14_take_56 : decode cX14_take 56 = .ok (.getfield 46, 3) := by decide +kernel
theorem dX14_take_59 : decode cX14_take 59 = .ok (.if_icmp .ne 18, 3) := by decide +kernel
theorem dX14_take_62 : decode cX14_take 62 = .ok (.aload_n 0, 1) := by decide +kernel
theorem dX14_take_63 : decode cX14_take 63 = .ok (.dup, 1) := by decide +kernel
theorem dX14_take_64 : decode cX14_take 64 = .ok (.getfield 52, 3) := by decide +kernel
theorem dX14_take_67 : decode cX14_take 67 = .ok (.iconst 1, 1) := by decide +kernel
theorem dX14_take_68 : decode cX14_take 68 = .ok (.iload_n 1, 1) := by decide +kernel
theorem dX14_take_69 : decode cX14_take 69 = .ok (.ishl, 1) := by decide +kernel
theorem dX14_take_70 : decode cX14_take 70 = .ok (.ior, 1) := by decide +kernel
theorem dX14_take_71 : decode cX14_take 71 = .ok (.putfield 52, 3) := by decide +kernel
theorem dX14_take_74 : decode cX14_take 74 = .ok (.goto 15, 3) := by decide +kernel
theorem dX14_take_77 : decode cX14_take 77 = .ok (.aload_n 0, 1) := by decide +kernel
theorem dX14_take_78 : decode cX14_take 78 = .ok (.dup, 1) := by decide +kernel
theorem dX14_take_79 : decode cX14_take 79 = .ok (.getfield 55, 3) := by decide +kernel
theorem dX14_take_82 : decode cX14_take 82 = .ok (.iconst 1, 1) := by decide +kernel
theorem dX14_take_83 : decode cX14_take 83 = .ok (.iload_n 1, 1) := by decide +kernel
theorem dX14_take_84 : decode cX14_take 84 = .ok (.ishl, 1) := by decide +kernel
theorem dX14_take_85 : decode cX14_take 85 = .ok (.ior, 1) := by decide +kernel
theorem dX14_take_86 : decode cX14_take 86 = .ok (.putfield 55, 3) := by decide +kernel
theorem dX14_take_89 : decode cX14_take 89 = .ok (.return_, 1) := by decide +kernel
theorem dX14_goes_0 : decode cX14_goes 0 = .ok (.iconst 1, 1) := by decide +kernel
theorem dX14_goes_1 : decode cX14_goes 1 = .ok (.aload_n 0, 1) := by decide +kernel
theorem dX14_goes_2 : decode cX14_goes 2 = .ok (.getfield 38, 3) := by decide +kernel
theorem dX14_goes_5 : decode cX14_goes 5 = .ok (.getfield 101, 3) := by decide +kernel
theorem dX14_goes_8 : decode cX14_goes 8 = .ok (.ishl, 1) := by decide +kernel
theorem dX14_goes_9 : decode cX14_goes 9 = .ok (.iconst 1, 1) := by decide +kernel
theorem dX14_goes_10 : decode cX14_goes 10 = .ok (.isub, 1) := by decide +kernel
theorem dX14_goes_11 : decode cX14_goes 11 = .ok (.iconst 1, 1) := by decide +kernel
theorem dX14_goes_12 : decode cX14_goes 12 = .ok (.aload_n 0, 1) := by decide +kernel
theorem dX14_goes_13 : decode cX14_goes 13 = .ok (.getfield 42, 3) := by decide +kernel
theorem dX14_goes_16 : decode cX14_goes 16 = .ok (.ishl, 1) := by decide +kernel
theorem dX14_goes_17 : decode cX14_goes 17 = .ok (.ixor, 1) := by decide +kernel
theorem dX14_goes_18 : decode cX14_goes 18 = .ok (.istore_n 2, 1) := by decide +kernel
theorem dX14_goes_19 : decode cX14_goes 19 = .ok (.aload_n 0, 1) := by decide +kernel
theorem dX14_goes_20 : decode cX14_goes 20 = .ok (.invokevirtual 104, 3) := by decide +kernel
theorem dX14_goes_23 : decode cX14_goes 23 = .ok (.ifCond .ne 11, 3) := by decide +kernel
theorem dX14_goes_26 : decode cX14_goes 26 = .ok (.aload_n 0, 1) := by decide +kernel
theorem dX14_goes_27 : decode cX14_goes 27 = .ok (.getfield 52, 3) := by decide +kernel
theorem dX14_goes_30 : decode cX14_goes 30 = .ok (.iload_n 2, 1) := by decide +kernel
theorem dX14_goes_31 : decode cX14_goes 31 = .ok (.if_icmp .eq 5, 3) := by decide +kernel
theorem dX14_goes_34 : decode cX14_goes 34 = .ok (.iconst 0, 1) := by decide +kernel
theorem dX14_goes_35 : decode cX14_goes 35 = .ok (.ireturn, 1) := by decide +kernel
theorem dX14_goes_36 : decode cX14_goes 36 = .ok (.aload_n 0, 1) := by decide +kernel
theorem dX14_goes_37 : decode cX14_goes 37 = .ok (.aload_n 1, 1) := by decide +kernel
theorem dX14_goes_38 : decode cX14_goes 38 = .ok (.invokevirtual 108, 3) := by decide +kernel
theorem dX14_goes_41 : decode cX14_goes 41 = .ok (.aload_n 0, 1) := by decide +kernel
theorem dX14_goes_42 : decode cX14_goes 42 = .ok (.dup, 1) := by decide +kernel
theorem dX14_goes_43 : decode cX14_goes 43 = .ok (.getfield 46, 3) := by decide +kernel
theorem dX14_goes_46 : decode cX14_goes 46 = .ok (.iconst 1, 1) := by decide +kernel
theorem dX14_goes_47 : decode cX14_goes 47 = .ok (.iadd, 1) := by decide +kernel
theorem dX14_goes_48 : decode cX14_goes 48 = .ok (.putfield 46, 3) := by decide +kernel
theorem dX14_goes_51 : decode cX14_goes 51 = .ok (.aload_n 0, 1) := by decide +kernel
theorem dX14_goes_52 : decode cX14_goes 52 = .ok (.aload_n 0, 1) := by decide +kernel
theorem dX14_goes_53 : decode cX14_goes 53 = .ok (.getfield 55, 3) := by decide +kernel
theorem dX14_goes_56 : decode cX14_goes 56 = .ok (.putfield 52, 3) := by decide +kernel
theorem dX14_goes_59 : decode cX14_goes 59 = .ok (.aload_n 0, 1) := by decide +kernel
theorem dX14_goes_60 : decode cX14_goes 60 = .ok (.iconst 0, 1) := by decide +kernel
theorem dX14_goes_61 : decode cX14_goes 61 = .ok (.putfield 55, 3) := by decide +kernel
theorem dX14_goes_64 : decode cX14_goes 64 = .ok (.iconst 1, 1) := by decide +kernel
theorem dX14_goes_65 : decode cX14_goes 65 = .ok (.ireturn, 1) := by decide +kernel
theorem dX14_learn_0 : decode cX14_learn 0 = .ok (.aload_n 0, 1) := by decide +kernel
theorem dX14_learn_1 : decode cX14_learn 1 = .ok (.getfield 38, 3) := by decide +kernel
theorem dX14_learn_4 : decode cX14_learn 4 = .ok (.getfield 58, 3) := by decide +kernel
theorem dX14_learn_7 : decode cX14_learn 7 = .ok (.astore_n 2, 1) := by decide +kernel
theorem dX14_learn_8 : decode cX14_learn 8 = .ok (.aload_n 0, 1) := by decide +kernel
theorem dX14_learn_9 : decode cX14_learn 9 = .ok (.getfield 46, 3) := by decide +kernel
theorem dX14_learn_12 : decode cX14_learn 12 = .ok (.aload_n 2, 1) := by decide +kernel
theorem dX14_learn_13 : decode cX14_learn 13 = .ok (.getfield 64, 3) := by decide +kernel
theorem dX14_learn_16 : decode cX14_learn 16 = .ok (.if_icmp .le 4, 3) := by decide +kernel
theorem dX14_learn_19 : decode cX14_learn 19 = .ok (.return_, 1) := by decide +kernel
theorem dX14_learn_20 : decode cX14_learn 20 = .ok (.aload_n 0, 1) := by decide +kernel
theorem dX14_learn_21 : decode cX14_learn 21 = .ok (.getfield 46, 3) := by decide +kernel
theorem dX14_learn_24 : decode cX14_learn 24 = .ok (.ifCond .ne 35, 3) := by decide +kernel
theorem dX14_learn_27 : decode cX14_learn 27 = .ok (.iconst 0, 1) := by decide +kernel
theorem dX14_learn_28 : decode cX14_learn 28 = .ok (.istore_n 3, 1) := by decide +kernel
theorem dX14_learn_29 : decode cX14_learn 29 = .ok (.iload_n 3, 1) := by decide +kernel
theorem dX14_learn_30 : decode cX14_learn 30 = .ok (.aload_n 2, 1) := by decide +kernel
theorem dX14_learn_31 : decode cX14_learn 31 = .ok (.getfield 112, 3) := by decide +kernel
theorem dX14_learn_34 : decode cX14_learn 34 = .ok (.if_icmp .ge 25, 3) := by decide +kernel
theorem dX14_learn_37 : decode cX14_learn 37 = .ok (.aload_n 0, 1) := by decide +kernel
theorem dX14_learn_38 : decode cX14_learn 38 = .ok (.getfield 15, 3) := by decide +kernel
theorem dX14_learn_41 : decode cX14_learn 41 = .ok (.iload_n 3, 1) := by decide +kernel
theorem dX14_learn_42 : decode cX14_learn 42 = .ok (.aload_n 0, 1) := by decide +kernel
theorem dX14_learn_43 : decode cX14_learn 43 = .ok (.getfield 21, 3) := by decide +kernel
theorem dX14_learn_46 : decode cX14_learn 46 = .ok (.iload_n 3, 1) := by decide +kernel
theorem dX14_learn_47 : decode cX14_learn 47 = .ok (.invokevirtual 69, 3) := by decide +kernel
theorem dX14_learn_50 : decode cX14_learn 50 = .ok (.invokevirtual 115, 3) := by decide +kernel
theorem dX14_learn_53 : decode cX14_learn 53 = .ok (.iinc 3 1, 3) := by decide +kernel
theorem dX14_learn_56 : decode cX14_learn 56 = .ok (.goto (-27), 3) := by decide +kernel
theorem dX14_learn_59 : decode cX14_learn 59 = .ok (.iconst 0, 1) := by decide +kernel
theorem dX14_learn_60 : decode cX14_learn 60 = .ok (.istore_n 3, 1) := by decide +kernel
theorem dX14_learn_61 : decode cX14_learn 61 = .ok (.aload_n 0, 1) := by decide +kernel
theorem dX14_learn_62 : decode cX14_learn 62 = .ok (.getfield 38, 3) := by decide +kernel
theorem dX14_learn_65 : decode cX14_learn 65 = .ok (.getfield 119, 3) := by decide +kernel
theorem dX14_learn_68 : decode cX14_learn 68 = .ok (.aload_n 0, 1) := by decide +kernel
theorem dX14_learn_69 : decode cX14_learn 69 = .ok (.getfield 46, 3) := by decide +kernel
theorem dX14_learn_72 : decode cX14_learn 72 = .ok (.iaload, 1) := by decide +kernel
theorem dX14_learn_73 : decode cX14_learn 73 = .ok (.istore 4, 2) := by decide +kernel
theorem dX14_learn_75 : decode cX14_learn 75 = .ok (.iload 4, 2) := by decide +kernel
theorem dX14_learn_77 : decode cX14_learn 77 = .ok (.aload_n 0, 1) := by decide +kernel
theorem dX14_learn_78 : decode cX14_learn 78 = .ok (.getfield 38, 3) := by decide +kernel
theorem dX14_learn_81 : decode cX14_learn 81 = .ok (.getfield 119, 3) := by decide +kernel
theorem dX14_learn_84 : decode cX14_learn 84 = .ok (.aload_n 0, 1) := by decide +kernel
theorem dX14_learn_85 : decode cX14_learn 85 = .ok (.getfield 46, 3) := by decide +kernel
theorem dX14_learn_88 : decode cX14_learn 88 = .ok (.iconst 1, 1) := by decide +kernel
theorem dX14_learn_89 : decode cX14_learn 89 = .ok (.iadd, 1) := by decide +kernel
theorem dX14_learn_90 : decode cX14_learn 90 = .ok (.iaload, 1) := by decide +kernel
theorem dX14_learn_91 : decode cX14_learn 91 = .ok (.if_icmp .ge 103, 3) := by decide +kernel
theorem dX14_learn_94 : decode cX14_learn 94 = .ok (.aload_n 0, 1) := by decide +kernel
theorem dX14_learn_95 : decode cX14_learn 95 = .ok (.getfield 38, 3) := by decide +kernel
theorem dX14_learn_98 : decode cX14_learn 98 = .ok (.getfield 122, 3) := by decide +kernel
theorem dX14_learn_101 : decode cX14_learn 101 = .ok (.iload 4, 2) := by decide +kernel
theorem dX14_learn_103 : decode cX14_learn 103 = .ok (.iaload, 1) := by decide +kernel
theorem dX14_learn_104 : decode cX14_learn 104 = .ok (.istore 5, 2) := by decide +kernel
theorem dX14_learn_106 : decode cX14_learn 106 = .ok (.aload_n 2, 1) := by decide +kernel
theorem dX14_learn_107 : decode cX14_learn 107 = .ok (.getfield 125, 3) := by decide +kernel
theorem dX14_learn_110 : decode cX14_learn 110 = .ok (.iload 5, 2) := by decide +kernel
theorem dX14_learn_112 : decode cX14_learn 112 = .ok (.baload, 1) := by decide +kernel
theorem dX14_learn_113 : decode cX14_learn 113 = .ok (.ifCond .eq 16, 3) := by decide +kernel
theorem dX14_learn_116 : decode cX14_learn 116 = .ok (.aload_n 0, 1) := by decide +kernel
theorem dX14_learn_117 : decode cX14_learn 117 = .ok (.aload_n 1, 1) := by decide +kernel
theorem dX14_learn_118 : decode cX14_learn 118 = .ok (.iload 5, 2) := by decide +kernel
theorem dX14_learn_120 : decode cX14_learn 120 = .ok (.iconst 2, 1) := by decide +kernel
theorem dX14_learn_121 : decode cX14_learn 121 = .ok (.iload_n 3, 1) := by decide +kernel
theorem dX14_learn_122 : decode cX14_learn 122 = .ok (.imul, 1) := by decide +kernel
theorem dX14_learn_123 : decode cX14_learn 123 = .ok (.invokevirtual 128, 3) := by decide +kernel
theorem dX14_learn_126 : decode cX14_learn 126 = .ok (.goto 26, 3) := by decide +kernel
theorem dX14_learn_129 : decode cX14_learn 129 = .ok (.aload_n 0, 1) := by decide +kernel
theorem dX14_learn_130 : decode cX14_learn 130 = .ok (.aload_n 2, 1) := by decide +kernel
theorem dX14_learn_131 : decode cX14_learn 131 = .ok (.getfield 89, 3) := by decide +kernel
theorem dX14_learn_134 : decode cX14_learn 134 = .ok (.iload 5, 2) := by decide +kernel
theorem dX14_learn_136 : decode cX14_learn 136 = .ok (.iaload, 1) := by decide +kernel
theorem dX14_learn_137 : decode cX14_learn 137 = .ok (.invokevirtual 80, 3) := by decide +kernel
theorem dX14_learn_140 : decode cX14_learn 140 = .ok (.aload_n 0, 1) := by decide +kernel
theorem dX14_learn_141 : decode cX14_learn 141 = .ok (.aload_n 2, 1) := by decide +kernel
theorem dX14_learn_142 : decode cX14_learn 142 = .ok (.getfield 92, 3) := by decide +kernel
theorem dX14_learn_145 : decode cX14_learn 145 = .ok (.iload 5, 2) := by decide +kernel
theorem dX14_learn_147 : decode cX14_learn 147 = .ok (.iaload, 1) := by decide +kernel
theorem dX14_learn_148 : decode cX14_learn 148 = .ok (.invokevirtual 80, 3) := by decide +kernel
theorem dX14_learn_151 : decode cX14_learn 151 = .ok (.ixor, 1) := by decide +kernel
theorem dX14_learn_152 : decode cX14_learn 152 = .ok (.istore 6, 2) := by decide +kernel
theorem dX14_learn_154 : decode cX14_learn 154 = .ok (.iload_n 3, 1) := by decide +kernel
theorem dX14_learn_155 : decode cX14_learn 155 = .ok (.aload_n 2, 1) := by decide +kernel
theorem dX14_learn_156 : decode cX14_learn 156 = .ok (.getfield 125, 3) := by decide +kernel
theorem dX14_learn_159 : decode cX14_learn 159 = .ok (.iload 5, 2) := by decide +kernel
theorem dX14_learn_161 : decode cX14_learn 161 = .ok (.baload, 1) := by decide +kernel
theorem dX14_learn_162 : decode cX14_learn 162 = .ok (.ifCond .eq 7, 3) := by decide +kernel
theorem dX14_learn_165 : decode cX14_learn 165 = .ok (.iconst 1, 1) := by decide +kernel
theorem dX14_learn_166 : decode cX14_learn 166 = .ok (.goto 4, 3) := by decide +kernel
theorem dX14_learn_169 : decode cX14_learn 169 = .ok (.iconst 0, 1) := by decide +kernel
theorem dX14_learn_170 : decode cX14_learn 170 = .ok (.iadd, 1) := by decide +kernel
theorem dX14_learn_171 : decode cX14_learn 171 = .ok (.istore_n 3, 1) := by decide +kernel
theorem dX14_learn_172 : decode cX14_learn 172 = .ok (.aload_n 0, 1) := by decide +kernel
theorem dX14_learn_173 : decode cX14_learn 173 = .ok (.getfield 15, 3) := by decide +kernel
theorem dX14_learn_176 : decode cX14_learn 176 = .ok (.aload_n 2, 1) := by decide +kernel
theorem dX14_learn_177 : decode cX14_learn 177 = .ok (.getfield 112, 3) := by decide +kernel
theorem dX14_learn_180 : decode cX14_learn 180 = .ok (.iload 5, 2) := by decide +kernel
theorem dX14_learn_182 : decode cX14_learn 182 = .ok (.iadd, 1) := by decide +kernel
theorem dX14_learn_183 : decode cX14_learn 183 = .ok (.iload 6, 2) := by decide +kernel
theorem dX14_learn_185 : decode cX14_learn 185 = .ok (.invokevirtual 115, 3) := by decide +kernel
theorem dX14_learn_188 : decode cX14_learn 188 = .ok (.iinc 4 1, 3) := by decide +kernel
theorem dX14_learn_191 : decode cX14_learn 191 = .ok (.goto (-116), 3) := by decide +kernel
theorem dX14_learn_194 : decode cX14_learn 194 = .ok (.return_, 1) := by decide +kernel
theorem dX14_product_0 : decode cX14_product 0 = .ok (.iconst 0, 1) := by decide +kernel
theorem dX14_product_1 : decode cX14_product 1 = .ok (.istore 4, 2) := by decide +kernel
theorem dX14_product_3 : decode cX14_product 3 = .ok (.iconst 0, 1) := by decide +kernel
theorem dX14_product_4 : decode cX14_product 4 = .ok (.istore 5, 2) := by decide +kernel
theorem dX14_product_6 : decode cX14_product 6 = .ok (.iconst 0, 1) := by decide +kernel
theorem dX14_product_7 : decode cX14_product 7 = .ok (.istore 6, 2) := by decide +kernel
theorem dX14_product_9 : decode cX14_product 9 = .ok (.iload 6, 2) := by decide +kernel
theorem dX14_product_11 : decode cX14_product 11 = .ok (.aload_n 0, 1) := by decide +kernel
theorem dX14_product_12 : decode cX14_product 12 = .ok (.getfield 38, 3) := by decide +kernel
theorem dX14_product_15 : decode cX14_product 15 = .ok (.getfield 101, 3) := by decide +kernel
theorem dX14_product_18 : decode cX14_product 18 = .ok (.if_icmp .ge 47, 3) := by decide +kernel
theorem dX14_product_21 : decode cX14_product 21 = .ok (.iload 4, 2) := by decide +kernel
theorem dX14_product_23 : decode cX14_product 23 = .ok (.aload_n 1, 1) := by decide +kernel
theorem dX14_product_24 : decode cX14_product 24 = .ok (.iload 6, 2) := by decide +kernel
theorem dX14_product_26 : decode cX14_product 26 = .ok (.aaload, 1) := by decide +kernel
theorem dX14_product_27 : decode cX14_product 27 = .ok (.aload_n 0, 1) := by decide +kernel
theorem dX14_product_28 : decode cX14_product 28 = .ok (.aload_n 0, 1) := by decide +kernel
theorem dX14_product_29 : decode cX14_product 29 = .ok (.getfield 46, 3) := by decide +kernel
theorem dX14_product_32 : decode cX14_product 32 = .ok (.iload_n 3, 1) := by decide +kernel
theorem dX14_product_33 : decode cX14_product 33 = .ok (.invokevirtual 132, 3) := by decide +kernel
theorem dX14_product_36 : decode cX14_product 36 = .ok (.ixor, 1) := by decide +kernel
theorem dX14_product_37 : decode cX14_product 37 = .ok (.istore 4, 2) := by decide +kernel
theorem dX14_product_39 : decode cX14_product 39 = .ok (.iload 5, 2) := by decide +kernel
theorem dX14_product_41 : decode cX14_product 41 = .ok (.aload_n 1, 1) := by decide +kernel
theorem dX14_product_42 : decode cX14_product 42 = .ok (.iload 6, 2) := by decide +kernel
theorem dX14_product_44 : decode cX14_product 44 = .ok (.aaload, 1) := by decide +kernel
theorem dX14_product_45 : decode cX14_product 45 = .ok (.aload_n 0, 1) := by decide +kernel
theorem dX14_product_46 : decode cX14_product 46 = .ok (.aload_n 0, 1) := by decide +kernel
theorem dX14_product_47 : decode cX14_product 47 = .ok (.getfield 46, 3) := by decide +kernel
theorem dX14_product_50 : decode cX14_product 50 = .ok (.iload_n 3, 1) := by decide +kernel
theorem dX14_product_51 : decode cX14_product 51 = .ok (.iconst 1, 1) := by decide +kernel
theorem dX14_product_52 : decode cX14_product 52 = .ok (.iadd, 1) := by decide +kernel
theorem dX14_product_53 : decode cX14_product 53 = .ok (.invokevirtual 132, 3) := by decide +kernel
theorem dX14_product_56 : decode cX14_product 56 = .ok (.ixor, 1) := by decide +kernel
theorem dX14_product_57 : decode cX14_product 57 = .ok (.istore 5, 2) := by decide +kernel
theorem dX14_product_59 : decode cX14_product 59 = .ok (.iinc 6 1, 3) := by decide +kernel
theorem dX14_product_62 : decode cX14_product 62 = .ok (.goto (-53), 3) := by decide +kernel
theorem dX14_product_65 : decode cX14_product 65 = .ok (.aload_n 0, 1) := by decide +kernel
theorem dX14_product_66 : decode cX14_product 66 = .ok (.getfield 31, 3) := by decide +kernel
theorem dX14_product_69 : decode cX14_product 69 = .ok (.iload_n 2, 1) := by decide +kernel
theorem dX14_product_70 : decode cX14_product 70 = .ok (.invokevirtual 69, 3) := by decide +kernel
theorem dX14_product_73 : decode cX14_product 73 = .ok (.iload 4, 2) := by decide +kernel
theorem dX14_product_75 : decode cX14_product 75 = .ok (.aload_n 0, 1) := by decide +kernel
theorem dX14_product_76 : decode cX14_product 76 = .ok (.getfield 28, 3) := by decide +kernel
theorem dX14_product_79 : decode cX14_product 79 = .ok (.iload_n 2, 1) := by decide +kernel
theorem dX14_product_80 : decode cX14_product 80 = .ok (.invokevirtual 69, 3) := by decide +kernel
theorem dX14_product_83 : decode cX14_product 83 = .ok (.iand, 1) := by decide +kernel
theorem dX14_product_84 : decode cX14_product 84 = .ok (.ixor, 1) := by decide +kernel
theorem dX14_product_85 : decode cX14_product 85 = .ok (.iload 5, 2) := by decide +kernel
theorem dX14_product_87 : decode cX14_product 87 = .ok (.aload_n 0, 1) := by decide +kernel
theorem dX14_product_88 : decode cX14_product 88 = .ok (.getfield 25, 3) := by decide +kernel
theorem dX14_product_91 : decode cX14_product 91 = .ok (.iload_n 2, 1) := by decide +kernel
theorem dX14_product_92 : decode cX14_product 92 = .ok (.invokevirtual 69, 3) := by decide +kernel
theorem dX14_product_95 : decode cX14_product 95 = .ok (.iand, 1) := by decide +kernel
theorem dX14_product_96 : decode cX14_product 96 = .ok (.ixor, 1) := by decide +kernel
theorem dX14_product_97 : decode cX14_product 97 = .ok (.aload_n 0, 1) := by decide +kernel
theorem dX14_product_98 : decode cX14_product 98 = .ok (.getfield 42, 3) := by decide +kernel
theorem dX14_product_101 : decode cX14_product 101 = .ok (.ifCond .ne 11, 3) := by decide +kernel
theorem dX14_product_104 : decode cX14_product 104 = .ok (.iload 4, 2) := by decide +kernel
theorem dX14_product_106 : decode cX14_product 106 = .ok (.iload 5, 2) := by decide +kernel
theorem dX14_product_108 : decode cX14_product 108 = .ok (.iand, 1) := by decide +kernel
theorem dX14_product_109 : decode cX14_product 109 = .ok (.goto 4, 3) := by decide +kernel
theorem dX14_product_112 : decode cX14_product 112 = .ok (.iconst 0, 1) := by decide +kernel
theorem dX14_product_113 : decode cX14_product 113 = .ok (.ixor, 1) := by decide +kernel
theorem dX14_product_114 : decode cX14_product 114 = .ok (.ireturn, 1) := by decide +kernel
theorem dX14_viewSize_0 : decode cX14_viewSize 0 = .ok (.aload_n 0, 1) := by decide +kernel
theorem dX14_viewSize_1 : decode cX14_viewSize 1 = .ok (.invokevirtual 139, 3) := by decide +kernel
theorem dX14_viewSize_4 : decode cX14_viewSize 4 = .ok (.iconst 3, 1) := by decide +kernel
theorem dX14_viewSize_5 : decode cX14_viewSize 5 = .ok (.aload_n 0, 1) := by decide +kernel
theorem dX14_viewSize_6 : decode cX14_viewSize 6 = .ok (.getfield 38, 3) := by decide +kernel
theorem dX14_viewSize_9 : decode cX14_viewSize 9 = .ok (.getfield 58, 3) := by decide +kernel
theorem dX14_viewSize_12 : decode cX14_viewSize 12 = .ok (.getfield 143, 3) := by decide +kernel
theorem dX14_viewSize_15 : decode cX14_viewSize 15 = .ok (.imul, 1) := by decide +kernel
theorem dX14_viewSize_16 : decode cX14_viewSize 16 = .ok (.iadd, 1) := by decide +kernel
theorem dX14_viewSize_17 : decode cX14_viewSize 17 = .ok (.istore_n 1, 1) := by decide +kernel
theorem dX14_viewSize_18 : decode cX14_viewSize 18 = .ok (.iconst 0, 1) := by decide +kernel
theorem dX14_viewSize_19 : decode cX14_viewSize 19 = .ok (.istore_n 2, 1) := by decide +kernel
theorem dX14_viewSize_20 : decode cX14_viewSize 20 = .ok (.iload_n 2, 1) := by decide +kernel
theorem dX14_viewSize_21 : decode cX14_viewSize 21 = .ok (.aload_n 0, 1) := by decide +kernel
theorem dX14_viewSize_22 : decode cX14_viewSize 22 = .ok (.getfield 49, 3) := by decide +kernel
theorem dX14_viewSize_25 : decode cX14_viewSize 25 = .ok (.if_icmp .ge 37, 3) := by decide +kernel
theorem dX14_viewSize_28 : decode cX14_viewSize 28 = .ok (.iload_n 1, 1) := by decide +kernel
theorem dX14_viewSize_29 : decode cX14_viewSize 29 = .ok (.aload_n 0, 1) := by decide +kernel
theorem dX14_viewSize_30 : decode cX14_viewSize 30 = .ok (.getfield 38, 3) := by decide +kernel
theorem dX14_viewSize_33 : decode cX14_viewSize 33 = .ok (.aload_n 0, 1) := by decide +kernel
theorem dX14_viewSize_34 : decode cX14_viewSize 34 = .ok (.getfield 34, 3) := by decide +kernel
theorem dX14_viewSize_37 : decode cX14_viewSize 37 = .ok (.iload_n 2, 1) := by decide +kernel
theorem dX14_viewSize_38 : decode cX14_viewSize 38 = .ok (.iaload, 1) := by decide +kernel
theorem dX14_viewSize_39 : decode cX14_viewSize 39 = .ok (.bipush 16, 2) := by decide +kernel
theorem dX14_viewSize_41 : decode cX14_viewSize 41 = .ok (.irem, 1) := by decide +kernel
theorem dX14_viewSize_42 : decode cX14_viewSize 42 = .ok (.aload_n 0, 1) := by decide +kernel
theorem dX14_viewSize_43 : decode cX14_viewSize 43 = .ok (.getfield 34, 3) := by decide +kernel
theorem dX14_viewSize_46 : decode cX14_viewSize 46 = .ok (.iload_n 2, 1) := by decide +kernel
theorem dX14_viewSize_47 : decode cX14_viewSize 47 = .ok (.iaload, 1) := by decide +kernel
theorem dX14_viewSize_48 : decode cX14_viewSize 48 = .ok (.bipush 16, 2) := by decide +kernel
theorem dX14_viewSize_50 : decode cX14_viewSize 50 = .ok (.idiv, 1) := by decide +kernel
theorem dX14_viewSize_51 : decode cX14_viewSize 51 = .ok (.invokevirtual 146, 3) := by decide +kernel
theorem dX14_viewSize_54 : decode cX14_viewSize 54 = .ok (.iadd, 1) := by decide +kernel
theorem dX14_viewSize_55 : decode cX14_viewSize 55 = .ok (.istore_n 1, 1) := by decide +kernel
theorem dX14_viewSize_56 : decode cX14_viewSize 56 = .ok (.iinc 2 1, 3) := by decide +kernel
theorem dX14_viewSize_59 : decode cX14_viewSize 59 = .ok (.goto (-39), 3) := by decide +kernel
theorem dX14_viewSize_62 : decode cX14_viewSize 62 = .ok (.iload_n 1, 1) := by decide +kernel
theorem dX14_viewSize_63 : decode cX14_viewSize 63 = .ok (.ireturn, 1) := by decide +kernel
theorem dX14_ownBits_0 : decode cX14_ownBits 0 = .ok (.aload_n 0, 1) := by decide +kernel
theorem dX14_ownBits_1 : decode cX14_ownBits 1 = .ok (.getfield 38, 3) := by decide +kernel
theorem dX14_ownBits_4 : decode cX14_ownBits 4 = .ok (.aload_n 0, 1) := by decide +kernel
theorem dX14_ownBits_5 : decode cX14_ownBits 5 = .ok (.getfield 42, 3) := by decide +kernel
theorem dX14_ownBits_8 : decode cX14_ownBits 8 = .ok (.invokevirtual 136, 3) := by decide +kernel
theorem dX14_ownBits_11 : decode cX14_ownBits 11 = .ok (.aload_n 0, 1) := by decide +kernel
theorem dX14_ownBits_12 : decode cX14_ownBits 12 = .ok (.getfield 38, 3) := by decide +kernel
theorem dX14_ownBits_15 : decode cX14_ownBits 15 = .ok (.getfield 101, 3) := by decide +kernel
theorem dX14_ownBits_18 : decode cX14_ownBits 18 = .ok (.imul, 1) := by decide +kernel
theorem dX14_ownBits_19 : decode cX14_ownBits 19 = .ok (.ireturn, 1) := by decide +kernel
theorem dX14_view_0 : decode cX14_view 0 = .ok (.aload_n 0, 1) := by decide +kernel
theorem dX14_view_1 : decode cX14_view 1 = .ok (.getfield 38, 3) := by decide +kernel
theorem dX14_view_4 : decode cX14_view 4 = .ok (.aload_n 0, 1) := by decide +kernel
theorem dX14_view_5 : decode cX14_view 5 = .ok (.getfield 42, 3) := by decide +kernel
theorem dX14_view_8 : decode cX14_view 8 = .ok (.invokevirtual 136, 3) := by decide +kernel
theorem dX14_view_11 : decode cX14_view 11 = .ok (.istore 4, 2) := by decide +kernel
theorem dX14_view_13 : decode cX14_view 13 = .ok (.iload_n 3, 1) := by decide +kernel
theorem dX14_view_14 : decode cX14_view 14 = .ok (.iload 4, 2) := by decide +kernel
theorem dX14_view_16 : decode cX14_view 16 = .ok (.if_icmp .ge 20, 3) := by decide +kernel
theorem dX14_view_19 : decode cX14_view 19 = .ok (.aload_n 2, 1) := by decide +kernel
theorem dX14_view_20 : decode cX14_view 20 = .ok (.aload_n 0, 1) := by decide +kernel
theorem dX14_view_21 : decode cX14_view 21 = .ok (.getfield 38, 3) := by decide +kernel
theorem dX14_view_24 : decode cX14_view 24 = .ok (.aload_n 0, 1) := by decide +kernel
theorem dX14_view_25 : decode cX14_view 25 = .ok (.getfield 42, 3) := by decide +kernel
theorem dX14_view_28 : decode cX14_view 28 = .ok (.iload_n 3, 1) := by decide +kernel
theorem dX14_view_29 : decode cX14_view 29 = .ok (.invokevirtual 73, 3) := by decide +kernel
theorem dX14_view_32 : decode cX14_view 32 = .ok (.invokevirtual 69, 3) := by decide +kernel
theorem dX14_view_35 : decode cX14_view 35 = .ok (.ireturn, 1) := by decide +kernel
theorem dX14_view_36 : decode cX14_view 36 = .ok (.iload_n 3, 1) := by decide +kernel
theorem dX14_view_37 : decode cX14_view 37 = .ok (.aload_n 0, 1) := by decide +kernel
theorem dX14_view_38 : decode cX14_view 38 = .ok (.invokevirtual 139, 3) := by decide +kernel
theorem dX14_view_41 : decode cX14_view 41 = .ok (.if_icmp .ge 71, 3) := by decide +kernel
theorem dX14_view_44 : decode cX14_view 44 = .ok (.iload_n 3, 1) := by decide +kernel
theorem dX14_view_45 : decode cX14_view 45 = .ok (.iload 4, 2) := by decide +kernel
theorem dX14_view_47 : decode cX14_view 47 = .ok (.isub, 1) := by decide +kernel
theorem dX14_view_48 : decode cX14_view 48 = .ok (.aload_n 0, 1) := by decide +kernel
theorem dX14_view_49 : decode cX14_view 49 = .ok (.getfield 38, 3) := by decide +kernel
theorem dX14_view_52 : decode cX14_view 52 = .ok (.getfield 101, 3) := by decide +kernel
theorem dX14_view_55 : decode cX14_view 55 = .ok (.iconst 1, 1) := by decide +kernel
theorem dX14_view_56 : decode cX14_view 56 = .ok (.isub, 1) := by decide +kernel
theorem dX14_view_57 : decode cX14_view 57 = .ok (.irem, 1) := by decide +kernel
theorem dX14_view_58 : decode cX14_view 58 = .ok (.istore 5, 2) := by decide +kernel
theorem dX14_view_60 : decode cX14_view 60 = .ok (.aload_n 1, 1) := by decide +kernel
theorem dX14_view_61 : decode cX14_view 61 = .ok (.iload 5, 2) := by decide +kernel
theorem dX14_view_63 : decode cX14_view 63 = .ok (.aload_n 0, 1) := by decide +kernel
theorem dX14_view_64 : decode cX14_view 64 = .ok (.getfield 42, 3) := by decide +kernel
theorem dX14_view_67 : decode cX14_view 67 = .ok (.if_icmp .ge 8, 3) := by decide +kernel
theorem dX14_view_70 : decode cX14_view 70 = .ok (.iload 5, 2) := by decide +kernel
theorem dX14_view_72 : decode cX14_view 72 = .ok (.goto 7, 3) := by decide +kernel
theorem dX14_view_75 : decode cX14_view 75 = .ok (.iload 5, 2) := by decide +kernel
theorem dX14_view_77 : decode cX14_view 77 = .ok (.iconst 1, 1) := by decide +kernel
theorem dX14_view_78 : decode cX14_view 78 = .ok (.iadd, 1) := by decide +kernel
theorem dX14_view_79 : decode cX14_view 79 = .ok (.aaload, 1) := by decide +kernel
theorem dX14_view_80 : decode cX14_view 80 = .ok (.getfield 21, 3) := by decide +kernel
theorem dX14_view_83 : decode cX14_view 83 = .ok (.aload_n 0, 1) := by decide +kernel
theorem dX14_view_84 : decode cX14_view 84 = .ok (.getfield 38, 3) := by decide +kernel
theorem dX14_view_87 : decode cX14_view 87 = .ok (.aload_n 0, 1) := by decide +kernel
theorem dX14_view_88 : decode cX14_view 88 = .ok (.getfield 42, 3) := by decide +kernel
theorem dX14_view_91 : decode cX14_view 91 = .ok (.iload_n 3, 1) := by decide +kernel
theorem dX14_view_92 : decode cX14_view 92 = .ok (.iload 4, 2) := by decide +kernel
theorem dX14_view_94 : decode cX14_view 94 = .ok (.isub, 1) := by decide +kernel
theorem dX14_view_95 : decode cX14_view 95 = .ok (.aload_n 0, 1) := by decide +kernel
theorem dX14_view_96 : decode cX14_view 96 = .ok (.getfield 38, 3) := by decide +kernel
theorem dX14_view_99 : decode cX14_view 99 = .ok (.getfield 101, 3) := by decide +kernel
theorem dX14_view_102 : decode cX14_view 102 = .ok (.iconst 1, 1) := by decide +kernel
theorem dX14_view_103 : decode cX14_view 103 = .ok (.isub, 1) := by decide +kernel
theorem dX14_view_104 : decode cX14_view 104 = .ok (.idiv, 1) := by decide +kernel
theorem dX14_view_105 : decode cX14_view 105 = .ok (.invokevirtual 73, 3) := by decide +kernel
theorem dX14_view_108 : decode cX14_view 108 = .ok (.invokevirtual 69, 3) := by decide +kernel
theorem dX14_view_111 : decode cX14_view 111 = .ok (.ireturn, 1) := by decide +kernel
theorem dX14_view_112 : decode cX14_view 112 = .ok (.iload_n 3, 1) := by decide +kernel
theorem dX14_view_113 : decode cX14_view 113 = .ok (.aload_n 0, 1) := by decide +kernel
theorem dX14_view_114 : decode cX14_view 114 = .ok (.invokevirtual 139, 3) := by decide +kernel
theorem dX14_view_117 : decode cX14_view 117 = .ok (.isub, 1) := by decide +kernel
theorem dX14_view_118 : decode cX14_view 118 = .ok (.istore 5, 2) := by decide +kernel
theorem dX14_view_120 : decode cX14_view 120 = .ok (.iload 5, 2) := by decide +kernel
theorem dX14_view_122 : decode cX14_view 122 = .ok (.iconst 3, 1) := by decide +kernel
theorem dX14_view_123 : decode cX14_view 123 = .ok (.aload_n 0, 1) := by decide +kernel
theorem dX14_view_124 : decode cX14_view 124 = .ok (.getfield 38, 3) := by decide +kernel
theorem dX14_view_127 : decode cX14_view 127 = .ok (.getfield 58, 3) := by decide +kernel
theorem dX14_view_130 : decode cX14_view 130 = .ok (.getfield 143, 3) := by decide +kernel
theorem dX14_view_133 : decode cX14_view 133 = .ok (.imul, 1) := by decide +kernel
theorem dX14_view_134 : decode cX14_view 134 = .ok (.if_icmp .ge 62, 3) := by decide +kernel
theorem dX14_view_137 : decode cX14_view 137 = .ok (.aload_n 0, 1) := by decide +kernel
theorem dX14_view_138 : decode cX14_view 138 = .ok (.iload 5, 2) := by decide +kernel
theorem dX14_view_140 : decode cX14_view 140 = .ok (.iconst 3, 1) := by decide +kernel
theorem dX14_view_141 : decode cX14_view 141 = .ok (.idiv, 1) := by decide +kernel
theorem dX14_view_142 : decode cX14_view 142 = .ok (.invokevirtual 149, 3) := by decide +kernel
theorem dX14_view_145 : decode cX14_view 145 = .ok (.istore 6, 2) := by decide +kernel
theorem dX14_view_147 : decode cX14_view 147 = .ok (.iload 5, 2) := by decide +kernel
theorem dX14_view_149 : decode cX14_view 149 = .ok (.iconst 3, 1) := by decide +kernel
theorem dX14_view_150 : decode cX14_view 150 = .ok (.irem, 1) := by decide +kernel
theorem dX14_view_151 : decode cX14_view 151 = .ok (.ifCond .ne 15, 3) := by decide +kernel
theorem dX14_view_154 : decode cX14_view 154 = .ok (.aload_n 0, 1) := by decide +kernel
theorem dX14_view_155 : decode cX14_view 155 = .ok (.getfield 25, 3) := by decide +kernel
theorem dX14_view_158 : decode cX14_view 158 = .ok (.iload 6, 2) := by decide +kernel
theorem dX14_view_160 : decode cX14_view 160 = .ok (.invokevirtual 69, 3) := by decide +kernel
theorem dX14_view_163 : decode cX14_view 163 = .ok (.goto 32, 3) := by decide +kernel
theorem dX14_view_166 : decode cX14_view 166 = .ok (.iload 5, 2) := by decide +kernel
theorem dX14_view_168 : decode cX14_view 168 = .ok (.iconst 3, 1) := by decide +kernel
theorem dX14_view_169 : decode cX14_view 169 = .ok (.irem, 1) := by decide +kernel
theorem dX14_view_170 : decode cX14_view 170 = .ok (.iconst 1, 1) := by decide +kernel
theorem dX14_view_171 : decode cX14_view 171 = .ok (.if_icmp .ne 15, 3) := by decide +kernel
theorem dX14_view_174 : decode cX14_view 174 = .ok (.aload_n 0, 1) := by decide +kernel
theorem dX14_view_175 : decode cX14_view 175 = .ok (.getfield 28, 3) := by decide +kernel
theorem dX14_view_178 : decode cX14_view 178 = .ok (.iload 6, 2) := by decide +kernel
theorem dX14_view_180 : decode cX14_view 180 = .ok (.invokevirtual 69, 3) := by decide +kernel
theorem dX14_view_183 : decode cX14_view 183 = .ok (.goto 12, 3) := by decide +kernel
theorem dX14_view_186 : decode cX14_view 186 = .ok (.aload_n 0, 1) := by decide +kernel
theorem dX14_view_187 : decode cX14_view 187 = .ok (.getfield 31, 3) := by decide +kernel
theorem dX14_view_190 : decode cX14_view 190 = .ok (.iload 6, 2) := by decide +kernel
theorem dX14_view_192 : decode cX14_view 192 = .ok (.invokevirtual 69, 3) := by decide +kernel
theorem dX14_view_195 : decode cX14_view 195 = .ok (.ireturn, 1) := by decide +kernel
theorem dX14_view_196 : decode cX14_view 196 = .ok (.iload 5, 2) := by decide +kernel
theorem dX14_view_198 : decode cX14_view 198 = .ok (.iconst 3, 1) := by decide +kernel
theorem dX14_view_199 : decode cX14_view 199 = .ok (.aload_n 0, 1) := by decide +kernel
theorem dX14_view_200 : decode cX14_view 200 = .ok (.getfield 38, 3) := by decide +kernel
theorem dX14_view_203 : decode cX14_view 203 = .ok (.getfield 58, 3) := by decide +kernel
theorem dX14_view_206 : decode cX14_view 206 = .ok (.getfield 143, 3) := by decide +kernel
theorem dX14_view_209 : decode cX14_view 209 = .ok (.imul, 1) := by decide +kernel
theorem dX14_view_210 : decode cX14_view 210 = .ok (.isub, 1) := by decide +kernel
theorem dX14_view_211 : decode cX14_view 211 = .ok (.istore 5, 2) := by decide +kernel
theorem dX14_view_213 : decode cX14_view 213 = .ok (.iconst 0, 1) := by decide +kernel
theorem dX14_view_214 : decode cX14_view 214 = .ok (.istore 6, 2) := by decide +kernel
theorem dX14_view_216 : decode cX14_view 216 = .ok (.iload 6, 2) := by decide +kernel
theorem dX14_view_218 : decode cX14_view 218 = .ok (.aload_n 0, 1) := by decide +kernel
theorem dX14_view_219 : decode cX14_view 219 = .ok (.getfield 49, 3) := by decide +kernel
theorem dX14_view_222 : decode cX14_view 222 = .ok (.if_icmp .ge 81, 3) := by decide +kernel
theorem dX14_view_225 : decode cX14_view 225 = .ok (.aload_n 0, 1) := by decide +kernel
theorem dX14_view_226 : decode cX14_view 226 = .ok (.getfield 38, 3) := by decide +kernel
theorem dX14_view_229 : decode cX14_view 229 = .ok (.aload_n 0, 1) := by decide +kernel
theorem dX14_view_230 : decode cX14_view 230 = .ok (.getfield 34, 3) := by decide +kernel
theorem dX14_view_233 : decode cX14_view 233 = .ok (.iload 6, 2) := by decide +kernel
theorem dX14_view_235 : decode cX14_view 235 = .ok (.iaload, 1) := by decide +kernel
theorem dX14_view_236 : decode cX14_view 236 = .ok (.bipush 16, 2) := by decide +kernel
theorem dX14_view_238 : decode cX14_view 238 = .ok (.irem, 1) := by decide +kernel
theorem dX14_view_239 : decode cX14_view 239 = .ok (.aload_n 0, 1) := by decide +kernel
theorem dX14_view_240 : decode cX14_view 240 = .ok (.getfield 34, 3) := by decide +kernel
theorem dX14_view_243 : decode cX14_view 243 = .ok (.iload 6, 2) := by decide +kernel
theorem dX14_view_245 : decode cX14_view 245 = .ok (.iaload, 1) := by decide +kernel
theorem dX14_view_246 : decode cX14_view 246 = .ok (.bipush 16, 2) := by decide +kernel
theorem dX14_view_248 : decode cX14_view 248 = .ok (.idiv, 1) := by decide +kernel
theorem dX14_view_249 : decode cX14_view 249 = .ok (.invokevirtual 146, 3) := by decide +kernel
theorem dX14_view_252 : decode cX14_view 252 = .ok (.istore 7, 2) := by decide +kernel
theorem dX14_view_254 : decode cX14_view 254 = .ok (.iload 5, 2) := by decide +kernel
theorem dX14_view_256 : decode cX14_view 256 = .ok (.iload 7, 2) := by decide +kernel
theorem dX14_view_258 : decode cX14_view 258 = .ok (.if_icmp .ge 32, 3) := by decide +kernel
theorem dX14_view_261 : decode cX14_view 261 = .ok (.aload_n 1, 1) := by decide +kernel
theorem dX14_view_262 : decode cX14_view 262 = .ok (.aload_n 0, 1) := by decide +kernel
theorem dX14_view_263 : decode cX14_view 263 = .ok (.getfield 34, 3) := by decide +kernel
theorem dX14_view_266 : decode cX14_view 266 = .ok (.iload 6, 2) := by decide +kernel
theorem dX14_view_268 : decode cX14_view 268 = .ok (.iaload, 1) := by decide +kernel
theorem dX14_view_269 : decode cX14_view 269 = .ok (.bipush 16, 2) := by decide +kernel
theorem dX14_view_271 : decode cX14_view 271 = .ok (.irem, 1) := by decide +kernel
theorem dX14_view_272 : decode cX14_view 272 = .ok (.aaload, 1) := by decide +kernel
theorem dX14_view_273 : decode cX14_view 273 = .ok (.aload_n 0, 1) := by decide +kernel
theorem dX14_view_274 : decode cX14_view 274 = .ok (.aload_n 0, 1) := by decide +kernel
theorem dX14_view_275 : decode cX14_view 275 = .ok (.getfield 34, 3) := by decide +kernel
theorem dX14_view_278 : decode cX14_view 278 = .ok (.iload 6, 2) := by decide +kernel
theorem dX14_view_280 : decode cX14_view 280 = .ok (.iaload, 1) := by decide +kernel
theorem dX14_view_281 : decode cX14_view 281 = .ok (.bipush 16, 2) := by decide +kernel
theorem dX14_view_283 : decode cX14_view 283 = .ok (.idiv, 1) := by decide +kernel
theorem dX14_view_284 : decode cX14_view 284 = .ok (.iload 5, 2) := by decide +kernel
theorem dX14_view_286 : decode cX14_view 286 = .ok (.invokevirtual 132, 3) := by decide +kernel
theorem dX14_view_289 : decode cX14_view 289 = .ok (.ireturn, 1) := by decide +kernel
theorem dX14_view_290 : decode cX14_view 290 = .ok (.iload 5, 2) := by decide +kernel
theorem dX14_view_292 : decode cX14_view 292 = .ok (.iload 7, 2) := by decide +kernel
theorem dX14_view_294 : decode cX14_view 294 = .ok (.isub, 1) := by decide +kernel
theorem dX14_view_295 : decode cX14_view 295 = .ok (.istore 5, 2) := by decide +kernel
theorem dX14_view_297 : decode cX14_view 297 = .ok (.iinc 6 1, 3) := by decide +kernel
theorem dX14_view_300 : decode cX14_view 300 = .ok (.goto (-84), 3) := by decide +kernel
theorem dX14_view_303 : decode cX14_view 303 = .ok (.iconst (-1), 1) := by decide +kernel
theorem dX14_view_304 : decode cX14_view 304 = .ok (.ireturn, 1) := by decide +kernel
theorem dX14_and_0 : decode cX14_and 0 = .ok (.iload_n 1, 1) := by decide +kernel
theorem dX14_and_1 : decode cX14_and 1 = .ok (.istore_n 2, 1) := by decide +kernel
theorem dX14_and_2 : decode cX14_and 2 = .ok (.iconst 0, 1) := by decide +kernel
theorem dX14_and_3 : decode cX14_and 3 = .ok (.istore_n 3, 1) := by decide +kernel
theorem dX14_and_4 : decode cX14_and 4 = .ok (.iload_n 2, 1) := by decide +kernel
theorem dX14_and_5 : decode cX14_and 5 = .ok (.ifCond .gt 18, 3) := by decide +kernel
theorem dX14_and_8 : decode cX14_and 8 = .ok (.aload_n 0, 1) := by decide +kernel
theorem dX14_and_9 : decode cX14_and 9 = .ok (.getfield 38, 3) := by decide +kernel
theorem dX14_and_12 : decode cX14_and 12 = .ok (.getfield 58, 3) := by decide +kernel
theorem dX14_and_15 : decode cX14_and 15 = .ok (.getfield 125, 3) := by decide +kernel
theorem dX14_and_18 : decode cX14_and 18 = .ok (.iload_n 3, 1) := by decide +kernel
theorem dX14_and_19 : decode cX14_and 19 = .ok (.baload, 1) := by decide +kernel
theorem dX14_and_20 : decode cX14_and 20 = .ok (.ifCond .ne 32, 3) := by decide +kernel
theorem dX14_and_23 : decode cX14_and 23 = .ok (.iload_n 2, 1) := by decide +kernel
theorem dX14_and_24 : decode cX14_and 24 = .ok (.aload_n 0, 1) := by decide +kernel
theorem dX14_and_25 : decode cX14_and 25 = .ok (.getfield 38, 3) := by decide +kernel
theorem dX14_and_28 : decode cX14_and 28 = .ok (.getfield 58, 3) := by decide +kernel
theorem dX14_and_31 : decode cX14_and 31 = .ok (.getfield 125, 3) := by decide +kernel
theorem dX14_and_34 : decode cX14_and 34 = .ok (.iload_n 3, 1) := by decide +kernel
theorem dX14_and_35 : decode cX14_and 35 = .ok (.baload, 1) := by decide +kernel
theorem dX14_and_36 : decode cX14_and 36 = .ok (.ifCond .eq 7, 3) := by decide +kernel
theorem dX14_and_39 : decode cX14_and 39 = .ok (.iconst 1, 1) := by decide +kernel
theorem dX14_and_40 : decode cX14_and 40 = .ok (.goto 4, 3) := by decide +kernel
theorem dX14_and_43 : decode cX14_and 43 = .ok (.iconst 0, 1) := by decide +kernel
theorem dX14_and_44 : decode cX14_and 44 = .ok (.isub, 1) := by decide +kernel
theorem dX14_and_45 : decode cX14_and 45 = .ok (.istore_n 2, 1) := by decide +kernel
theorem dX14_and_46 : decode cX14_and 46 = .ok (.iinc 3 1, 3) := by decide +kernel
theorem dX14_and_49 : decode cX14_and 49 = .ok (.goto (-45), 3) := by decide +kernel
theorem dX14_and_52 : decode cX14_and 52 = .ok (.iload_n 3, 1) := by decide +kernel
theorem dX14_and_53 : decode cX14_and 53 = .ok (.ireturn, 1) := by decide +kernel
