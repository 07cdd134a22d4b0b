set_option maxRecDepth 100000
theorem dX15_levels_43 : decode cX15_levels 43 = .ok (.iload_n 3, 1) := by decide +kernel
theorem dX15_levels_44 : decode cX15_levels 44 = .ok (.iaload, 1) := by decide +kernel
theorem dX15_levels_45 : decode cX15_levels 45 = .ok (.iload_n 2, 1) := by decide +kernel
theorem dX15_levels_46 : decode cX15_levels 46 = .ok (.if_icmp .ne 13, 3) := by decide +kernel
theorem dX15_levels_49 : decode cX15_levels 49 = .ok (.aload_n 0, 1) := by decide +kernel
theorem dX15_levels_50 : decode cX15_levels 50 = .ok (.getfield 262, 3) := by decide +kernel
theorem dX15_levels_53 : decode cX15_levels 53 = .ok (.iload_n 1, 1) := by decide +kernel
theorem dX15_levels_54 : decode cX15_levels 54 = .ok (.iload_n 3, 1) := by decide +kernel
theorem dX15_levels_55 : decode cX15_levels 55 = .ok (.iastore, 1) := by decide +kernel
theorem dX15_levels_56 : decode cX15_levels 56 = .ok (.iinc 1 1, 3) := by decide +kernel
theorem dX15_levels_59 : decode cX15_levels 59 = .ok (.iinc 3 1, 3) := by decide +kernel
theorem dX15_levels_62 : decode cX15_levels 62 = .ok (.goto (-41), 3) := by decide +kernel
theorem dX15_levels_65 : decode cX15_levels 65 = .ok (.iinc 2 1, 3) := by decide +kernel
theorem dX15_levels_68 : decode cX15_levels 68 = .ok (.goto (-64), 3) := by decide +kernel
theorem dX15_levels_71 : decode cX15_levels 71 = .ok (.aload_n 0, 1) := by decide +kernel
theorem dX15_levels_72 : decode cX15_levels 72 = .ok (.getfield 259, 3) := by decide +kernel
theorem dX15_levels_75 : decode cX15_levels 75 = .ok (.aload_n 0, 1) := by decide +kernel
theorem dX15_levels_76 : decode cX15_levels 76 = .ok (.getfield 633, 3) := by decide +kernel
theorem dX15_levels_79 : decode cX15_levels 79 = .ok (.iconst 1, 1) := by decide +kernel
theorem dX15_levels_80 : decode cX15_levels 80 = .ok (.iadd, 1) := by decide +kernel
theorem dX15_levels_81 : decode cX15_levels 81 = .ok (.iload_n 1, 1) := by decide +kernel
theorem dX15_levels_82 : decode cX15_levels 82 = .ok (.iastore, 1) := by decide +kernel
theorem dX15_levels_83 : decode cX15_levels 83 = .ok (.return_, 1) := by decide +kernel
theorem dX15_look_0 : decode cX15_look 0 = .ok (.iload_n 1, 1) := by decide +kernel
theorem dX15_look_1 : decode cX15_look 1 = .ok (.ifCond .le 18, 3) := by decide +kernel
theorem dX15_look_4 : decode cX15_look 4 = .ok (.iload_n 1, 1) := by decide +kernel
theorem dX15_look_5 : decode cX15_look 5 = .ok (.bipush 9, 2) := by decide +kernel
theorem dX15_look_7 : decode cX15_look 7 = .ok (.if_icmp .ge 12, 3) := by decide +kernel
theorem dX15_look_10 : decode cX15_look 10 = .ok (.aload_n 0, 1) := by decide +kernel
theorem dX15_look_11 : decode cX15_look 11 = .ok (.getfield 848, 3) := by decide +kernel
theorem dX15_look_14 : decode cX15_look 14 = .ok (.ifCond .ne 5, 3) := by decide +kernel
theorem dX15_look_17 : decode cX15_look 17 = .ok (.iconst (-1), 1) := by decide +kernel
theorem dX15_look_18 : decode cX15_look 18 = .ok (.ireturn, 1) := by decide +kernel
theorem dX15_look_19 : decode cX15_look 19 = .ok (.iload_n 1, 1) := by decide +kernel
theorem dX15_look_20 : decode cX15_look 20 = .ok (.tableswitch 191 0 14 #[76, 81, 86, 91, 96, 101, 106, 111, 137, 142, 147, 152, 157, 181, 186], 76) := by decide +kernel
theorem dX15_look_96 : decode cX15_look 96 = .ok (.aload_n 0, 1) := by decide +kernel
theorem dX15_look_97 : decode cX15_look 97 = .ok (.getfield 313, 3) := by decide +kernel
theorem dX15_look_100 : decode cX15_look 100 = .ok (.ireturn, 1) := by decide +kernel
theorem dX15_look_101 : decode cX15_look 101 = .ok (.aload_n 0, 1) := by decide +kernel
theorem dX15_look_102 : decode cX15_look 102 = .ok (.getfield 624, 3) := by decide +kernel
theorem dX15_look_105 : decode cX15_look 105 = .ok (.ireturn, 1) := by decide +kernel
theorem dX15_look_106 : decode cX15_look 106 = .ok (.aload_n 0, 1) := by decide +kernel
theorem dX15_look_107 : decode cX15_look 107 = .ok (.getfield 630, 3) := by decide +kernel
theorem dX15_look_110 : decode cX15_look 110 = .ok (.ireturn, 1) := by decide +kernel
theorem dX15_look_111 : decode cX15_look 111 = .ok (.aload_n 0, 1) := by decide +kernel
theorem dX15_look_112 : decode cX15_look 112 = .ok (.getfield 633, 3) := by decide +kernel
theorem dX15_look_115 : decode cX15_look 115 = .ok (.ireturn, 1) := by decide +kernel
theorem dX15_look_116 : decode cX15_look 116 = .ok (.aload_n 0, 1) := by decide +kernel
theorem dX15_look_117 : decode cX15_look 117 = .ok (.getfield 618, 3) := by decide +kernel
theorem dX15_look_120 : decode cX15_look 120 = .ok (.ireturn, 1) := by decide +kernel
theorem dX15_look_121 : decode cX15_look 121 = .ok (.aload_n 0, 1) := by decide +kernel
theorem dX15_look_122 : decode cX15_look 122 = .ok (.getfield 663, 3) := by decide +kernel
theorem dX15_look_125 : decode cX15_look 125 = .ok (.ireturn, 1) := by decide +kernel
theorem dX15_look_126 : decode cX15_look 126 = .ok (.aload_n 0, 1) := by decide +kernel
theorem dX15_look_127 : decode cX15_look 127 = .ok (.getfield 672, 3) := by decide +kernel
theorem dX15_look_130 : decode cX15_look 130 = .ok (.ireturn, 1) := by decide +kernel
theorem dX15_look_131 : decode cX15_look 131 = .ok (.aload_n 0, 1) := by decide +kernel
theorem dX15_look_132 : decode cX15_look 132 = .ok (.getfield 618, 3) := by decide +kernel
theorem dX15_look_135 : decode cX15_look 135 = .ok (.aload_n 0, 1) := by decide +kernel
theorem dX15_look_136 : decode cX15_look 136 = .ok (.getfield 299, 3) := by decide +kernel
theorem dX15_look_139 : decode cX15_look 139 = .ok (.iconst 1, 1) := by decide +kernel
theorem dX15_look_140 : decode cX15_look 140 = .ok (.isub, 1) := by decide +kernel
theorem dX15_look_141 : decode cX15_look 141 = .ok (.imul, 1) := by decide +kernel
theorem dX15_look_142 : decode cX15_look 142 = .ok (.aload_n 0, 1) := by decide +kernel
theorem dX15_look_143 : decode cX15_look 143 = .ok (.getfield 630, 3) := by decide +kernel
theorem dX15_look_146 : decode cX15_look 146 = .ok (.iconst 3, 1) := by decide +kernel
theorem dX15_look_147 : decode cX15_look 147 = .ok (.aload_n 0, 1) := by decide +kernel
theorem dX15_look_148 : decode cX15_look 148 = .ok (.getfield 299, 3) := by decide +kernel
theorem dX15_look_151 : decode cX15_look 151 = .ok (.imul, 1) := by decide +kernel
theorem dX15_look_152 : decode cX15_look 152 = .ok (.iconst 1, 1) := by decide +kernel
theorem dX15_look_153 : decode cX15_look 153 = .ok (.isub, 1) := by decide +kernel
theorem dX15_look_154 : decode cX15_look 154 = .ok (.imul, 1) := by decide +kernel
theorem dX15_look_155 : decode cX15_look 155 = .ok (.iadd, 1) := by decide +kernel
theorem dX15_look_156 : decode cX15_look 156 = .ok (.ireturn, 1) := by decide +kernel
theorem dX15_look_157 : decode cX15_look 157 = .ok (.aload_n 0, 1) := by decide +kernel
theorem dX15_look_158 : decode cX15_look 158 = .ok (.getfield 659, 3) := by decide +kernel
theorem dX15_look_161 : decode cX15_look 161 = .ok (.ireturn, 1) := by decide +kernel
theorem dX15_look_162 : decode cX15_look 162 = .ok (.aload_n 0, 1) := by decide +kernel
theorem dX15_look_163 : decode cX15_look 163 = .ok (.getfield 818, 3) := by decide +kernel
theorem dX15_look_166 : decode cX15_look 166 = .ok (.ireturn, 1) := by decide +kernel
theorem dX15_look_167 : decode cX15_look 167 = .ok (.aload_n 0, 1) := by decide +kernel
theorem dX15_look_168 : decode cX15_look 168 = .ok (.getfield 830, 3) := by decide +kernel
theorem dX15_look_171 : decode cX15_look 171 = .ok (.ireturn, 1) := by decide +kernel
theorem dX15_look_172 : decode cX15_look 172 = .ok (.aload_n 0, 1) := by decide +kernel
theorem dX15_look_173 : decode cX15_look 173 = .ok (.invokevirtual 854, 3) := by decide +kernel
theorem dX15_look_176 : decode cX15_look 176 = .ok (.ireturn, 1) := by decide +kernel
theorem dX15_look_177 : decode cX15_look 177 = .ok (.aload_n 0, 1) := by decide +kernel
theorem dX15_look_178 : decode cX15_look 178 = .ok (.getfield 848, 3) := by decide +kernel
theorem dX15_look_181 : decode cX15_look 181 = .ok (.ifCond .ne 7, 3) := by decide +kernel
theorem dX15_look_184 : decode cX15_look 184 = .ok (.iconst 0, 1) := by decide +kernel
theorem dX15_look_185 : decode cX15_look 185 = .ok (.goto 15, 3) := by decide +kernel
theorem dX15_look_188 : decode cX15_look 188 = .ok (.aload_n 0, 1) := by decide +kernel
theorem dX15_look_189 : decode cX15_look 189 = .ok (.getfield 762, 3) := by decide +kernel
theorem dX15_look_192 : decode cX15_look 192 = .ok (.ifCond .eq 7, 3) := by decide +kernel
theorem dX15_look_195 : decode cX15_look 195 = .ok (.iconst 2, 1) := by decide +kernel
theorem dX15_look_196 : decode cX15_look 196 = .ok (.goto 4, 3) := by decide +kernel
theorem dX15_look_199 : decode cX15_look 199 = .ok (.iconst 1, 1) := by decide +kernel
theorem dX15_look_200 : decode cX15_look 200 = .ok (.ireturn, 1) := by decide +kernel
theorem dX15_look_201 : decode cX15_look 201 = .ok (.aload_n 0, 1) := by decide +kernel
theorem dX15_look_202 : decode cX15_look 202 = .ok (.getfield 797, 3) := by decide +kernel
theorem dX15_look_205 : decode cX15_look 205 = .ok (.ireturn, 1) := by decide +kernel
theorem dX15_look_206 : decode cX15_look 206 = .ok (.aload_n 0, 1) := by decide +kernel
theorem dX15_look_207 : decode cX15_look 207 = .ok (.getfield 310, 3) := by decide +kernel
theorem dX15_look_210 : decode cX15_look 210 = .ok (.ireturn, 1) := by decide +kernel
theorem dX15_look_211 : decode cX15_look 211 = .ok (.iconst (-1), 1) := by decide +kernel
theorem dX15_look_212 : decode cX15_look 212 = .ok (.ireturn, 1) := by decide +kernel
theorem dX15_done_0 : decode cX15_done 0 = .ok (.iconst 0, 1) := by decide +kernel
theorem dX15_done_1 : decode cX15_done 1 = .ok (.istore_n 1, 1) := by decide +kernel
theorem dX15_done_2 : decode cX15_done 2 = .ok (.iconst 0, 1) := by decide +kernel
theorem dX15_done_3 : decode cX15_done 3 = .ok (.istore_n 2, 1) := by decide +kernel
theorem dX15_done_4 : decode cX15_done 4 = .ok (.iload_n 2, 1) := by decide +kernel
theorem dX15_done_5 : decode cX15_done 5 = .ok (.aload_n 0, 1) := by decide +kernel
theorem dX15_done_6 : decode cX15_done 6 = .ok (.getfield 299, 3) := by decide +kernel
theorem dX15_done_9 : decode cX15_done 9 = .ok (.if_icmp .ge 39, 3) := by decide +kernel
theorem dX15_done_12 : decode cX15_done 12 = .ok (.iload_n 1, 1) := by decide +kernel
theorem dX15_done_13 : decode cX15_done 13 = .ok (.aload_n 0, 1) := by decide +kernel
theorem dX15_done_14 : decode cX15_done 14 = .ok (.getfield 762, 3) := by decide +kernel
theorem dX15_done_17 : decode cX15_done 17 = .ok (.ifCond .eq 22, 3) := by decide +kernel
theorem dX15_done_20 : decode cX15_done 20 = .ok (.aload_n 0, 1) := by decide +kernel
theorem dX15_done_21 : decode cX15_done 21 = .ok (.getfield 265, 3) := by decide +kernel
theorem dX15_done_24 : decode cX15_done 24 = .ok (.iload_n 2, 1) := by decide +kernel
theorem dX15_done_25 : decode cX15_done 25 = .ok (.iaload, 1) := by decide +kernel
theorem dX15_done_26 : decode cX15_done 26 = .ok (.aload_n 0, 1) := by decide +kernel
theorem dX15_done_27 : decode cX15_done 27 = .ok (.getfield 633, 3) := by decide +kernel
theorem dX15_done_30 : decode cX15_done 30 = .ok (.iconst 2, 1) := by decide +kernel
theorem dX15_done_31 : decode cX15_done 31 = .ok (.iadd, 1) := by decide +kernel
theorem dX15_done_32 : decode cX15_done 32 = .ok (.if_icmp .ne 7, 3) := by decide +kernel
theorem dX15_done_35 : decode cX15_done 35 = .ok (.iconst 1, 1) := by decide +kernel
theorem dX15_done_36 : decode cX15_done 36 = .ok (.goto 4, 3) := by decide +kernel
theorem dX15_done_39 : decode cX15_done 39 = .ok (.iconst 0, 1) := by decide +kernel
theorem dX15_done_40 : decode cX15_done 40 = .ok (.iadd, 1) := by decide +kernel
theorem dX15_done_41 : decode cX15_done 41 = .ok (.istore_n 1, 1) := by decide +kernel
theorem dX15_done_42 : decode cX15_done 42 = .ok (.iinc 2 1, 3) := by decide +kernel
theorem dX15_done_45 : decode cX15_done 45 = .ok (.goto (-41), 3) := by decide +kernel
theorem dX15_done_48 : decode cX15_done 48 = .ok (.iload_n 1, 1) := by decide +kernel
theorem dX15_done_49 : decode cX15_done 49 = .ok (.ireturn, 1) := by decide +kernel
theorem dX15_gate_0 : decode cX15_gate 0 = .ok (.aload_n 0, 1) := by decide +kernel
theorem dX15_gate_1 : decode cX15_gate 1 = .ok (.getfield 848, 3) := by decide +kernel
theorem dX15_gate_4 : decode cX15_gate 4 = .ok (.ifCond .eq 24, 3) := by decide +kernel
theorem dX15_gate_7 : decode cX15_gate 7 = .ok (.iload_n 1, 1) := by decide +kernel
theorem dX15_gate_8 : decode cX15_gate 8 = .ok (.ifCond .lt 20, 3) := by decide +kernel
theorem dX15_gate_11 : decode cX15_gate 11 = .ok (.iload_n 1, 1) := by decide +kernel
theorem dX15_gate_12 : decode cX15_gate 12 = .ok (.aload_n 0, 1) := by decide +kernel
theorem dX15_gate_13 : decode cX15_gate 13 = .ok (.getfield 624, 3) := by decide +kernel
theorem dX15_gate_16 : decode cX15_gate 16 = .ok (.if_icmp .ge 12, 3) := by decide +kernel
theorem dX15_gate_19 : decode cX15_gate 19 = .ok (.iload_n 2, 1) := by decide +kernel
theorem dX15_gate_20 : decode cX15_gate 20 = .ok (.ifCond .lt 8, 3) := by decide +kernel
theorem dX15_gate_23 : decode cX15_gate 23 = .ok (.iload_n 2, 1) := by decide +kernel
theorem dX15_gate_24 : decode cX15_gate 24 = .ok (.iconst 3, 1) := by decide +kernel
theorem dX15_gate_25 : decode cX15_gate 25 = .ok (.if_icmp .le 5, 3) := by decide +kernel
theorem dX15_gate_28 : decode cX15_gate 28 = .ok (.iconst (-1), 1) := by decide +kernel
theorem dX15_gate_29 : decode cX15_gate 29 = .ok (.ireturn, 1) := by decide +kernel
theorem dX15_gate_30 : decode cX15_gate 30 = .ok (.iload_n 2, 1) := by decide +kernel
theorem dX15_gate_31 : decode cX15_gate 31 = .ok (.ifCond .ne 12, 3) := by decide +kernel
theorem dX15_gate_34 : decode cX15_gate 34 = .ok (.aload_n 0, 1) := by decide +kernel
theorem dX15_gate_35 : decode cX15_gate 35 = .ok (.getfield 124, 3) := by decide +kernel
theorem dX15_gate_38 : decode cX15_gate 38 = .ok (.iload_n 1, 1) := by decide +kernel
theorem dX15_gate_39 : decode cX15_gate 39 = .ok (.iaload, 1) := by decide +kernel
theorem dX15_gate_40 : decode cX15_gate 40 = .ok (.goto 37, 3) := by decide +kernel
theorem dX15_gate_43 : decode cX15_gate 43 = .ok (.iload_n 2, 1) := by decide +kernel
theorem dX15_gate_44 : decode cX15_gate 44 = .ok (.iconst 1, 1) := by decide +kernel
theorem dX15_gate_45 : decode cX15_gate 45 = .ok (.if_icmp .ne 12, 3) := by decide +kernel
theorem dX15_gate_48 : decode cX15_gate 48 = .ok (.aload_n 0, 1) := by decide +kernel
theorem dX15_gate_49 : decode cX15_gate 49 = .ok (.getfield 127, 3) := by decide +kernel
theorem dX15_gate_52 : decode cX15_gate 52 = .ok (.iload_n 1, 1) := by decide +kernel
theorem dX15_gate_53 : decode cX15_gate 53 = .ok (.iaload, 1) := by decide +kernel
theorem dX15_gate_54 : decode cX15_gate 54 = .ok (.goto 23, 3) := by decide +kernel
theorem dX15_gate_57 : decode cX15_gate 57 = .ok (.iload_n 2, 1) := by decide +kernel
theorem dX15_gate_58 : decode cX15_gate 58 = .ok (.iconst 2, 1) := by decide +kernel
theorem dX15_gate_59 : decode cX15_gate 59 = .ok (.if_icmp .ne 12, 3) := by decide +kernel
theorem dX15_gate_62 : decode cX15_gate 62 = .ok (.aload_n 0, 1) := by decide +kernel
theorem dX15_gate_63 : decode cX15_gate 63 = .ok (.getfield 130, 3) := by decide +kernel
theorem dX15_gate_66 : decode cX15_gate 66 = .ok (.iload_n 1, 1) := by decide +kernel
theorem dX15_gate_67 : decode cX15_gate 67 = .ok (.iaload, 1) := by decide +kernel
theorem dX15_gate_68 : decode cX15_gate 68 = .ok (.goto 9, 3) := by decide +kernel
theorem dX15_gate_71 : decode cX15_gate 71 = .ok (.aload_n 0, 1) := by decide +kernel
theorem dX15_gate_72 : decode cX15_gate 72 = .ok (.getfield 133, 3) := by decide +kernel
theorem dX15_gate_75 : decode cX15_gate 75 = .ok (.iload_n 1, 1) := by decide +kernel
theorem dX15_gate_76 : decode cX15_gate 76 = .ok (.iaload, 1) := by decide +kernel
theorem dX15_gate_77 : decode cX15_gate 77 = .ok (.ireturn, 1) := by decide +kernel
theorem dX15_literal_0 : decode cX15_literal 0 = .ok (.aload_n 0, 1) := by decide +kernel
theorem dX15_literal_1 : decode cX15_literal 1 = .ok (.getfield 848, 3) := by decide +kernel
theorem dX15_literal_4 : decode cX15_literal 4 = .ok (.ifCond .eq 44, 3) := by decide +kernel
theorem dX15_literal_7 : decode cX15_literal 7 = .ok (.iload_n 1, 1) := by decide +kernel
theorem dX15_literal_8 : decode cX15_literal 8 = .ok (.ifCond .lt 40, 3) := by decide +kernel
theorem dX15_literal_11 : decode cX15_literal 11 = .ok (.iload_n 1, 1) := by decide +kernel
theorem dX15_literal_12 : decode cX15_literal 12 = .ok (.aload_n 0, 1) := by decide +kernel
theorem dX15_literal_13 : decode cX15_literal 13 = .ok (.getfield 672, 3) := by decide +kernel
theorem dX15_literal_16 : decode cX15_literal 16 = .ok (.if_icmp .ge 32, 3) := by decide +kernel
theorem dX15_literal_19 : decode cX15_literal 19 = .ok (.iload_n 2, 1) := by decide +kernel
theorem dX15_literal_20 : decode cX15_literal 20 = .ok (.ifCond .lt 28, 3) := by decide +kernel
theorem dX15_literal_23 : decode cX15_literal 23 = .ok (.iload_n 2, 1) := by decide +kernel
theorem dX15_literal_24 : decode cX15_literal 24 = .ok (.aload_n 0, 1) := by decide +kernel
theorem dX15_literal_25 : decode cX15_literal 25 = .ok (.getfield 151, 3) := by decide +kernel
theorem dX15_literal_28 : decode cX15_literal 28 = .ok (.iload_n 1, 1) := by decide +kernel
theorem dX15_literal_29 : decode cX15_literal 29 = .ok (.ifCond .lt 14, 3) := by decide +kernel
theorem dX15_literal_32 : decode cX15_literal 32 = .ok (.iload_n 1, 1) := by decide +kernel
theorem dX15_literal_33 : decode cX15_literal 33 = .ok (.sipush 500, 3) := by decide +kernel
theorem dX15_literal_36 : decode cX15_literal 36 = .ok (.if_icmp .ge 7, 3) := by decide +kernel
theorem dX15_literal_39 : decode cX15_literal 39 = .ok (.iload_n 1, 1) := by decide +kernel
theorem dX15_literal_40 : decode cX15_literal 40 = .ok (.goto 4, 3) := by decide +kernel
theorem dX15_literal_43 : decode cX15_literal 43 = .ok (.iconst 0, 1) := by decide +kernel
theorem dX15_literal_44 : decode cX15_literal 44 = .ok (.iaload, 1) := by decide +kernel
theorem dX15_literal_45 : decode cX15_literal 45 = .ok (.if_icmp .lt 8, 3) := by decide +kernel
theorem dX15_literal_48 : decode cX15_literal 48 = .ok (.bipush (-3), 2) := by decide +kernel
theorem dX15_literal_50 : decode cX15_literal 50 = .ok (.goto 14, 3) := by decide +kernel
theorem dX15_literal_53 : decode cX15_literal 53 = .ok (.aload_n 0, 1) := by decide +kernel
theorem dX15_literal_54 : decode cX15_literal 54 = .ok (.getfield 154, 3) := by decide +kernel
theorem dX15_literal_57 : decode cX15_literal 57 = .ok (.bipush 32, 2) := by decide +kernel
theorem dX15_literal_59 : decode cX15_literal 59 = .ok (.iload_n 1, 1) := by decide +kernel
theorem dX15_literal_60 : decode cX15_literal 60 = .ok (.imul, 1) := by decide +kernel
theorem dX15_literal_61 : decode cX15_literal 61 = .ok (.iload_n 2, 1) := by decide +kernel
theorem dX15_literal_62 : decode cX15_literal 62 = .ok (.iadd, 1) := by decide +kernel
theorem dX15_literal_63 : decode cX15_literal 63 = .ok (.iaload, 1) := by decide +kernel
theorem dX15_literal_64 : decode cX15_literal 64 = .ok (.ireturn, 1) := by decide +kernel
theorem dX15_input_0 : decode cX15_input 0 = .ok (.aload_n 0, 1) := by decide +kernel
theorem dX15_input_1 : decode cX15_input 1 = .ok (.getfield 848, 3) := by decide +kernel
theorem dX15_input_4 : decode cX15_input 4 = .ok (.ifCond .eq 24, 3) := by decide +kernel
theorem dX15_input_7 : decode cX15_input 7 = .ok (.iload_n 1, 1) := by decide +kernel
theorem dX15_input_8 : decode cX15_input 8 = .ok (.ifCond .lt 20, 3) := by decide +kernel
theorem dX15_input_11 : decode cX15_input 11 = .ok (.iload_n 1, 1) := by decide +kernel
theorem dX15_input_12 : decode cX15_input 12 = .ok (.aload_n 0, 1) := by decide +kernel
theorem dX15_input_13 : decode cX15_input 13 = .ok (.getfield 663, 3) := by decide +kernel
theorem dX15_input_16 : decode cX15_input 16 = .ok (.if_icmp .ge 12, 3) := by decide +kernel
theorem dX15_input_19 : decode cX15_input 19 = .ok (.iload_n 2, 1) := by decide +kernel
theorem dX15_input_20 : decode cX15_input 20 = .ok (.ifCond .lt 8, 3) := by decide +kernel
theorem dX15_input_23 : decode cX15_input 23 = .ok (.iload_n 2, 1) := by decide +kernel
theorem dX15_input_24 : decode cX15_input 24 = .ok (.iconst 2, 1) := by decide +kernel
theorem dX15_input_25 : decode cX15_input 25 = .ok (.if_icmp .le 7, 3) := by decide +kernel
theorem dX15_input_28 : decode cX15_input 28 = .ok (.ldc2_w 787, 3) := by decide +kernel
theorem dX15_input_31 : decode cX15_input 31 = .ok (.lreturn, 1) := by decide +kernel
theorem dX15_input_32 : decode cX15_input 32 = .ok (.iload_n 2, 1) := by decide +kernel
theorem dX15_input_33 : decode cX15_input 33 = .ok (.ifCond .ne 13, 3) := by decide +kernel
theorem dX15_input_36 : decode cX15_input 36 = .ok (.aload_n 0, 1) := by decide +kernel
theorem dX15_input_37 : decode cX15_input 37 = .ok (.getfield 136, 3) := by decide +kernel
theorem dX15_input_40 : decode cX15_input 40 = .ok (.iload_n 1, 1) := by decide +kernel
theorem dX15_input_41 : decode cX15_input 41 = .ok (.iaload, 1) := by decide +kernel
theorem dX15_input_42 : decode cX15_input 42 = .ok (.i2l, 1) := by decide +kernel
theorem dX15_input_43 : decode cX15_input 43 = .ok (.goto 24, 3) := by decide +kernel
theorem dX15_input_46 : decode cX15_input 46 = .ok (.iload_n 2, 1) := by decide +kernel
theorem dX15_input_47 : decode cX15_input 47 = .ok (.iconst 1, 1) := by decide +kernel
theorem dX15_input_48 : decode cX15_input 48 = .ok (.if_icmp .ne 13, 3) := by decide +kernel
theorem dX15_input_51 : decode cX15_input 51 = .ok (.aload_n 0, 1) := by decide +kernel
theorem dX15_input_52 : decode cX15_input 52 = .ok (.getfield 139, 3) := by decide +kernel
theorem dX15_input_55 : decode cX15_input 55 = .ok (.iload_n 1, 1) := by decide +kernel
theorem dX15_input_56 : decode cX15_input 56 = .ok (.iaload, 1) := by decide +kernel
theorem dX15_input_57 : decode cX15_input 57 = .ok (.i2l, 1) := by decide +kernel
theorem dX15_input_58 : decode cX15_input 58 = .ok (.goto 9, 3) := by decide +kernel
theorem dX15_input_61 : decode cX15_input 61 = .ok (.aload_n 0, 1) := by decide +kernel
theorem dX15_input_62 : decode cX15_input 62 = .ok (.getfield 145, 3) := by decide +kernel
theorem dX15_input_65 : decode cX15_input 65 = .ok (.iload_n 1, 1) := by decide +kernel
theorem dX15_input_66 : decode cX15_input 66 = .ok (.laload, 1) := by decide +kernel
theorem dX15_input_67 : decode cX15_input 67 = .ok (.lreturn, 1) := by decide +kernel
theorem dX15_give_0 : decode cX15_give 0 = .ok (.aload_n 0, 1) := by decide +kernel
theorem dX15_give_1 : decode cX15_give 1 = .ok (.getfield 848, 3) := by decide +kernel
theorem dX15_give_4 : decode cX15_give 4 = .ok (.ifCond .eq 15, 3) := by decide +kernel
theorem dX15_give_7 : decode cX15_give 7 = .ok (.iload_n 1, 1) := by decide +kernel
theorem dX15_give_8 : decode cX15_give 8 = .ok (.ifCond .lt 11, 3) := by decide +kernel
theorem dX15_give_11 : decode cX15_give 11 = .ok (.iload_n 1, 1) := by decide +kernel
theorem dX15_give_12 : decode cX15_give 12 = .ok (.aload_n 0, 1) := by decide +kernel
theorem dX15_give_13 : decode cX15_give 13 = .ok (.getfield 663, 3) := by decide +kernel
theorem dX15_give_16 : decode cX15_give 16 = .ok (.if_icmp .lt 5, 3) := by decide +kernel
theorem dX15_give_19 : decode cX15_give 19 = .ok (.iconst 0, 1) := by decide +kernel
theorem dX15_give_20 : decode cX15_give 20 = .ok (.ireturn, 1) := by decide +kernel
theorem dX15_give_21 : decode cX15_give 21 = .ok (.aload_n 0, 1) := by decide +kernel
theorem dX15_give_22 : decode cX15_give 22 = .ok (.getfield 145, 3) := by decide +kernel
theorem dX15_give_25 : decode cX15_give 25 = .ok (.iload_n 1, 1) := by decide +kernel
theorem dX15_give_26 : decode cX15_give 26 = .ok (.iload_n 2, 1) := by decide +kernel
theorem dX15_give_27 : decode cX15_give 27 = .ok (.i2l, 1) := by decide +kernel
theorem dX15_give_28 : decode cX15_give 28 = .ok (.lconst 1, 1) := by decide +kernel
theorem dX15_give_29 : decode cX15_give 29 = .ok (.aload_n 0, 1) := by decide +kernel
theorem dX15_give_30 : decode cX15_give 30 = .ok (.getfield 139, 3) := by decide +kernel
theorem dX15_give_33 : decode cX15_give 33 = .ok (.iload_n 1, 1) := by decide +kernel
theorem dX15_give_34 : decode cX15_give 34 = .ok (.iaload, 1) := by decide +kernel
theorem dX15_give_35 : decode cX15_give 35 = .ok (.lshl, 1) := by decide +kernel
theorem dX15_give_36 : decode cX15_give 36 = .ok (.lconst 1, 1) := by decide +kernel
theorem dX15_give_37 : decode cX15_give 37 = .ok (.lsub, 1) := by decide +kernel
theorem dX15_give_38 : decode cX15_give 38 = .ok (.land, 1) := by decide +kernel
theorem dX15_give_39 : decode cX15_give 39 = .ok (.lastore, 1) := by decide +kernel
theorem dX15_give_40 : decode cX15_give 40 = .ok (.aload_n 0, 1) := by decide +kernel
theorem dX15_give_41 : decode cX15_give 41 = .ok (.aload_n 0, 1) := by decide +kernel
theorem dX15_give_42 : decode cX15_give 42 = .ok (.getfield 777, 3) := by decide +kernel
theorem dX15_give_45 : decode cX15_give 45 = .ok (.ifCond .eq 14, 3) := by decide +kernel
theorem dX15_give_48 : decode cX15_give 48 = .ok (.aload_n 0, 1) := by decide +kernel
theorem dX15_give_49 : decode cX15_give 49 = .ok (.getfield 762, 3) := by decide +kernel
theorem dX15_give_52 : decode cX15_give 52 = .ok (.ifCond .eq 7, 3) := by decide +kernel
theorem dX15_give_55 : decode cX15_give 55 = .ok (.iconst 1, 1) := by decide +kernel
theorem dX15_give_56 : decode cX15_give 56 = .ok (.goto 4, 3) := by decide +kernel
theorem dX15_give_59 : decode cX15_give 59 = .ok (.iconst 0, 1) := by decide +kernel
theorem dX15_give_60 : decode cX15_give 60 = .ok (.putfield 777, 3) := by decide +kernel
theorem dX15_give_63 : decode cX15_give 63 = .ok (.iconst 1, 1) := by decide +kernel
theorem dX15_give_64 : decode cX15_give 64 = .ok (.ireturn, 1) := by decide +kernel
theorem dX15_seed_0 : decode cX15_seed 0 = .ok (.aload_n 0, 1) := by decide +kernel
theorem dX15_seed_1 : decode cX15_seed 1 = .ok (.iload_n 1, 1) := by decide +kernel
theorem dX15_seed_2 : decode cX15_seed 2 = .ok (.putfield 310, 3) := by decide +kernel
theorem dX15_seed_5 : decode cX15_seed 5 = .ok (.return_, 1) := by decide +kernel
theorem dX15_draws_0 : decode cX15_draws 0 = .ok (.iload_n 3, 1) := by decide +kernel
theorem dX15_draws_1 : decode cX15_draws 1 = .ok (.ifCond .lt 21, 3) := by decide +kernel
theorem dX15_draws_4 : decode cX15_draws 4 = .ok (.iload_n 3, 1) := by decide +kernel
theorem dX15_draws_5 : decode cX15_draws 5 = .ok (.bipush 64, 2) := by decide +kernel
theorem dX15_draws_7 : decode cX15_draws 7 = .ok (.if_icmp .gt 15, 3) := by decide +kernel
theorem dX15_draws_10 : decode cX15_draws 10 = .ok (.aload_n 0, 1) := by decide +kernel
theorem dX15_draws_11 : decode cX15_draws 11 = .ok (.getfield 797, 3) := by decide +kernel
theorem dX15_draws_14 : decode cX15_draws 14 = .ok (.iload_n 3, 1) := by decide +kernel
theorem dX15_draws_15 : decode cX15_draws 15 = .ok (.iadd, 1) := by decide +kernel
theorem dX15_draws_16 : decode cX15_draws 16 = .ok (.sipush 2000, 3) := by decide +kernel
theorem dX15_draws_19 : decode cX15_draws 19 = .ok (.if_icmp .le 5, 3) := by decide +kernel
theorem dX15_draws_22 : decode cX15_draws 22 = .ok (.iconst (-1), 1) := by decide +kernel
theorem dX15_draws_23 : decode cX15_draws 23 = .ok (.ireturn, 1) := by decide +kernel
theorem dX15_draws_24 : decode cX15_draws 24 = .ok (.iconst 0, 1) := by decide +kernel
theorem dX15_draws_25 : decode cX15_draws 25 = .ok (.istore 4, 2) := by decide +kernel
theorem dX15_draws_27 : decode cX15_draws 27 = .ok (.iload 4, 2) := by decide +kernel
theorem dX15_draws_29 : decode cX15_draws 29 = .ok (.iload_n 3, 1) := by decide +kernel
theorem dX15_draws_30 : decode cX15_draws 30 = .ok (.if_icmp .ge 44, 3) := by decide +kernel
theorem dX15_draws_33 : decode cX15_draws 33 = .ok (.aload_n 0, 1) := by decide +kernel
theorem dX15_draws_34 : decode cX15_draws 34 = .ok (.getfield 243, 3) := by decide +kernel
theorem dX15_draws_37 : decode cX15_draws 37 = .ok (.aload_n 0, 1) := by decide +kernel
theorem dX15_draws_38 : decode cX15_draws 38 = .ok (.getfield 800, 3) := by decide +kernel
theorem dX15_draws_41 : decode cX15_draws 41 = .ok (.aload_n 0, 1) := by decide +kernel
theorem dX15_draws_42 : decode cX15_draws 42 = .ok (.getfield 797, 3) := by decide +kernel
theorem dX15_draws_45 : decode cX15_draws 45 = .ok (.iadd, 1) := by decide +kernel
theorem dX15_draws_46 : decode cX15_draws 46 = .ok (.sipush 2000, 3) := by decide +kernel
theorem dX15_draws_49 : decode cX15_draws 49 = .ok (.irem, 1) := by decide +kernel
theorem dX15_draws_50 : decode cX15_draws 50 = .ok (.lload_n 1, 1) := by decide +kernel
theorem dX15_draws_51 : decode cX15_draws 51 = .ok (.iload 4, 2) := by decide +kernel
theorem dX15_draws_53 : decode cX15_draws 53 = .ok (.lushr, 1) := by decide +kernel
theorem dX15_draws_54 : decode cX15_draws 54 = .ok (.lconst 1, 1) := by decide +kernel
theorem dX15_draws_55 : decode cX15_draws 55 = .ok (.land, 1) := by decide +kernel
theorem dX15_draws_56 : decode cX15_draws 56 = .ok (.l2i, 1) := by decide +kernel
theorem dX15_draws_57 : decode cX15_draws 57 = .ok (.iastore, 1) := by decide +kernel
theorem dX15_draws_58 : decode cX15_draws 58 = .ok (.aload_n 0, 1) := by decide +kernel
theorem dX15_draws_59 : decode cX15_draws 59 = .ok (.dup, 1) := by decide +kernel
theorem dX15_draws_60 : decode cX15_draws 60 = .ok (.getfield 797, 3) := by decide +kernel
theorem dX15_draws_63 : decode cX15_draws 63 = .ok (.iconst 1, 1) := by decide +kernel
theorem dX15_draws_64 : decode cX15_draws 64 = .ok (.iadd, 1) := by decide +kernel
theorem dX15_draws_65 : decode cX15_draws 65 = .ok (.putfield 797, 3) := by decide +kernel
theorem dX15_draws_68 : decode cX15_draws 68 = .ok (.iinc 4 1, 3) := by decide +kernel
theorem dX15_draws_71 : decode cX15_draws 71 = .ok (.goto (-44), 3) := by decide +kernel
theorem dX15_draws_74 : decode cX15_draws 74 = .ok (.aload_n 0, 1) := by decide +kernel
theorem dX15_draws_75 : decode cX15_draws 75 = .ok (.getfield 797, 3) := by decide +kernel
theorem dX15_draws_78 : decode cX15_draws 78 = .ok (.ireturn, 1) := by decide +kernel
theorem dX15_deal_0 : decode cX15_deal 0 = .ok (.aload_n 0, 1) := by decide +kernel
theorem dX15_deal_1 : decode cX15_deal 1 = .ok (.getfield 848, 3) := by decide +kernel
theorem dX15_deal_4 : decode cX15_deal 4 = .ok (.ifCond .ne 5, 3) := by decide +kernel
theorem dX15_deal_7 : decode cX15_deal 7 = .ok (.iconst 0, 1) := by decide +kernel
theorem dX15_deal_8 : decode cX15_deal 8 = .ok (.ireturn, 1) := by decide +kernel
theorem dX15_deal_9 : decode cX15_deal 9 = .ok (.aload_n 0, 1) := by decide +kernel
theorem dX15_deal_10 : decode cX15_deal 10 = .ok (.invokevirtual 836, 3) := by decide +kernel
theorem dX15_deal_13 : decode cX15_deal 13 = .ok (.aload_n 0, 1) := by decide +kernel
theorem dX15_deal_14 : decode cX15_deal 14 = .ok (.iconst 1, 1) := by decide +kernel
theorem dX15_deal_15 : decode cX15_deal 15 = .ok (.putfield 762, 3) := by decide +kernel
theorem dX15_deal_18 : decode cX15_deal 18 = .ok (.iconst 0, 1) := by decide +kernel
theorem dX15_deal_19 : decode cX15_deal 19 = .ok (.istore_n 1, 1) := by decide +kernel
theorem dX15_deal_20 : decode cX15_deal 20 = .ok (.iload_n 1, 1) := by decide +kernel
theorem dX15_deal_21 : decode cX15_deal 21 = .ok (.aload_n 0, 1) := by decide +kernel
theorem dX15_deal_22 : decode cX15_deal 22 = .ok (.getfield 663, 3) := by decide +kernel
theorem dX15_deal_25 : decode cX15_deal 25 = .ok (.if_icmp .ge 21, 3) := by decide +kernel
theorem dX15_deal_28 : decode cX15_deal 28 = .ok (.aload_n 0, 1) := by decide +kernel
theorem dX15_deal_29 : decode cX15_deal 29 = .ok (.getfield 148, 3) := by decide +kernel
theorem dX15_deal_32 : decode cX15_deal 32 = .ok (.iload_n 1, 1) := by decide +kernel
theorem dX15_deal_33 : decode cX15_deal 33 = .ok (.aload_n 0, 1) := by decide +kernel
theorem dX15_deal_34 : decode cX15_deal 34 = .ok (.getfield 145, 3) := by decide +kernel
theorem dX15_deal_37 : decode cX15_deal 37 = .ok (.iload_n 1, 1) := by decide +kernel
theorem dX15_deal_38 : decode cX15_deal 38 = .ok (.laload, 1) := by decide +kernel
theorem dX15_deal_39 : decode cX15_deal 39 = .ok (.lastore, 1) := by decide +kernel
theorem dX15_deal_40 : decode cX15_deal 40 = .ok (.iinc 1 1, 3) := by decide +kernel
theorem dX15_deal_43 : decode cX15_deal 43 = .ok (.goto (-23), 3) := by decide +kernel
theorem dX15_deal_46 : decode cX15_deal 46 = .ok (.aload_n 0, 1) := by decide +kernel
theorem dX15_deal_47 : decode cX15_deal 47 = .ok (.invokevirtual 857, 3) := by decide +kernel
theorem dX15_deal_50 : decode cX15_deal 50 = .ok (.iconst 0, 1) := by decide +kernel
theorem dX15_deal_51 : decode cX15_deal 51 = .ok (.istore_n 1, 1) := by decide +kernel
theorem dX15_deal_52 : decode cX15_deal 52 = .ok (.iload_n 1, 1) := by decide +kernel
theorem dX15_deal_53 : decode cX15_deal 53 = .ok (.aload_n 0, 1) := by decide +kernel
theorem dX15_deal_54 : decode cX15_deal 54 = .ok (.getfield 299, 3) := by decide +kernel
theorem dX15_deal_57 : decode cX15_deal 57 = .ok (.if_icmp .ge 44, 3) := by decide +kernel
theorem dX15_deal_60 : decode cX15_deal 60 = .ok (.aload_n 0, 1) := by decide +kernel
theorem dX15_deal_61 : decode cX15_deal 61 = .ok (.getfield 265, 3) := by decide +kernel
theorem dX15_deal_64 : decode cX15_deal 64 = .ok (.iload_n 1, 1) := by decide +kernel
theorem dX15_deal_65 : decode cX15_deal 65 = .ok (.iconst 0, 1) := by decide +kernel
theorem dX15_deal_66 : decode cX15_deal 66 = .ok (.iastore, 1) := by decide +kernel
theorem dX15_deal_67 : decode cX15_deal 67 = .ok (.aload_n 0, 1) := by decide +kernel
theorem dX15_deal_68 : decode cX15_deal 68 = .ok (.getfield 268, 3) := by decide +kernel
theorem dX15_deal_71 : decode cX15_deal 71 = .ok (.iload_n 1, 1) := by decide +kernel
theorem dX15_deal_72 : decode cX15_deal 72 = .ok (.iconst 0, 1) := by decide +kernel
theorem dX15_deal_73 : decode cX15_deal 73 = .ok (.iastore, 1) := by decide +kernel
theorem dX15_deal_74 : decode cX15_deal 74 = .ok (.aload_n 0, 1) := by decide +kernel
theorem dX15_deal_75 : decode cX15_deal 75 = .ok (.getfield 271, 3) := by decide +kernel
theorem dX15_deal_78 : decode cX15_deal 78 = .ok (.iload_n 1, 1) := by decide +kernel
theorem dX15_deal_79 : decode cX15_deal 79 = .ok (.iconst 0, 1) := by decide +kernel
theorem dX15_deal_80 : decode cX15_deal 80 = .ok (.iastore, 1) := by decide +kernel
theorem dX15_deal_81 : decode cX15_deal 81 = .ok (.aload_n 0, 1) := by decide +kernel
theorem dX15_deal_82 : decode cX15_deal 82 = .ok (.getfield 274, 3) := by decide +kernel
theorem dX15_deal_85 : decode cX15_deal 85 = .ok (.iload_n 1, 1) := by decide +kernel
theorem dX15_deal_86 : decode cX15_deal 86 = .ok (.iconst 0, 1) := by decide +kernel
theorem dX15_deal_87 : decode cX15_deal 87 = .ok (.iastore, 1) := by decide +kernel
theorem dX15_deal_88 : decode cX15_deal 88 = .ok (.aload_n 0, 1) := by decide +kernel
theorem dX15_deal_89 : decode cX15_deal 89 = .ok (.getfield 277, 3) := by decide +kernel
theorem dX15_deal_92 : decode cX15_deal 92 = .ok (.iload_n 1, 1) := by decide +kernel
theorem dX15_deal_93 : decode cX15_deal 93 = .ok (.iconst 0, 1) := by decide +kernel
theorem dX15_deal_94 : decode cX15_deal 94 = .ok (.iastore, 1) := by decide +kernel
theorem dX15_deal_95 : decode cX15_deal 95 = .ok (.iinc 1 1, 3) := by decide +kernel
theorem dX15_deal_98 : decode cX15_deal 98 = .ok (.goto (-46), 3) := by decide +kernel
theorem dX15_deal_101 : decode cX15_deal 101 = .ok (.iconst 0, 1) := by decide +kernel
theorem dX15_deal_102 : decode cX15_deal 102 = .ok (.istore_n 1, 1) := by decide +kernel
theorem dX15_deal_103 : decode cX15_deal 103 = .ok (.iload_n 1, 1) := by decide +kernel
theorem dX15_deal_104 : decode cX15_deal 104 = .ok (.aload_n 0, 1) := by decide +kernel
theorem dX15_deal_105 : decode cX15_deal 105 = .ok (.getfield 299, 3) := by decide +kernel
theorem dX15_deal_108 : decode cX15_deal 108 = .ok (.if_icmp .ge 14, 3) := by decide +kernel
theorem dX15_deal_111 : decode cX15_deal 111 = .ok (.aload_n 0, 1) := by decide +kernel
theorem dX15_deal_112 : decode cX15_deal 112 = .ok (.iload_n 1, 1) := by decide +kernel
theorem dX15_deal_113 : decode cX15_deal 113 = .ok (.invokevirtual 833, 3) := by decide +kernel
theorem dX15_deal_116 : decode cX15_deal 116 = .ok (.iinc 1 1, 3) := by decide +kernel
theorem dX15_deal_119 : decode cX15_deal 119 = .ok (.goto (-16), 3) := by decide +kernel
theorem dX15_deal_122 : decode cX15_deal 122 = .ok (.iconst 1, 1) := by decide +kernel
theorem dX15_deal_123 : decode cX15_deal 123 = .ok (.ireturn, 1) := by decide +kernel
theorem dX15_shareAll_0 : decode cX15_shareAll 0 = .ok (.iconst 0, 1) := by decide +kernel
theorem dX15_shareAll_1 : decode cX15_shareAll 1 = .ok (.istore_n 1, 1) := by decide +kernel
theorem dX15_shareAll_2 : decode cX15_shareAll 2 = .ok (.iload_n 1, 1) := by decide +kernel
theorem dX15_shareAll_3 : decode cX15_shareAll 3 = .ok (.aload_n 0, 1) := by decide +kernel
theorem dX15_shareAll_4 : decode cX15_shareAll 4 = .ok (.getfield 663, 3) := by decide +kernel
theorem dX15_shareAll_7 : decode cX15_shareAll 7 = .ok (.if_icmp .ge 116, 3) := by decide +kernel
theorem dX15_shareAll_10 : decode cX15_shareAll 10 = .ok (.iconst 0, 1) := by decide +kernel
theorem dX15_shareAll_11 : decode cX15_shareAll 11 = .ok (.istore_n 2, 1) := by decide +kernel
theorem dX15_shareAll_12 : decode cX15_shareAll 12 = .ok (.iload_n 2, 1) := by decide +kernel
theorem dX15_shareAll_13 : decode cX15_shareAll 13 = .ok (.aload_n 0, 1) := by decide +kernel
theorem dX15_shareAll_14 : decode cX15_shareAll 14 = .ok (.getfield 139, 3) := by decide +kernel
theorem dX15_shareAll_17 : decode cX15_shareAll 17 = .ok (.iload_n 1, 1) := by decide +kernel
theorem dX15_shareAll_18 : decode cX15_shareAll 18 = .ok (.iaload, 1) := by decide +kernel
theorem dX15_shareAll_19 : decode cX15_shareAll 19 = .ok (.if_icmp .ge 98, 3) := by decide +kernel
theorem dX15_shareAll_22 : decode cX15_shareAll 22 = .ok (.aload_n 0, 1) := by decide +kernel
theorem dX15_shareAll_23 : decode cX15_shareAll 23 = .ok (.getfield 136, 3) := by decide +kernel
theorem dX15_shareAll_26 : decode cX15_shareAll 26 = .ok (.iload_n 1, 1) := by decide +kernel
theorem dX15_shareAll_27 : decode cX15_shareAll 27 = .ok (.iaload, 1) := by decide +kernel
theorem dX15_shareAll_28 : decode cX15_shareAll 28 = .ok (.istore_n 3, 1) := by decide +kernel
theorem dX15_shareAll_29 : decode cX15_shareAll 29 = .ok (.iconst 0, 1) := by decide +kernel
theorem dX15_shareAll_30 : decode cX15_shareAll 30 = .ok (.istore 4, 2) := by decide +kernel
theorem dX15_shareAll_32 : decode cX15_shareAll 32 = .ok (.iconst 0, 1) := by decide +kernel
theorem dX15_shareAll_33 : decode cX15_shareAll 33 = .ok (.istore 5, 2) := by decide +kernel
theorem dX15_shareAll_35 : decode cX15_shareAll 35 = .ok (.iload 5, 2) := by decide +kernel
theorem dX15_shareAll_37 : decode cX15_shareAll 37 = .ok (.aload_n 0, 1) := by decide +kernel
theorem dX15_shareAll_38 : decode cX15_shareAll 38 = .ok (.getfield 299, 3) := by decide +kernel
theorem dX15_shareAll_41 : decode cX15_shareAll 41 = .ok (.if_icmp .ge 31, 3) := by decide +kernel
theorem dX15_shareAll_44 : decode cX15_shareAll 44 = .ok (.iload 4, 2) := by decide +kernel
theorem dX15_shareAll_46 : decode cX15_shareAll 46 = .ok (.iload 5, 2) := by decide +kernel
theorem dX15_shareAll_48 : decode cX15_shareAll 48 = .ok (.iload_n 3, 1) := by decide +kernel
theorem dX15_shareAll_49 : decode cX15_shareAll 49 = .ok (.if_icmp .ne 7, 3) := by decide +kernel
theorem dX15_shareAll_52 : decode cX15_shareAll 52 = .ok (.iconst 0, 1) := by decide +kernel
theorem dX15_shareAll_53 : decode cX15_shareAll 53 = .ok (.goto 10, 3) := by decide +kernel
theorem dX15_shareAll_56 : decode cX15_shareAll 56 = .ok (.aload_n 0, 1) := by decide +kernel
theorem dX15_shareAll_57 : decode cX15_shareAll 57 = .ok (.invokevirtual 809, 3) := by decide +kernel
theorem dX15_shareAll_60 : decode cX15_shareAll 60 = .ok (.iload 5, 2) := by decide +kernel
theorem dX15_shareAll_62 : decode cX15_shareAll 62 = .ok (.ishl, 1) := by decide +kernel
theorem dX15_shareAll_63 : decode cX15_shareAll 63 = .ok (.ior, 1) := by decide +kernel
theorem dX15_shareAll_64 : decode cX15_shareAll 64 = .ok (.istore 4, 2) := by decide +kernel
theorem dX15_shareAll_66 : decode cX15_shareAll 66 = .ok (.iinc 5 1, 3) := by decide +kernel
theorem dX15_shareAll_69 : decode cX15_shareAll 69 = .ok (.goto (-34), 3) := by decide +kernel
theorem dX15_shareAll_72 : decode cX15_shareAll 72 = .ok (.aload_n 0, 1) := by decide +kernel
theorem dX15_shareAll_73 : decode cX15_shareAll 73 = .ok (.getfield 148, 3) := by decide +kernel
theorem dX15_shareAll_76 : decode cX15_shareAll 76 = .ok (.iload_n 1, 1) := by decide +kernel
theorem dX15_shareAll_77 : decode cX15_shareAll 77 = .ok (.laload, 1) := by decide +kernel
theorem dX15_shareAll_78 : decode cX15_shareAll 78 = .ok (.iload_n 2, 1) := by decide +kernel
theorem dX15_shareAll_79 : decode cX15_shareAll 79 = .ok (.lshr, 1) := by decide +kernel
theorem dX15_shareAll_80 : decode cX15_shareAll 80 = .ok (.lconst 1, 1) := by decide +kernel
theorem dX15_shareAll_81 : decode cX15_shareAll 81 = .ok (.land, 1) := by decide +kernel
theorem dX15_shareAll_82 : decode cX15_shareAll 82 = .ok (.l2i, 1) := by decide +kernel
theorem dX15_shareAll_83 : decode cX15_shareAll 83 = .ok (.istore 5, 2) := by decide +kernel
theorem dX15_shareAll_85 : decode cX15_shareAll 85 = .ok (.aload_n 0, 1) := by decide +kernel
theorem dX15_shareAll_86 : decode cX15_shareAll 86 = .ok (.getfield 247, 3) := by decide +kernel
theorem dX15_shareAll_89 : decode cX15_shareAll 89 = .ok (.aload_n 0, 1) := by decide +kernel
theorem dX15_shareAll_90 : decode cX15_shareAll 90 = .ok (.getfield 142, 3) := by decide +kernel
theorem dX15_shareAll_93 : decode cX15_shareAll 93 = .ok (.iload_n 1, 1) := by decide +kernel
theorem dX15_shareAll_94 : decode cX15_shareAll 94 = .ok (.iaload, 1) := by decide +kernel
theorem dX15_shareAll_95 : decode cX15_shareAll 95 = .ok (.iload_n 2, 1) := by decide +kernel
theorem dX15_shareAll_96 : decode cX15_shareAll 96 = .ok (.iadd, 1) := by decide +kernel
theorem dX15_shareAll_97 : decode cX15_shareAll 97 = .ok (.iload 4, 2) := by decide +kernel
theorem dX15_shareAll_99 : decode cX15_shareAll 99 = .ok (.iload 4, 2) := by decide +kernel
theorem dX15_shareAll_101 : decode cX15_shareAll 101 = .ok (.invokestatic 812, 3) := by decide +kernel
theorem dX15_shareAll_104 : decode cX15_shareAll 104 = .ok (.iload 5, 2) := by decide +kernel
theorem dX15_shareAll_106 : decode cX15_shareAll 106 = .ok (.ixor, 1) := by decide +kernel
theorem dX15_shareAll_107 : decode cX15_shareAll 107 = .ok (.iload_n 3, 1) := by decide +kernel
theorem dX15_shareAll_108 : decode cX15_shareAll 108 = .ok (.ishl, 1) := by decide +kernel
theorem dX15_shareAll_109 : decode cX15_shareAll 109 = .ok (.ior, 1) := by decide +kernel
theorem dX15_shareAll_110 : decode cX15_shareAll 110 = .ok (.iastore, 1) := by decide +kernel
theorem dX15_shareAll_111 : decode cX15_shareAll 111 = .ok (.iinc 2 1, 3) := by decide +kernel
theorem dX15_shareAll_114 : decode cX15_shareAll 114 = .ok (.goto (-102), 3) := by decide +kernel
theorem dX15_shareAll_117 : decode cX15_shareAll 117 = .ok (.iinc 1 1, 3) := by decide +kernel
theorem dX15_shareAll_120 : decode cX15_shareAll 120 = .ok (.goto (-118), 3) := by decide +kernel
theorem dX15_shareAll_123 : decode cX15_shareAll 123 = .ok (.iconst 0, 1) := by decide +kernel
theorem dX15_shareAll_124 : decode cX15_shareAll 124 = .ok (.istore_n 1, 1) := by decide +kernel
theorem dX15_shareAll_125 : decode cX15_shareAll 125 = .ok (.iload_n 1, 1) := by decide +kernel
theorem dX15_shareAll_126 : decode cX15_shareAll 126 = .ok (.aload_n 0, 1) := by decide +kernel
theorem dX15_shareAll_127 : decode cX15_shareAll 127 = .ok (.getfield 624, 3) := by decide +kernel
theorem dX15_shareAll_130 : decode cX15_shareAll 130 = .ok (.if_icmp .ge 150, 3) := by decide +kernel
theorem dX15_shareAll_133 : decode cX15_shareAll 133 = .ok (.aload_n 0, 1) := by decide +kernel
theorem dX15_shareAll_134 : decode cX15_shareAll 134 = .ok (.getfield 124, 3) := by decide +kernel
theorem dX15_shareAll_137 : decode cX15_shareAll 137 = .ok (.iload_n 1, 1) := by decide +kernel
theorem dX15_shareAll_138 : decode cX15_shareAll 138 = .ok (.iaload, 1) := by decide +kernel
theorem dX15_shareAll_139 : decode cX15_shareAll 139 = .ok (.iconst 1, 1) := by decide +kernel
theorem dX15_shareAll_140 : decode cX15_shareAll 140 = .ok (.if_icmp .ne 134, 3) := by decide +kernel
theorem dX15_shareAll_143 : decode cX15_shareAll 143 = .ok (.iconst 0, 1) := by decide +kernel
theorem dX15_shareAll_144 : decode cX15_shareAll 144 = .ok (.istore_n 2, 1) := by decide +kernel
theorem dX15_shareAll_145 : decode cX15_shareAll 145 = .ok (.iconst 0, 1) := by decide +kernel
theorem dX15_shareAll_146 : decode cX15_shareAll 146 = .ok (.istore_n 3, 1) := by decide +kernel
theorem dX15_shareAll_147 : decode cX15_shareAll 147 = .ok (.iconst 0, 1) := by decide +kernel
theorem dX15_shareAll_148 : decode cX15_shareAll 148 = .ok (.istore 4, 2) := by decide +kernel
theorem dX15_shareAll_150 : decode cX15_shareAll 150 = .ok (.iconst 0, 1) := by decide +kernel
theorem dX15_shareAll_151 : decode cX15_shareAll 151 = .ok (.istore 5, 2) := by decide +kernel
theorem dX15_shareAll_153 : decode cX15_shareAll 153 = .ok (.iload 5, 2) := by decide +kernel
theorem dX15_shareAll_155 : decode cX15_shareAll 155 = .ok (.aload_n 0, 1) := by decide +kernel
theorem dX15_shareAll_156 : decode cX15_shareAll 156 = .ok (.getfield 299, 3) := by decide +kernel
theorem dX15_shareAll_159 : decode cX15_shareAll 159 = .ok (.if_icmp .ge 19, 3) := by decide +kernel
theorem dX15_shareAll_162 : decode cX15_shareAll 162 = .ok (.iload_n 2, 1) := by decide +kernel
theorem dX15_shareAll_163 : decode cX15_shareAll 163 = .ok (.aload_n 0, 1) := by decide +kernel
theorem dX15_shareAll_164 : decode cX15_shareAll 164 = .ok (.invokevirtual 809, 3) := by decide +kernel
theorem dX15_shareAll_167 : decode cX15_shareAll 167 = .ok (.iload 5, 2) := by decide +kernel
theorem dX15_shareAll_169 : decode cX15_shareAll 169 = .ok (.ishl, 1) := by decide +kernel
theorem dX15_shareAll_170 : decode cX15_shareAll 170 = .ok (.ior, 1) := by decide +kernel
theorem dX15_shareAll_171 : decode cX15_shareAll 171 = .ok (.istore_n 2, 1) := by decide +kernel
theorem dX15_shareAll_172 : decode cX15_shareAll 172 = .ok (.iinc 5 1, 3) := by decide +kernel
theorem dX15_shareAll_175 : decode cX15_shareAll 175 = .ok (.goto (-22), 3) := by decide +kernel
theorem dX15_shareAll_178 : decode cX15_shareAll 178 = .ok (.iconst 0, 1) := by decide +kernel
theorem dX15_shareAll_179 : decode cX15_shareAll 179 = .ok (.istore 5, 2) := by decide +kernel
theorem dX15_shareAll_181 : decode cX15_shareAll 181 = .ok (.iload 5, 2) := by decide +kernel
theorem dX15_shareAll_183 : decode cX15_shareAll 183 = .ok (.aload_n 0, 1) := by decide +kernel
theorem dX15_shareAll_184 : decode cX15_shareAll 184 = .ok (.getfield 299, 3) := by decide +kernel
theorem dX15_shareAll_187 : decode cX15_shareAll 187 = .ok (.if_icmp .ge 19, 3) := by decide +kernel
theorem dX15_shareAll_190 : decode cX15_shareAll 190 = .ok (.iload_n 3, 1) := by decide +kernel
theorem dX15_shareAll_191 : decode cX15_shareAll 191 = .ok (.aload_n 0, 1) := by decide +kernel
theorem dX15_shareAll_192 : decode cX15_shareAll 192 = .ok (.invokevirtual 809, 3) := by decide +kernel
theorem dX15_shareAll_195 : decode cX15_shareAll 195 = .ok (.iload 5, 2) := by decide +kernel
theorem dX15_shareAll_197 : decode cX15_shareAll 197 = .ok (.ishl, 1) := by decide +kernel
theorem dX15_shareAll_198 : decode cX15_shareAll 198 = .ok (.ior, 1) := by decide +kernel
theorem dX15_shareAll_199 : decode cX15_shareAll 199 = .ok (.istore_n 3, 1) := by decide +kernel
theorem dX15_shareAll_200 : decode cX15_shareAll 200 = .ok (.iinc 5 1, 3) := by decide +kernel
theorem dX15_shareAll_203 : decode cX15_shareAll 203 = .ok (.goto (-22), 3) := by decide +kernel
theorem dX15_shareAll_206 : decode cX15_shareAll 206 = .ok (.iconst 1, 1) := by decide +kernel
theorem dX15_shareAll_207 : decode cX15_shareAll 207 = .ok (.istore 5, 2) := by decide +kernel
theorem dX15_shareAll_209 : decode cX15_shareAll 209 = .ok (.iload 5, 2) := by decide +kernel
theorem dX15_shareAll_211 : decode cX15_shareAll 211 = .ok (.aload_n 0, 1) := by decide +kernel
theorem dX15_shareAll_212 : decode cX15_shareAll 212 = .ok (.getfield 299, 3) := by decide +kernel
theorem dX15_shareAll_215 : decode cX15_shareAll 215 = .ok (.if_icmp .ge 21, 3) := by decide +kernel
theorem dX15_shareAll_218 : decode cX15_shareAll 218 = .ok (.iload 4, 2) := by decide +kernel
theorem dX15_shareAll_220 : decode cX15_shareAll 220 = .ok (.aload_n 0, 1) := by decide +kernel
theorem dX15_shareAll_221 : decode cX15_shareAll 221 = .ok (.invokevirtual 809, 3) := by decide +kernel
theorem dX15_shareAll_224 : decode cX15_shareAll 224 = .ok (.iload 5, 2) := by decide +kernel
theorem dX15_shareAll_226 : decode cX15_shareAll 226 = .ok (.ishl, 1) := by decide +kernel
theorem dX15_shareAll_227 : decode cX15_shareAll 227 = .ok (.ior, 1) := by decide +kernel
theorem dX15_shareAll_228 : decode cX15_shareAll 228 = .ok (.istore 4, 2) := by decide +kernel
theorem dX15_shareAll_230 : decode cX15_shareAll 230 = .ok (.iinc 5 1, 3) := by decide +kernel
theorem dX15_shareAll_233 : decode cX15_shareAll 233 = .ok (.goto (-24), 3) := by decide +kernel
theorem dX15_shareAll_236 : decode cX15_shareAll 236 = .ok (.aload_n 0, 1) := by decide +kernel
theorem dX15_shareAll_237 : decode cX15_shareAll 237 = .ok (.getfield 250, 3) := by decide +kernel
theorem dX15_shareAll_240 : decode cX15_shareAll 240 = .ok (.iload_n 1, 1) := by decide +kernel
theorem dX15_shareAll_241 : decode cX15_shareAll 241 = .ok (.iload_n 2, 1) := by decide +kernel
theorem dX15_shareAll_242 : decode cX15_shareAll 242 = .ok (.iastore, 1) := by decide +kernel
theorem dX15_shareAll_243 : decode cX15_shareAll 243 = .ok (.aload_n 0, 1) := by decide +kernel
theorem dX15_shareAll_244 : decode cX15_shareAll 244 = .ok (.getfield 253, 3) := by decide +kernel
theorem dX15_shareAll_247 : decode cX15_shareAll 247 = .ok (.iload_n 1, 1) := by decide +kernel
theorem dX15_shareAll_248 : decode cX15_shareAll 248 = .ok (.iload_n 3, 1) := by decide +kernel
theorem dX15_shareAll_249 : decode cX15_shareAll 249 = .ok (.iastore, 1) := by decide +kernel
theorem dX15_shareAll_250 : decode cX15_shareAll 250 = .ok (.aload_n 0, 1) := by decide +kernel
theorem dX15_shareAll_251 : decode cX15_shareAll 251 = .ok (.getfield 256, 3) := by decide +kernel
theorem dX15_shareAll_254 : decode cX15_shareAll 254 = .ok (.iload_n 1, 1) := by decide +kernel
theorem dX15_shareAll_255 : decode cX15_shareAll 255 = .ok (.iload 4, 2) := by decide +kernel
theorem dX15_shareAll_257 : decode cX15_shareAll 257 = .ok (.iload 4, 2) := by decide +kernel
theorem dX15_shareAll_259 : decode cX15_shareAll 259 = .ok (.invokestatic 812, 3) := by decide +kernel
theorem dX15_shareAll_262 : decode cX15_shareAll 262 = .ok (.iload_n 2, 1) := by decide +kernel
theorem dX15_shareAll_263 : decode cX15_shareAll 263 = .ok (.invokestatic 812, 3) := by decide +kernel
theorem dX15_shareAll_266 : decode cX15_shareAll 266 = .ok (.iload_n 3, 1) := by decide +kernel
theorem dX15_shareAll_267 : decode cX15_shareAll 267 = .ok (.invokestatic 812, 3) := by decide +kernel
theorem dX15_shareAll_270 : decode cX15_shareAll 270 = .ok (.iand, 1) := by decide +kernel
theorem dX15_shareAll_271 : decode cX15_shareAll 271 = .ok (.ixor, 1) := by decide +kernel
theorem dX15_shareAll_272 : decode cX15_shareAll 272 = .ok (.ior, 1) := by decide +kernel
theorem dX15_shareAll_273 : decode cX15_shareAll 273 = .ok (.iastore, 1) := by decide +kernel
theorem dX15_shareAll_274 : decode cX15_shareAll 274 = .ok (.iinc 1 1, 3) := by decide +kernel
theorem dX15_shareAll_277 : decode cX15_shareAll 277 = .ok (.goto (-152), 3) := by decide +kernel
theorem dX15_shareAll_280 : decode cX15_shareAll 280 = .ok (.iconst 0, 1) := by decide +kernel
theorem dX15_shareAll_281 : decode cX15_shareAll 281 = .ok (.istore_n 1, 1) := by decide +kernel
theorem dX15_shareAll_282 : decode cX15_shareAll 282 = .ok (.iload_n 1, 1) := by decide +kernel
theorem dX15_shareAll_283 : decode cX15_shareAll 283 = .ok (.aload_n 0, 1) := by decide +kernel
theorem dX15_shareAll_284 : decode cX15_shareAll 284 = .ok (.getfield 624, 3) := by decide +kernel
theorem dX15_shareAll_287 : decode cX15_shareAll 287 = .ok (.if_icmp .ge 140, 3) := by decide +kernel
theorem dX15_shareAll_290 : decode cX15_shareAll 290 = .ok (.aload_n 0, 1) := by decide +kernel
theorem dX15_shareAll_291 : decode cX15_shareAll 291 = .ok (.aload_n 0, 1) := by decide +kernel
theorem dX15_shareAll_292 : decode cX15_shareAll 292 = .ok (.getfield 130, 3) := by decide +kernel
theorem dX15_shareAll_295 : decode cX15_shareAll 295 = .ok (.iload_n 1, 1) := by decide +kernel
theorem dX15_shareAll_296 : decode cX15_shareAll 296 = .ok (.iaload, 1) := by decide +kernel
theorem dX15_shareAll_297 : decode cX15_shareAll 297 = .ok (.invokevirtual 815, 3) := by decide +kernel
theorem dX15_shareAll_300 : decode cX15_shareAll 300 = .ok (.istore_n 2, 1) := by decide +kernel
theorem dX15_shareAll_301 : decode cX15_shareAll 301 = .ok (.aload_n 0, 1) := by decide +kernel
theorem dX15_shareAll_302 : decode cX15_shareAll 302 = .ok (.aload_n 0, 1) := by decide +kernel
theorem dX15_shareAll_303 : decode cX15_shareAll 303 = .ok (.getfield 133, 3) := by decide +kernel
theorem dX15_shareAll_306 : decode cX15_shareAll 306 = .ok (.iload_n 1, 1) := by decide +kernel
theorem dX15_shareAll_307 : decode cX15_shareAll 307 = .ok (.iaload, 1) := by decide +kernel
theorem dX15_shareAll_308 : decode cX15_shareAll 308 = .ok (.invokevirtual 815, 3) := by decide +kernel
theorem dX15_shareAll_311 : decode cX15_shareAll 311 = .ok (.istore_n 3, 1) := by decide +kernel
theorem dX15_shareAll_312 : decode cX15_shareAll 312 = .ok (.aload_n 0, 1) := by decide +kernel
theorem dX15_shareAll_313 : decode cX15_shareAll 313 = .ok (.getfield 124, 3) := by decide +kernel
theorem dX15_shareAll_316 : decode cX15_shareAll 316 = .ok (.iload_n 1, 1) := by decide +kernel
theorem dX15_shareAll_317 : decode cX15_shareAll 317 = .ok (.iaload, 1) := by decide +kernel
theorem dX15_shareAll_318 : decode cX15_shareAll 318 = .ok (.ifCond .ne 20, 3) := by decide +kernel
theorem dX15_shareAll_321 : decode cX15_shareAll 321 = .ok (.aload_n 0, 1) := by decide +kernel
theorem dX15_shareAll_322 : decode cX15_shareAll 322 = .ok (.getfield 247, 3) := by decide +kernel
theorem dX15_shareAll_325 : decode cX15_shareAll 325 = .ok (.aload_n 0, 1) := by decide +kernel
theorem dX15_shareAll_326 : decode cX15_shareAll 326 = .ok (.getfield 618, 3) := by decide +kernel
theorem dX15_shareAll_329 : decode cX15_shareAll 329 = .ok (.iload_n 1, 1) := by decide +kernel
theorem dX15_shareAll_330 : decode cX15_shareAll 330 = .ok (.iadd, 1) := by decide +kernel
theorem dX15_shareAll_331 : decode cX15_shareAll 331 = .ok (.iload_n 2, 1) := by decide +kernel
theorem dX15_shareAll_332 : decode cX15_shareAll 332 = .ok (.iload_n 3, 1) := by decide +kernel
theorem dX15_shareAll_333 : decode cX15_shareAll 333 = .ok (.ixor, 1) := by decide +kernel
theorem dX15_shareAll_334 : decode cX15_shareAll 334 = .ok (.iastore, 1) := by decide +kernel
theorem dX15_shareAll_335 : decode cX15_shareAll 335 = .ok (.goto 86, 3) := by decide +kernel
theorem dX15_shareAll_338 : decode cX15_shareAll 338 = .ok (.iload_n 2, 1) := by decide +kernel
theorem dX15_shareAll_339 : decode cX15_shareAll 339 = .ok (.aload_n 0, 1) := by decide +kernel
theorem dX15_shareAll_340 : decode cX15_shareAll 340 = .ok (.getfield 250, 3) := by decide +kernel
theorem dX15_shareAll_343 : decode cX15_shareAll 343 = .ok (.iload_n 1, 1) := by decide +kernel
theorem dX15_shareAll_344 : decode cX15_shareAll 344 = .ok (.iaload, 1) := by decide +kernel
theorem dX15_shareAll_345 : decode cX15_shareAll 345 = .ok (.ixor, 1) := by decide +kernel
theorem dX15_shareAll_346 : decode cX15_shareAll 346 = .ok (.invokestatic 812, 3) := by decide +kernel
theorem dX15_shareAll_349 : decode cX15_shareAll 349 = .ok (.istore 4, 2) := by decide +kernel
theorem dX15_shareAll_351 : decode cX15_shareAll 351 = .ok (.iload_n 3, 1) := by decide +kernel
theorem dX15_shareAll_352 : decode cX15_shareAll 352 = .ok (.aload_n 0, 1) := by decide +kernel
theorem dX15_shareAll_353 : decode cX15_shareAll 353 = .ok (.getfield 253, 3) := by decide +kernel
theorem dX15_shareAll_356 : decode cX15_shareAll 356 = .ok (.iload_n 1, 1) := by decide +kernel
theorem dX15_shareAll_357 : decode cX15_shareAll 357 = .ok (.iaload, 1) := by decide +kernel
theorem dX15_shareAll_358 : decode cX15_shareAll 358 = .ok (.ixor, 1) := by decide +kernel
theorem dX15_shareAll_359 : decode cX15_shareAll 359 = .ok (.invokestatic 812, 3) := by decide +kernel
theorem dX15_shareAll_362 : decode cX15_shareAll 362 = .ok (.istore 5, 2) := by decide +kernel
theorem dX15_shareAll_364 : decode cX15_shareAll 364 = .ok (.aload_n 0, 1) := by decide +kernel
theorem dX15_shareAll_365 : decode cX15_shareAll 365 = .ok (.getfield 247, 3) := by decide +kernel
theorem dX15_shareAll_368 : decode cX15_shareAll 368 = .ok (.aload_n 0, 1) := by decide +kernel
theorem dX15_shareAll_369 : decode cX15_shareAll 369 = .ok (.getfield 618, 3) := by decide +kernel
theorem dX15_shareAll_372 : decode cX15_shareAll 372 = .ok (.iload_n 1, 1) := by decide +kernel
theorem dX15_shareAll_373 : decode cX15_shareAll 373 = .ok (.iadd, 1) := by decide +kernel
theorem dX15_shareAll_374 : decode cX15_shareAll 374 = .ok (.aload_n 0, 1) := by decide +kernel
theorem dX15_shareAll_375 : decode cX15_shareAll 375 = .ok (.getfield 256, 3) := by decide +kernel
theorem dX15_shareAll_378 : decode cX15_shareAll 378 = .ok (.iload_n 1, 1) := by decide +kernel
theorem dX15_shareAll_379 : decode cX15_shareAll 379 = .ok (.iaload, 1) := by decide +kernel
theorem dX15_shareAll_380 : decode cX15_shareAll 380 = .ok (.iload 4, 2) := by decide +kernel
theorem dX15_shareAll_382 : decode cX15_shareAll 382 = .ok (.iconst 1, 1) := by decide +kernel
theorem dX15_shareAll_383 : decode cX15_shareAll 383 = .ok (.if_icmp .ne 12, 3) := by decide +kernel
theorem dX15_shareAll_386 : decode cX15_shareAll 386 = .ok (.aload_n 0, 1) := by decide +kernel
theorem dX15_shareAll_387 : decode cX15_shareAll 387 = .ok (.getfield 253, 3) := by decide +kernel
theorem dX15_shareAll_390 : decode cX15_shareAll 390 = .ok (.iload_n 1, 1) := by decide +kernel
theorem dX15_shareAll_391 : decode cX15_shareAll 391 = .ok (.iaload, 1) := by decide +kernel
theorem dX15_shareAll_392 : decode cX15_shareAll 392 = .ok (.goto 4, 3) := by decide +kernel
theorem dX15_shareAll_395 : decode cX15_shareAll 395 = .ok (.iconst 0, 1) := by decide +kernel
theorem dX15_shareAll_396 : decode cX15_shareAll 396 = .ok (.ixor, 1) := by decide +kernel
theorem dX15_shareAll_397 : decode cX15_shareAll 397 = .ok (.iload 5, 2) := by decide +kernel
theorem dX15_shareAll_399 : decode cX15_shareAll 399 = .ok (.iconst 1, 1) := by decide +kernel
theorem dX15_shareAll_400 : decode cX15_shareAll 400 = .ok (.if_icmp .ne 12, 3) := by decide +kernel
theorem dX15_shareAll_403 : decode cX15_shareAll 403 = .ok (.aload_n 0, 1) := by decide +kernel
theorem dX15_shareAll_404 : decode cX15_shareAll 404 = .ok (.getfield 250, 3) := by decide +kernel
theorem dX15_shareAll_407 : decode cX15_shareAll 407 = .ok (.iload_n 1, 1) := by decide +kernel
theorem dX15_shareAll_408 : decode cX15_shareAll 408 = .ok (.iaload, 1) := by decide +kernel
theorem dX15_shareAll_409 : decode cX15_shareAll 409 = .ok (.goto 4, 3) := by decide +kernel
theorem dX15_shareAll_412 : decode cX15_shareAll 412 = .ok (.iconst 0, 1) := by decide +kernel
theorem dX15_shareAll_413 : decode cX15_shareAll 413 = .ok (.ixor, 1) := by decide +kernel
theorem dX15_shareAll_414 : decode cX15_shareAll 414 = .ok (.iload 4, 2) := by decide +kernel
theorem dX15_shareAll_416 : decode cX15_shareAll 416 = .ok (.iload 5, 2) := by decide +kernel
theorem dX15_shareAll_418 : decode cX15_shareAll 418 = .ok (.iand, 1) := by decide +kernel
theorem dX15_shareAll_419 : decode cX15_shareAll 419 = .ok (.ixor, 1) := by decide +kernel
theorem dX15_shareAll_420 : decode cX15_shareAll 420 = .ok (.iastore, 1) := by decide +kernel
theorem dX15_shareAll_421 : decode cX15_shareAll 421 = .ok (.iinc 1 1, 3) := by decide +kernel
theorem dX15_shareAll_424 : decode cX15_shareAll 424 = .ok (.goto (-142), 3) := by decide +kernel
theorem dX15_shareAll_427 : decode cX15_shareAll 427 = .ok (.return_, 1) := by decide +kernel
theorem dX15_draw_0 : decode cX15_draw 0 = .ok (.aload_n 0, 1) := by decide +kernel
theorem dX15_draw_1 : decode cX15_draw 1 = .ok (.getfield 797, 3) := by decide +kernel
theorem dX15_draw_4 : decode cX15_draw 4 = .ok (.ifCond .le 39, 3) := by decide +kernel
theorem dX15_draw_7 : decode cX15_draw 7 = .ok (.aload_n 0, 1) := by decide +kernel
theorem dX15_draw_8 : decode cX15_draw 8 = .ok (.getfield 243, 3) := by decide +kernel
theorem dX15_draw_11 : decode cX15_draw 11 = .ok (.aload_n 0, 1) := by decide +kernel
theorem dX15_draw_12 : decode cX15_draw 12 = .ok (.getfield 800, 3) := by decide +kernel
theorem dX15_draw_15 : decode cX15_draw 15 = .ok (.iaload, 1) := by decide +kernel
theorem dX15_draw_16 : decode cX15_draw 16 = .ok (.istore_n 1, 1) := by decide +kernel
theorem dX15_draw_17 : decode cX15_draw 17 = .ok (.aload_n 0, 1) := by decide +kernel
theorem dX15_draw_18 : decode cX15_draw 18 = .ok (.aload_n 0, 1) := by decide +kernel
theorem dX15_draw_19 : decode cX15_draw 19 = .ok (.getfield 800, 3) := by decide +kernel
theorem dX15_draw_22 : decode cX15_draw 22 = .ok (.iconst 1, 1) := by decide +kernel
theorem dX15_draw_23 : decode cX15_draw 23 = .ok (.iadd, 1) := by decide +kernel
theorem dX15_draw_24 : decode cX15_draw 24 = .ok (.sipush 2000, 3) := by decide +kernel
theorem dX15_draw_27 : decode cX15_draw 27 = .ok (.irem, 1) := by decide +kernel
theorem dX15_draw_28 : decode cX15_draw 28 = .ok (.putfield 800, 3) := by decide +kernel
theorem dX15_draw_31 : decode cX15_draw 31 = .ok (.aload_n 0, 1) := by decide +kernel
theorem dX15_draw_32 : decode cX15_draw 32 = .ok (.dup, 1) := by decide +kernel
theorem dX15_draw_33 : decode cX15_draw 33 = .ok (.getfield 797, 3) := by decide +kernel
theorem dX15_draw_36 : decode cX15_draw 36 = .ok (.iconst 1, 1) := by decide +kernel
theorem dX15_draw_37 : decode cX15_draw 37 = .ok (.isub, 1) := by decide +kernel
theorem dX15_draw_38 : decode cX15_draw 38 = .ok (.putfield 797, 3) := by decide +kernel
theorem dX15_draw_41 : decode cX15_draw 41 = .ok (.iload_n 1, 1) := by decide +kernel
theorem dX15_draw_42 : decode cX15_draw 42 = .ok (.ireturn, 1) := by decide +kernel
theorem dX15_draw_43 : decode cX15_draw 43 = .ok (.aload_n 0, 1) := by decide +kernel
theorem dX15_draw_44 : decode cX15_draw 44 = .ok (.aload_n 0, 1) := by decide +kernel
theorem dX15_draw_45 : decode cX15_draw 45 = .ok (.getfield 310, 3) := by decide +kernel
theorem dX15_draw_48 : decode cX15_draw 48 = .ok (.ldc_w 803, 3) := by decide +kernel
theorem dX15_draw_51 : decode cX15_draw 51 = .ok (.imul, 1) := by decide +kernel
theorem dX15_draw_52 : decode cX15_draw 52 = .ok (.sipush 12345, 3) := by decide +kernel
theorem dX15_draw_55 : decode cX15_draw 55 = .ok (.iadd, 1) := by decide +kernel
theorem dX15_draw_56 : decode cX15_draw 56 = .ok (.putfield 310, 3) := by decide +kernel
theorem dX15_draw_59 : decode cX15_draw 59 = .ok (.aload_n 0, 1) := by decide +kernel
theorem dX15_draw_60 : decode cX15_draw 60 = .ok (.getfield 310, 3) := by decide +kernel
theorem dX15_draw_63 : decode cX15_draw 63 = .ok (.bipush 16, 2) := by decide +kernel
theorem dX15_draw_65 : decode cX15_draw 65 = .ok (.iushr, 1) := by decide +kernel
theorem dX15_draw_66 : decode cX15_draw 66 = .ok (.iconst 1, 1) := by decide +kernel
theorem dX15_draw_67 : decode cX15_draw 67 = .ok (.iand, 1) := by decide +kernel
theorem dX15_draw_68 : decode cX15_draw 68 = .ok (.ireturn, 1) := by decide +kernel
theorem dX15_parity_0 : decode cX15_parity 0 = .ok (.iload_n 0, 1) := by decide +kernel
theorem dX15_parity_1 : decode cX15_parity 1 = .ok (.invokestatic 804, 3) := by decide +kernel
theorem dX15_parity_4 : decode cX15_parity 4 = .ok (.iconst 1, 1) := by decide +kernel
theorem dX15_parity_5 : decode cX15_parity 5 = .ok (.iand, 1) := by decide +kernel
theorem dX15_parity_6 : decode cX15_parity 6 = .ok (.ireturn, 1) := by decide +kernel
theorem dX15_shareOf_0 : decode cX15_shareOf 0 = .ok (.iload_n 1, 1) := by decide +kernel
theorem dX15_shareOf_1 : decode cX15_shareOf 1 = .ok (.ifCond .ge 9, 3) := by decide +kernel
theorem dX15_shareOf_4 : decode cX15_shareOf 4 = .ok (.iload_n 1, 1) := by decide +kernel
theorem dX15_shareOf_5 : decode cX15_shareOf 5 = .ok (.iconst 1, 1) := by decide +kernel
theorem dX15_shareOf_6 : decode cX15_shareOf 6 = .ok (.iand, 1) := by decide +kernel
theorem dX15_shareOf_7 : decode cX15_shareOf 7 = .ok (.goto 15, 3) := by decide +kernel
theorem dX15_shareOf_10 : decode cX15_shareOf 10 = .ok (.aload_n 0, 1) := by decide +kernel
theorem dX15_shareOf_11 : decode cX15_shareOf 11 = .ok (.getfield 247, 3) := by decide +kernel
theorem dX15_shareOf_14 : decode cX15_shareOf 14 = .ok (.iload_n 1, 1) := by decide +kernel
theorem dX15_shareOf_15 : decode cX15_shareOf 15 = .ok (.iconst 1, 1) := by decide +kernel
theorem dX15_shareOf_16 : decode cX15_shareOf 16 = .ok (.ishr, 1) := by decide +kernel
theorem dX15_shareOf_17 : decode cX15_shareOf 17 = .ok (.iaload, 1) := by decide +kernel
theorem dX15_shareOf_18 : decode cX15_shareOf 18 = .ok (.iload_n 1, 1) := by decide +kernel
theorem dX15_shareOf_19 : decode cX15_shareOf 19 = .ok (.iconst 1, 1) := by decide +kernel
theorem dX15_shareOf_20 : decode cX15_shareOf 20 = .ok (.iand, 1) := by decide +kernel
theorem dX15_shareOf_21 : decode cX15_shareOf 21 = .ok (.ixor, 1) := by decide +kernel
theorem dX15_shareOf_22 : decode cX15_shareOf 22 = .ok (.ireturn, 1) := by decide +kernel
theorem dX15_sendRound_0 : decode cX15_sendRound 0 = .ok (.iconst 0, 1) := by decide +kernel
theorem dX15_sendRound_1 : decode cX15_sendRound 1 = .ok (.istore_n 2, 1) := by decide +kernel
theorem dX15_sendRound_2 : decode cX15_sendRound 2 = .ok (.iload_n 2, 1) := by decide +kernel
theorem dX15_sendRound_3 : decode cX15_sendRound 3 = .ok (.aload_n 0, 1) := by decide +kernel
theorem dX15_sendRound_4 : decode cX15_sendRound 4 = .ok (.getfield 299, 3) := by decide +kernel
theorem dX15_sendRound_7 : decode cX15_sendRound 7 = .ok (.if_icmp .ge 69, 3) := by decide +kernel
theorem dX15_sendRound_10 : decode cX15_sendRound 10 = .ok (.iload_n 2, 1) := by decide +kernel
theorem dX15_sendRound_11 : decode cX15_sendRound 11 = .ok (.iload_n 1, 1) := by decide +kernel
theorem dX15_sendRound_12 : decode cX15_sendRound 12 = .ok (.if_icmp .eq 58, 3) := by decide +kernel
theorem dX15_sendRound_15 : decode cX15_sendRound 15 = .ok (.aload_n 0, 1) := by decide +kernel
theorem dX15_sendRound_16 : decode cX15_sendRound 16 = .ok (.getfield 287, 3) := by decide +kernel
theorem dX15_sendRound_19 : decode cX15_sendRound 19 = .ok (.aload_n 0, 1) := by decide +kernel
theorem dX15_sendRound_20 : decode cX15_sendRound 20 = .ok (.getfield 818, 3) := by decide +kernel
theorem dX15_sendRound_23 : decode cX15_sendRound 23 = .ok (.iload_n 1, 1) := by decide +kernel
theorem dX15_sendRound_24 : decode cX15_sendRound 24 = .ok (.iastore, 1) := by decide +kernel
theorem dX15_sendRound_25 : decode cX15_sendRound 25 = .ok (.aload_n 0, 1) := by decide +kernel
theorem dX15_sendRound_26 : decode cX15_sendRound 26 = .ok (.getfield 290, 3) := by decide +kernel
theorem dX15_sendRound_29 : decode cX15_sendRound 29 = .ok (.aload_n 0, 1) := by decide +kernel
theorem dX15_sendRound_30 : decode cX15_sendRound 30 = .ok (.getfield 818, 3) := by decide +kernel
theorem dX15_sendRound_33 : decode cX15_sendRound 33 = .ok (.iload_n 2, 1) := by decide +kernel
theorem dX15_sendRound_34 : decode cX15_sendRound 34 = .ok (.iastore, 1) := by decide +kernel
theorem dX15_sendRound_35 : decode cX15_sendRound 35 = .ok (.aload_n 0, 1) := by decide +kernel
theorem dX15_sendRound_36 : decode cX15_sendRound 36 = .ok (.getfield 293, 3) := by decide +kernel
theorem dX15_sendRound_39 : decode cX15_sendRound 39 = .ok (.aload_n 0, 1) := by decide +kernel
theorem dX15_sendRound_40 : decode cX15_sendRound 40 = .ok (.getfield 818, 3) := by decide +kernel
theorem dX15_sendRound_43 : decode cX15_sendRound 43 = .ok (.aload_n 0, 1) := by decide +kernel
theorem dX15_sendRound_44 : decode cX15_sendRound 44 = .ok (.getfield 265, 3) := by decide +kernel
theorem dX15_sendRound_47 : decode cX15_sendRound 47 = .ok (.iload_n 1, 1) := by decide +kernel
theorem dX15_sendRound_48 : decode cX15_sendRound 48 = .ok (.iaload, 1) := by decide +kernel
theorem dX15_sendRound_49 : decode cX15_sendRound 49 = .ok (.iastore, 1) := by decide +kernel
theorem dX15_sendRound_50 : decode cX15_sendRound 50 = .ok (.aload_n 0, 1) := by decide +kernel
theorem dX15_sendRound_51 : decode cX15_sendRound 51 = .ok (.dup, 1) := by decide +kernel
theorem dX15_sendRound_52 : decode cX15_sendRound 52 = .ok (.getfield 818, 3) := by decide +kernel
theorem dX15_sendRound_55 : decode cX15_sendRound 55 = .ok (.iconst 1, 1) := by decide +kernel
theorem dX15_sendRound_56 : decode cX15_sendRound 56 = .ok (.iadd, 1) := by decide +kernel
theorem dX15_sendRound_57 : decode cX15_sendRound 57 = .ok (.putfield 818, 3) := by decide +kernel
theorem dX15_sendRound_60 : decode cX15_sendRound 60 = .ok (.aload_n 0, 1) := by decide +kernel
theorem dX15_sendRound_61 : decode cX15_sendRound 61 = .ok (.dup, 1) := by decide +kernel
theorem dX15_sendRound_62 : decode cX15_sendRound 62 = .ok (.getfield 821, 3) := by decide +kernel
theorem dX15_sendRound_65 : decode cX15_sendRound 65 = .ok (.iconst 1, 1) := by decide +kernel
theorem dX15_sendRound_66 : decode cX15_sendRound 66 = .ok (.iadd, 1) := by decide +kernel
theorem dX15_sendRound_67 : decode cX15_sendRound 67 = .ok (.putfield 821, 3) := by decide +kernel
theorem dX15_sendRound_70 : decode cX15_sendRound 70 = .ok (.iinc 2 1, 3) := by decide +kernel
theorem dX15_sendRound_73 : decode cX15_sendRound 73 = .ok (.goto (-71), 3) := by decide +kernel
theorem dX15_sendRound_76 : decode cX15_sendRound 76 = .ok (.return_, 1) := by decide +kernel
theorem dX15_message_0 : decode cX15_message 0 = .ok (.iload_n 1, 1) := by decide +kernel
theorem dX15_message_1 : decode cX15_message 1 = .ok (.ifCond .lt 15, 3) := by decide +kernel
theorem dX15_message_4 : decode cX15_message 4 = .ok (.iload_n 1, 1) := by decide +kernel
theorem dX15_message_5 : decode cX15_message 5 = .ok (.aload_n 0, 1) := by decide +kernel
theorem dX15_message_6 : decode cX15_message 6 = .ok (.getfield 818, 3) := by decide +kernel
theorem dX15_message_9 : decode cX15_message 9 = .ok (.if_icmp .ge 7, 3) := by decide +kernel
theorem dX15_message_12 : decode cX15_message 12 = .ok (.iload_n 2, 1) := by decide +kernel
theorem dX15_message_13 : decode cX15_message 13 = .ok (.ifCond .ge 5, 3) := by decide +kernel
theorem dX15_message_16 : decode cX15_message 16 = .ok (.iconst (-1), 1) := by decide +kernel
theorem dX15_message_17 : decode cX15_message 17 = .ok (.ireturn, 1) := by decide +kernel
theorem dX15_message_18 : decode cX15_message 18 = .ok (.aload_n 0, 1) := by decide +kernel
theorem dX15_message_19 : decode cX15_message 19 = .ok (.aload_n 0, 1) := by decide +kernel
theorem dX15_message_20 : decode cX15_message 20 = .ok (.getfield 287, 3) := by decide +kernel
theorem dX15_message_23 : decode cX15_message 23 = .ok (.iload_n 1, 1) := by decide +kernel
theorem dX15_message_24 : decode cX15_message 24 = .ok (.iaload, 1) := by decide +kernel
theorem dX15_message_25 : decode cX15_message 25 = .ok (.aload_n 0, 1) := by decide +kernel
theorem dX15_message_26 : decode cX15_message 26 = .ok (.getfield 293, 3) := by decide +kernel
theorem dX15_message_29 : decode cX15_message 29 = .ok (.iload_n 1, 1) := by decide +kernel
theorem dX15_message_30 : decode cX15_message 30 = .ok (.iaload, 1) := by decide +kernel
theorem dX15_message_31 : decode cX15_message 31 = .ok (.invokevirtual 827, 3) := by decide +kernel
theorem dX15_message_34 : decode cX15_message 34 = .ok (.istore_n 3, 1) := by decide +kernel
theorem dX15_message_35 : decode cX15_message 35 = .ok (.iload_n 2, 1) := by decide +kernel
theorem dX15_message_36 : decode cX15_message 36 = .ok (.iconst 4, 1) := by decide +kernel
theorem dX15_message_37 : decode cX15_message 37 = .ok (.if_icmp .ge 46, 3) := by decide +kernel
theorem dX15_message_40 : decode cX15_message 40 = .ok (.iload_n 2, 1) := by decide +kernel
theorem dX15_message_41 : decode cX15_message 41 = .ok (.ifCond .ne 12, 3) := by decide +kernel
theorem dX15_message_44 : decode cX15_message 44 = .ok (.aload_n 0, 1) := by decide +kernel
theorem dX15_message_45 : decode cX15_message 45 = .ok (.getfield 287, 3) := by decide +kernel
theorem dX15_message_48 : decode cX15_message 48 = .ok (.iload_n 1, 1) := by decide +kernel
theorem dX15_message_49 : decode cX15_message 49 = .ok (.iaload, 1) := by decide +kernel
theorem dX15_message_50 : decode cX15_message 50 = .ok (.goto 32, 3) := by decide +kernel
theorem dX15_message_53 : decode cX15_message 53 = .ok (.iload_n 2, 1) := by decide +kernel
theorem dX15_message_54 : decode cX15_message 54 = .ok (.iconst 1, 1) := by decide +kernel
theorem dX15_message_55 : decode cX15_message 55 = .ok (.if_icmp .ne 12, 3) := by decide +kernel
theorem dX15_message_58 : decode cX15_message 58 = .ok (.aload_n 0, 1) := by decide +kernel
theorem dX15_message_59 : decode cX15_message 59 = .ok (.getfield 290, 3) := by decide +kernel
theorem dX15_message_62 : decode cX15_message 62 = .ok (.iload_n 1, 1) := by decide +kernel
theorem dX15_message_63 : decode cX15_message 63 = .ok (.iaload, 1) := by decide +kernel
theorem dX15_message_64 : decode cX15_message 64 = .ok (.goto 18, 3) := by decide +kernel
theorem dX15_message_67 : decode cX15_message 67 = .ok (.iload_n 2, 1) := by decide +kernel
theorem dX15_message_68 : decode cX15_message 68 = .ok (.iconst 2, 1) := by decide +kernel
theorem dX15_message_69 : decode cX15_message 69 = .ok (.if_icmp .ne 12, 3) := by decide +kernel
theorem dX15_message_72 : decode cX15_message 72 = .ok (.aload_n 0, 1) := by decide +kernel
theorem dX15_message_73 : decode cX15_message 73 = .ok (.getfield 293, 3) := by decide +kernel
theorem dX15_message_76 : decode cX15_message 76 = .ok (.iload_n 1, 1) := by decide +kernel
theorem dX15_message_77 : decode cX15_message 77 = .ok (.iaload, 1) := by decide +kernel
theorem dX15_message_78 : decode cX15_message 78 = .ok (.goto 4, 3) := by decide +kernel
theorem dX15_message_81 : decode cX15_message 81 = .ok (.iload_n 3, 1) := by decide +kernel
theorem dX15_message_82 : decode cX15_message 82 = .ok (.ireturn, 1) := by decide +kernel
theorem dX15_message_83 : decode cX15_message 83 = .ok (.iload_n 2, 1) := by decide +kernel
theorem dX15_message_84 : decode cX15_message 84 = .ok (.iconst 4, 1) := by decide +kernel
theorem dX15_message_85 : decode cX15_message 85 = .ok (.isub, 1) := by decide +kernel
theorem dX15_message_86 : decode cX15_message 86 = .ok (.iload_n 3, 1) := by decide +kernel
theorem dX15_message_87 : decode cX15_message 87 = .ok (.if_icmp .ge 31, 3) := by decide +kernel
theorem dX15_message_90 : decode cX15_message 90 = .ok (.aload_n 0, 1) := by decide +kernel
theorem dX15_message_91 : decode cX15_message 91 = .ok (.aload_n 0, 1) := by decide +kernel
theorem dX15_message_92 : decode cX15_message 92 = .ok (.getfield 287, 3) := by decide +kernel
theorem dX15_message_95 : decode cX15_message 95 = .ok (.iload_n 1, 1) := by decide +kernel
theorem dX15_message_96 : decode cX15_message 96 = .ok (.iaload, 1) := by decide +kernel
theorem dX15_message_97 : decode cX15_message 97 = .ok (.aload_n 0, 1) := by decide +kernel
theorem dX15_message_98 : decode cX15_message 98 = .ok (.getfield 290, 3) := by decide +kernel
theorem dX15_message_101 : decode cX15_message 101 = .ok (.iload_n 1, 1) := by decide +kernel
theorem dX15_message_102 : decode cX15_message 102 = .ok (.iaload, 1) := by decide +kernel
theorem dX15_message_103 : decode cX15_message 103 = .ok (.aload_n 0, 1) := by decide +kernel
theorem dX15_message_104 : decode cX15_message 104 = .ok (.getfield 293, 3) := by decide +kernel
theorem dX15_message_107 : decode cX15_message 107 = .ok (.iload_n 1, 1) := by decide +kernel
theorem dX15_message_108 : decode cX15_message 108 = .ok (.iaload, 1) := by decide +kernel
theorem dX15_message_109 : decode cX15_message 109 = .ok (.iload_n 2, 1) := by decide +kernel
theorem dX15_message_110 : decode cX15_message 110 = .ok (.iconst 4, 1) := by decide +kernel
theorem dX15_message_111 : decode cX15_message 111 = .ok (.isub, 1) := by decide +kernel
theorem dX15_message_112 : decode cX15_message 112 = .ok (.invokevirtual 860, 3) := by decide +kernel
theorem dX15_message_115 : decode cX15_message 115 = .ok (.goto 4, 3) := by decide +kernel
theorem dX15_message_118 : decode cX15_message 118 = .ok (.iconst (-1), 1) := by decide +kernel
theorem dX15_message_119 : decode cX15_message 119 = .ok (.ireturn, 1) := by decide +kernel
theorem dX15_lengthOf_0 : decode cX15_lengthOf 0 = .ok (.iload_n 2, 1) := by decide +kernel
theorem dX15_lengthOf_1 : decode cX15_lengthOf 1 = .ok (.ifCond .ne 12, 3) := by decide +kernel
theorem dX15_lengthOf_4 : decode cX15_lengthOf 4 = .ok (.aload_n 0, 1) := by decide +kernel
theorem dX15_lengthOf_5 : decode cX15_lengthOf 5 = .ok (.getfield 296, 3) := by decide +kernel
theorem dX15_lengthOf_8 : decode cX15_lengthOf 8 = .ok (.iload_n 1, 1) := by decide +kernel
theorem dX15_lengthOf_9 : decode cX15_lengthOf 9 = .ok (.iaload, 1) := by decide +kernel
theorem dX15_lengthOf_10 : decode cX15_lengthOf 10 = .ok (.goto 35, 3) := by decide +kernel
theorem dX15_lengthOf_13 : decode cX15_lengthOf 13 = .ok (.iload_n 2, 1) := by decide +kernel
theorem dX15_lengthOf_14 : decode cX15_lengthOf 14 = .ok (.aload_n 0, 1) := by decide +kernel
theorem dX15_lengthOf_15 : decode cX15_lengthOf 15 = .ok (.getfield 633, 3) := by decide +kernel
theorem dX15_lengthOf_18 : decode cX15_lengthOf 18 = .ok (.if_icmp .gt 23, 3) := by decide +kernel
theorem dX15_lengthOf_21 : decode cX15_lengthOf 21 = .ok (.iconst 2, 1) := by decide +kernel
theorem dX15_lengthOf_22 : decode cX15_lengthOf 22 = .ok (.aload_n 0, 1) := by decide +kernel
theorem dX15_lengthOf_23 : decode cX15_lengthOf 23 = .ok (.getfield 259, 3) := by decide +kernel
theorem dX15_lengthOf_26 : decode cX15_lengthOf 26 = .ok (.iload_n 2, 1) := by decide +kernel
theorem dX15_lengthOf_27 : decode cX15_lengthOf 27 = .ok (.iconst 1, 1) := by decide +kernel
theorem dX15_lengthOf_28 : decode cX15_lengthOf 28 = .ok (.iadd, 1) := by decide +kernel
theorem dX15_lengthOf_29 : decode cX15_lengthOf 29 = .ok (.iaload, 1) := by decide +kernel
theorem dX15_lengthOf_30 : decode cX15_lengthOf 30 = .ok (.aload_n 0, 1) := by decide +kernel
theorem dX15_lengthOf_31 : decode cX15_lengthOf 31 = .ok (.getfield 259, 3) := by decide +kernel
theorem dX15_lengthOf_34 : decode cX15_lengthOf 34 = .ok (.iload_n 2, 1) := by decide +kernel
theorem dX15_lengthOf_35 : decode cX15_lengthOf 35 = .ok (.iaload, 1) := by decide +kernel
theorem dX15_lengthOf_36 : decode cX15_lengthOf 36 = .ok (.isub, 1) := by decide +kernel
theorem dX15_lengthOf_37 : decode cX15_lengthOf 37 = .ok (.imul, 1) := by decide +kernel
theorem dX15_lengthOf_38 : decode cX15_lengthOf 38 = .ok (.goto 7, 3) := by decide +kernel
theorem dX15_lengthOf_41 : decode cX15_lengthOf 41 = .ok (.aload_n 0, 1) := by decide +kernel
theorem dX15_lengthOf_42 : decode cX15_lengthOf 42 = .ok (.getfield 824, 3) := by decide +kernel
theorem dX15_lengthOf_45 : decode cX15_lengthOf 45 = .ok (.ireturn, 1) := by decide +kernel
theorem dX15_sentBit_0 : decode cX15_sentBit 0 = .ok (.iload_n 3, 1) := by decide +kernel
theorem dX15_sentBit_1 : decode cX15_sentBit 1 = .ok (.ifCond .ne 86, 3) := by decide +kernel
theorem dX15_sentBit_4 : decode cX15_sentBit 4 = .ok (.iconst 0, 1) := by decide +kernel
theorem dX15_sentBit_5 : decode cX15_sentBit 5 = .ok (.istore 5, 2) := by decide +kernel
theorem dX15_sentBit_7 : decode cX15_sentBit 7 = .ok (.iload 4, 2) := by decide +kernel
theorem dX15_sentBit_9 : decode cX15_sentBit 9 = .ok (.istore 6, 2) := by decide +kernel
theorem dX15_sentBit_11 : decode cX15_sentBit 11 = .ok (.aload_n 0, 1) := by decide +kernel
theorem dX15_sentBit_12 : decode cX15_sentBit 12 = .ok (.getfield 136, 3) := by decide +kernel
theorem dX15_sentBit_15 : decode cX15_sentBit 15 = .ok (.iload 5, 2) := by decide +kernel
theorem dX15_sentBit_17 : decode cX15_sentBit 17 = .ok (.iaload, 1) := by decide +kernel
theorem dX15_sentBit_18 : decode cX15_sentBit 18 = .ok (.iload_n 1, 1) := by decide +kernel
theorem dX15_sentBit_19 : decode cX15_sentBit 19 = .ok (.if_icmp .ne 15, 3) := by decide +kernel
theorem dX15_sentBit_22 : decode cX15_sentBit 22 = .ok (.iload 6, 2) := by decide +kernel
theorem dX15_sentBit_24 : decode cX15_sentBit 24 = .ok (.aload_n 0, 1) := by decide +kernel
theorem dX15_sentBit_25 : decode cX15_sentBit 25 = .ok (.getfield 139, 3) := by decide +kernel
theorem dX15_sentBit_28 : decode cX15_sentBit 28 = .ok (.iload 5, 2) := by decide +kernel
theorem dX15_sentBit_30 : decode cX15_sentBit 30 = .ok (.iaload, 1) := by decide +kernel
theorem dX15_sentBit_31 : decode cX15_sentBit 31 = .ok (.if_icmp .lt 36, 3) := by decide +kernel
theorem dX15_sentBit_34 : decode cX15_sentBit 34 = .ok (.iload 6, 2) := by decide +kernel
theorem dX15_sentBit_36 : decode cX15_sentBit 36 = .ok (.aload_n 0, 1) := by decide +kernel
theorem dX15_sentBit_37 : decode cX15_sentBit 37 = .ok (.getfield 136, 3) := by decide +kernel
theorem dX15_sentBit_40 : decode cX15_sentBit 40 = .ok (.iload 5, 2) := by decide +kernel
theorem dX15_sentBit_42 : decode cX15_sentBit 42 = .ok (.iaload, 1) := by decide +kernel
theorem dX15_sentBit_43 : decode cX15_sentBit 43 = .ok (.iload_n 1, 1) := by decide +kernel
theorem dX15_sentBit_44 : decode cX15_sentBit 44 = .ok (.if_icmp .ne 13, 3) := by decide +kernel
theorem dX15_sentBit_47 : decode cX15_sentBit 47 = .ok (.aload_n 0, 1) := by decide +kernel
theorem dX15_sentBit_48 : decode cX15_sentBit 48 = .ok (.getfield 139, 3) := by decide +kernel
theorem dX15_sentBit_51 : decode cX15_sentBit 51 = .ok (.iload 5, 2) := by decide +kernel
theorem dX15_sentBit_53 : decode cX15_sentBit 53 = .ok (.iaload, 1) := by decide +kernel
theorem dX15_sentBit_54 : decode cX15_sentBit 54 = .ok (.goto 4, 3) := by decide +kernel
theorem dX15_sentBit_57 : decode cX15_sentBit 57 = .ok (.iconst 0, 1) := by decide +kernel
theorem dX15_sentBit_58 : decode cX15_sentBit 58 = .ok (.isub, 1) := by decide +kernel
theorem dX15_sentBit_59 : decode cX15_sentBit 59 = .ok (.istore 6, 2) := by decide +kernel
theorem dX15_sentBit_61 : decode cX15_sentBit 61 = .ok (.iinc 5 1, 3) := by decide +kernel
theorem dX15_sentBit_64 : decode cX15_sentBit 64 = .ok (.goto (-53), 3) := by decide +kernel
theorem dX15_sentBit_67 : decode cX15_sentBit 67 = .ok (.aload_n 0, 1) := by decide +kernel
theorem dX15_sentBit_68 : decode cX15_sentBit 68 = .ok (.getfield 247, 3) := by decide +kernel
theorem dX15_sentBit_71 : decode cX15_sentBit 71 = .ok (.aload_n 0, 1) := by decide +kernel
theorem dX15_sentBit_72 : decode cX15_sentBit 72 = .ok (.getfield 142, 3) := by decide +kernel
theorem dX15_sentBit_75 : decode cX15_sentBit 75 = .ok (.iload 5, 2) := by decide +kernel
theorem dX15_sentBit_77 : decode cX15_sentBit 77 = .ok (.iaload, 1) := by decide +kernel
theorem dX15_sentBit_78 : decode cX15_sentBit 78 = .ok (.iload 6, 2) := by decide +kernel
theorem dX15_sentBit_80 : decode cX15_sentBit 80 = .ok (.iadd, 1) := by decide +kernel
theorem dX15_sentBit_81 : decode cX15_sentBit 81 = .ok (.iaload, 1) := by decide +kernel
theorem dX15_sentBit_82 : decode cX15_sentBit 82 = .ok (.iload_n 2, 1) := by decide +kernel
theorem dX15_sentBit_83 : decode cX15_sentBit 83 = .ok (.ishr, 1) := by decide +kernel
theorem dX15_sentBit_84 : decode cX15_sentBit 84 = .ok (.iconst 1, 1) := by decide +kernel
theorem dX15_sentBit_85 : decode cX15_sentBit 85 = .ok (.iand, 1) := by decide +kernel
theorem dX15_sentBit_86 : decode cX15_sentBit 86 = .ok (.ireturn, 1) := by decide +kernel
theorem dX15_sentBit_87 : decode cX15_sentBit 87 = .ok (.iload_n 3, 1) := by decide +kernel
theorem dX15_sentBit_88 : decode cX15_sentBit 88 = .ok (.aload_n 0, 1) := by decide +kernel
theorem dX15_sentBit_89 : decode cX15_sentBit 89 = .ok (.getfield 633, 3) := by decide +kernel
theorem dX15_sentBit_92 : decode cX15_sentBit 92 = .ok (.if_icmp .gt 78, 3) := by decide +kernel
theorem dX15_sentBit_95 : decode cX15_sentBit 95 = .ok (.aload_n 0, 1) := by decide +kernel
theorem dX15_sentBit_96 : decode cX15_sentBit 96 = .ok (.getfield 262, 3) := by decide +kernel
theorem dX15_sentBit_99 : decode cX15_sentBit 99 = .ok (.aload_n 0, 1) := by decide +kernel
theorem dX15_sentBit_100 : decode cX15_sentBit 100 = .ok (.getfield 259, 3) := by decide +kernel
theorem dX15_sentBit_103 : decode cX15_sentBit 103 = .ok (.iload_n 3, 1) := by decide +kernel
theorem dX15_sentBit_104 : decode cX15_sentBit 104 = .ok (.iaload, 1) := by decide +kernel
theorem dX15_sentBit_105 : decode cX15_sentBit 105 = .ok (.iload 4, 2) := by decide +kernel
theorem dX15_sentBit_107 : decode cX15_sentBit 107 = .ok (.iconst 2, 1) := by decide +kernel
theorem dX15_sentBit_108 : decode cX15_sentBit 108 = .ok (.idiv, 1) := by decide +kernel
theorem dX15_sentBit_109 : decode cX15_sentBit 109 = .ok (.iadd, 1) := by decide +kernel
theorem dX15_sentBit_110 : decode cX15_sentBit 110 = .ok (.iaload, 1) := by decide +kernel
theorem dX15_sentBit_111 : decode cX15_sentBit 111 = .ok (.istore 5, 2) := by decide +kernel
theorem dX15_sentBit_113 : decode cX15_sentBit 113 = .ok (.iload 4, 2) := by decide +kernel
theorem dX15_sentBit_115 : decode cX15_sentBit 115 = .ok (.iconst 2, 1) := by decide +kernel
theorem dX15_sentBit_116 : decode cX15_sentBit 116 = .ok (.irem, 1) := by decide +kernel
theorem dX15_sentBit_117 : decode cX15_sentBit 117 = .ok (.ifCond .ne 25, 3) := by decide +kernel
theorem dX15_sentBit_120 : decode cX15_sentBit 120 = .ok (.aload_n 0, 1) := by decide +kernel
theorem dX15_sentBit_121 : decode cX15_sentBit 121 = .ok (.aload_n 0, 1) := by decide +kernel
theorem dX15_sentBit_122 : decode cX15_sentBit 122 = .ok (.getfield 130, 3) := by decide +kernel
theorem dX15_sentBit_125 : decode cX15_sentBit 125 = .ok (.iload 5, 2) := by decide +kernel
theorem dX15_sentBit_127 : decode cX15_sentBit 127 = .ok (.iaload, 1) := by decide +kernel
theorem dX15_sentBit_128 : decode cX15_sentBit 128 = .ok (.invokevirtual 815, 3) := by decide +kernel
theorem dX15_sentBit_131 : decode cX15_sentBit 131 = .ok (.aload_n 0, 1) := by decide +kernel
theorem dX15_sentBit_132 : decode cX15_sentBit 132 = .ok (.getfield 250, 3) := by decide +kernel
theorem dX15_sentBit_135 : decode cX15_sentBit 135 = .ok (.iload 5, 2) := by decide +kernel
theorem dX15_sentBit_137 : decode cX15_sentBit 137 = .ok (.iaload, 1) := by decide +kernel
theorem dX15_sentBit_138 : decode cX15_sentBit 138 = .ok (.ixor, 1) := by decide +kernel
theorem dX15_sentBit_139 : decode cX15_sentBit 139 = .ok (.goto 22, 3) := by decide +kernel
theorem dX15_sentBit_142 : decode cX15_sentBit 142 = .ok (.aload_n 0, 1) := by decide +kernel
theorem dX15_sentBit_143 : decode cX15_sentBit 143 = .ok (.aload_n 0, 1) := by decide +kernel
theorem dX15_sentBit_144 : decode cX15_sentBit 144 = .ok (.getfield 133, 3) := by decide +kernel
theorem dX15_sentBit_147 : decode cX15_sentBit 147 = .ok (.iload 5, 2) := by decide +kernel
theorem dX15_sentBit_149 : decode cX15_sentBit 149 = .ok (.iaload, 1) := by decide +kernel
theorem dX15_sentBit_150 : decode cX15_sentBit 150 = .ok (.invokevirtual 815, 3) := by decide +kernel
theorem dX15_sentBit_153 : decode cX15_sentBit 153 = .ok (.aload_n 0, 1) := by decide +kernel
theorem dX15_sentBit_154 : decode cX15_sentBit 154 = .ok (.getfield 253, 3) := by decide +kernel
theorem dX15_sentBit_157 : decode cX15_sentBit 157 = .ok (.iload 5, 2) := by decide +kernel
theorem dX15_sentBit_159 : decode cX15_sentBit 159 = .ok (.iaload, 1) := by decide +kernel
theorem dX15_sentBit_160 : decode cX15_sentBit 160 = .ok (.ixor, 1) := by decide +kernel
theorem dX15_sentBit_161 : decode cX15_sentBit 161 = .ok (.istore 6, 2) := by decide +kernel
theorem dX15_sentBit_163 : decode cX15_sentBit 163 = .ok (.iload 6, 2) := by decide +kernel
theorem dX15_sentBit_165 : decode cX15_sentBit 165 = .ok (.iload_n 1, 1) := by decide +kernel
theorem dX15_sentBit_166 : decode cX15_sentBit 166 = .ok (.ishr, 1) := by decide +kernel
theorem dX15_sentBit_167 : decode cX15_sentBit 167 = .ok (.iconst 1, 1) := by decide +kernel
theorem dX15_sentBit_168 : decode cX15_sentBit 168 = .ok (.iand, 1) := by decide +kernel
theorem dX15_sentBit_169 : decode cX15_sentBit 169 = .ok (.ireturn, 1) := by decide +kernel
theorem dX15_sentBit_170 : decode cX15_sentBit 170 = .ok (.iconst 0, 1) := by decide +kernel
theorem dX15_sentBit_171 : decode cX15_sentBit 171 = .ok (.istore 5, 2) := by decide +kernel
theorem dX15_sentBit_173 : decode cX15_sentBit 173 = .ok (.iload 4, 2) := by decide +kernel
theorem dX15_sentBit_175 : decode cX15_sentBit 175 = .ok (.istore 6, 2) := by decide +kernel
theorem dX15_sentBit_177 : decode cX15_sentBit 177 = .ok (.iload 6, 2) := by decide +kernel
theorem dX15_sentBit_179 : decode cX15_sentBit 179 = .ok (.aload_n 0, 1) := by decide +kernel
theorem dX15_sentBit_180 : decode cX15_sentBit 180 = .ok (.getfield 151, 3) := by decide +kernel
theorem dX15_sentBit_183 : decode cX15_sentBit 183 = .ok (.iload 5, 2) := by decide +kernel
theorem dX15_sentBit_185 : decode cX15_sentBit 185 = .ok (.iaload, 1) := by decide +kernel
theorem dX15_sentBit_186 : decode cX15_sentBit 186 = .ok (.if_icmp .lt 21, 3) := by decide +kernel
theorem dX15_sentBit_189 : decode cX15_sentBit 189 = .ok (.iload 6, 2) := by decide +kernel
theorem dX15_sentBit_191 : decode cX15_sentBit 191 = .ok (.aload_n 0, 1) := by decide +kernel
theorem dX15_sentBit_192 : decode cX15_sentBit 192 = .ok (.getfield 151, 3) := by decide +kernel
theorem dX15_sentBit_195 : decode cX15_sentBit 195 = .ok (.iload 5, 2) := by decide +kernel
theorem dX15_sentBit_197 : decode cX15_sentBit 197 = .ok (.iaload, 1) := by decide +kernel
theorem dX15_sentBit_198 : decode cX15_sentBit 198 = .ok (.isub, 1) := by decide +kernel
theorem dX15_sentBit_199 : decode cX15_sentBit 199 = .ok (.istore 6, 2) := by decide +kernel
theorem dX15_sentBit_201 : decode cX15_sentBit 201 = .ok (.iinc 5 1, 3) := by decide +kernel
theorem dX15_sentBit_204 : decode cX15_sentBit 204 = .ok (.goto (-27), 3) := by decide +kernel
theorem dX15_sentBit_207 : decode cX15_sentBit 207 = .ok (.aload_n 0, 1) := by decide +kernel
theorem dX15_sentBit_208 : decode cX15_sentBit 208 = .ok (.aload_n 0, 1) := by decide +kernel
theorem dX15_sentBit_209 : decode cX15_sentBit 209 = .ok (.getfield 154, 3) := by decide +kernel
theorem dX15_sentBit_212 : decode cX15_sentBit 212 = .ok (.bipush 32, 2) := by decide +kernel
theorem dX15_sentBit_214 : decode cX15_sentBit 214 = .ok (.iload 5, 2) := by decide +kernel
theorem dX15_sentBit_216 : decode cX15_sentBit 216 = .ok (.imul, 1) := by decide +kernel
theorem dX15_sentBit_217 : decode cX15_sentBit 217 = .ok (.iload 6, 2) := by decide +kernel
theorem dX15_sentBit_219 : decode cX15_sentBit 219 = .ok (.iadd, 1) := by decide +kernel
theorem dX15_sentBit_220 : decode cX15_sentBit 220 = .ok (.iaload, 1) := by decide +kernel
theorem dX15_sentBit_221 : decode cX15_sentBit 221 = .ok (.invokevirtual 815, 3) := by decide +kernel
theorem dX15_sentBit_224 : decode cX15_sentBit 224 = .ok (.iload_n 1, 1) := by decide +kernel
theorem dX15_sentBit_225 : decode cX15_sentBit 225 = .ok (.ishr, 1) := by decide +kernel
theorem dX15_sentBit_226 : decode cX15_sentBit 226 = .ok (.iconst 1, 1) := by decide +kernel
theorem dX15_sentBit_227 : decode cX15_sentBit 227 = .ok (.iand, 1) := by decide +kernel
theorem dX15_sentBit_228 : decode cX15_sentBit 228 = .ok (.ireturn, 1) := by decide +kernel
theorem dX15_deliver_0 : decode cX15_deliver 0 = .ok (.iload_n 1, 1) := by decide +kernel
theorem dX15_deliver_1 : decode cX15_deliver 1 = .ok (.ifCond .lt 11, 3) := by decide +kernel
theorem dX15_deliver_4 : decode cX15_deliver 4 = .ok (.iload_n 1, 1) := by decide +kernel
theorem dX15_deliver_5 : decode cX15_deliver 5 = .ok (.aload_n 0, 1) := by decide +kernel
theorem dX15_deliver_6 : decode cX15_deliver 6 = .ok (.getfield 818, 3) := by decide +kernel
theorem dX15_deliver_9 : decode cX15_deliver 9 = .ok (.if_icmp .lt 7, 3) := by decide +kernel
theorem dX15_deliver_12 : decode cX15_deliver 12 = .ok (.iconst (-1), 1) := by decide +kernel
theorem dX15_deliver_13 : decode cX15_deliver 13 = .ok (.goto 8, 3) := by decide +kernel
theorem dX15_deliver_16 : decode cX15_deliver 16 = .ok (.aload_n 0, 1) := by decide +kernel
theorem dX15_deliver_17 : decode cX15_deliver 17 = .ok (.iload_n 1, 1) := by decide +kernel
theorem dX15_deliver_18 : decode cX15_deliver 18 = .ok (.invokevirtual 863, 3) := by decide +kernel
theorem dX15_deliver_21 : decode cX15_deliver 21 = .ok (.ireturn, 1) := by decide +kernel
theorem dX15_takeMessage_0 : decode cX15_takeMessage 0 = .ok (.aload_n 0, 1) := by decide +kernel
theorem dX15_takeMessage_1 : decode cX15_takeMessage 1 = .ok (.getfield 287, 3) := by decide +kernel
theorem dX15_takeMessage_4 : decode cX15_takeMessage 4 = .ok (.iload_n 1, 1) := by decide +kernel
theorem dX15_takeMessage_5 : decode cX15_takeMessage 5 = .ok (.iaload, 1) := by decide +kernel
theorem dX15_takeMessage_6 : decode cX15_takeMessage 6 = .ok (.istore_n 2, 1) := by decide +kernel
theorem dX15_takeMessage_7 : decode cX15_takeMessage 7 = .ok (.aload_n 0, 1) := by decide +kernel
theorem dX15_takeMessage_8 : decode cX15_takeMessage 8 = .ok (.getfield 290, 3) := by decide +kernel
theorem dX15_takeMessage_11 : decode cX15_takeMessage 11 = .ok (.iload_n 1, 1) := by decide +kernel
theorem dX15_takeMessage_12 : decode cX15_takeMessage 12 = .ok (.iaload, 1) := by decide +kernel
theorem dX15_takeMessage_13 : decode cX15_takeMessage 13 = .ok (.istore_n 3, 1) := by decide +kernel
theorem dX15_takeMessage_14 : decode cX15_takeMessage 14 = .ok (.aload_n 0, 1) := by decide +kernel
theorem dX15_takeMessage_15 : decode cX15_takeMessage 15 = .ok (.getfield 293, 3) := by decide +kernel
theorem dX15_takeMessage_18 : decode cX15_takeMessage 18 = .ok (.iload_n 1, 1) := by decide +kernel
theorem dX15_takeMessage_19 : decode cX15_takeMessage 19 = .ok (.iaload, 1) := by decide +kernel
theorem dX15_takeMessage_20 : decode cX15_takeMessage 20 = .ok (.istore 4, 2) := by decide +kernel
theorem dX15_takeMessage_22 : decode cX15_takeMessage 22 = .ok (.aload_n 0, 1) := by decide +kernel
theorem dX15_takeMessage_23 : decode cX15_takeMessage 23 = .ok (.dup, 1) := by decide +kernel
theorem dX15_takeMessage_24 : decode cX15_takeMessage 24 = .ok (.getfield 818, 3) := by decide +kernel
theorem dX15_takeMessage_27 : decode cX15_takeMessage 27 = .ok (.iconst 1, 1) := by decide +kernel
theorem dX15_takeMessage_28 : decode cX15_takeMessage 28 = .ok (.isub, 1) := by decide +kernel
theorem dX15_takeMessage_29 : decode cX15_takeMessage 29 = .ok (.putfield 818, 3) := by decide +kernel
theorem dX15_takeMessage_32 : decode cX15_takeMessage 32 = .ok (.iload_n 1, 1) := by decide +kernel
theorem dX15_takeMessage_33 : decode cX15_takeMessage 33 = .ok (.istore 5, 2) := by decide +kernel
theorem dX15_takeMessage_35 : decode cX15_takeMessage 35 = .ok (.iload 5, 2) := by decide +kernel
theorem dX15_takeMessage_37 : decode cX15_takeMessage 37 = .ok (.aload_n 0, 1) := by decide +kernel
theorem dX15_takeMessage_38 : decode cX15_takeMessage 38 = .ok (.getfield 818, 3) := by decide +kernel
theorem dX15_takeMessage_41 : decode cX15_takeMessage 41 = .ok (.if_icmp .ge 57, 3) := by decide +kernel
theorem dX15_takeMessage_44 : decode cX15_takeMessage 44 = .ok (.aload_n 0, 1) := by decide +kernel
theorem dX15_takeMessage_45 : decode cX15_takeMessage 45 = .ok (.getfield 287, 3) := by decide +kernel
theorem dX15_takeMessage_48 : decode cX15_takeMessage 48 = .ok (.iload 5, 2) := by decide +kernel
theorem dX15_takeMessage_50 : decode cX15_takeMessage 50 = .ok (.aload_n 0, 1) := by decide +kernel
theorem dX15_takeMessage_51 : decode cX15_takeMessage 51 = .ok (.getfield 287, 3) := by decide +kernel
theorem dX15_takeMessage_54 : decode cX15_takeMessage 54 = .ok (.iload 5, 2) := by decide +kernel
theorem dX15_takeMessage_56 : decode cX15_takeMessage 56 = .ok (.iconst 1, 1) := by decide +kernel
theorem dX15_takeMessage_57 : decode cX15_takeMessage 57 = .ok (.iadd, 1) := by decide +kernel
theorem dX15_takeMessage_58 : decode cX15_takeMessage 58 = .ok (.iaload, 1) := by decide +kernel
theorem dX15_takeMessage_59 : decode cX15_takeMessage 59 = .ok (.iastore, 1) := by decide +kernel
theorem dX15_takeMessage_60 : decode cX15_takeMessage 60 = .ok (.aload_n 0, 1) := by decide +kernel
theorem dX15_takeMessage_61 : decode cX15_takeMessage 61 = .ok (.getfield 290, 3) := by decide +kernel
theorem dX15_takeMessage_64 : decode cX15_takeMessage 64 = .ok (.iload 5, 2) := by decide +kernel
theorem dX15_takeMessage_66 : decode cX15_takeMessage 66 = .ok (.aload_n 0, 1) := by decide +kernel
theorem dX15_takeMessage_67 : decode cX15_takeMessage 67 = .ok (.getfield 290, 3) := by decide +kernel
theorem dX15_takeMessage_70 : decode cX15_takeMessage 70 = .ok (.iload 5, 2) := by decide +kernel
theorem dX15_takeMessage_72 : decode cX15_takeMessage 72 = .ok (.iconst 1, 1) := by decide +kernel
theorem dX15_takeMessage_73 : decode cX15_takeMessage 73 = .ok (.iadd, 1) := by decide +kernel
theorem dX15_takeMessage_74 : decode cX15_takeMessage 74 = .ok (.iaload, 1) := by decide +kernel
theorem dX15_takeMessage_75 : decode cX15_takeMessage 75 = .ok (.iastore, 1) := by decide +kernel
theorem dX15_takeMessage_76 : decode cX15_takeMessage 76 = .ok (.aload_n 0, 1) := by decide +kernel
theorem dX15_takeMessage_77 : decode cX15_takeMessage 77 = .ok (.getfield 293, 3) := by decide +kernel
theorem dX15_takeMessage_80 : decode cX15_takeMessage 80 = .ok (.iload 5, 2) := by decide +kernel
theorem dX15_takeMessage_82 : decode cX15_takeMessage 82 = .ok (.aload_n 0, 1) := by decide +kernel
theorem dX15_takeMessage_83 : decode cX15_takeMessage 83 = .ok (.getfield 293, 3) := by decide +kernel
theorem dX15_takeMessage_86 : decode cX15_takeMessage 86 = .ok (.iload 5, 2) := by decide +kernel
theorem dX15_takeMessage_88 : decode cX15_takeMessage 88 = .ok (.iconst 1, 1) := by decide +kernel
theorem dX15_takeMessage_89 : decode cX15_takeMessage 89 = .ok (.iadd, 1) := by decide +kernel
theorem dX15_takeMessage_90 : decode cX15_takeMessage 90 = .ok (.iaload, 1) := by decide +kernel
theorem dX15_takeMessage_91 : decode cX15_takeMessage 91 = .ok (.iastore, 1) := by decide +kernel
theorem dX15_takeMessage_92 : decode cX15_takeMessage 92 = .ok (.iinc 5 1, 3) := by decide +kernel
theorem dX15_takeMessage_95 : decode cX15_takeMessage 95 = .ok (.goto (-60), 3) := by decide +kernel
theorem dX15_takeMessage_98 : decode cX15_takeMessage 98 = .ok (.aload_n 0, 1) := by decide +kernel
theorem dX15_takeMessage_99 : decode cX15_takeMessage 99 = .ok (.getfield 281, 3) := by decide +kernel
theorem dX15_takeMessage_102 : decode cX15_takeMessage 102 = .ok (.sipush 30060, 3) := by decide +kernel
theorem dX15_takeMessage_105 : decode cX15_takeMessage 105 = .ok (.iload_n 3, 1) := by decide +kernel
theorem dX15_takeMessage_106 : decode cX15_takeMessage 106 = .ok (.imul, 1) := by decide +kernel
theorem dX15_takeMessage_107 : decode cX15_takeMessage 107 = .ok (.aload_n 0, 1) := by decide +kernel
theorem dX15_takeMessage_108 : decode cX15_takeMessage 108 = .ok (.getfield 274, 3) := by decide +kernel
theorem dX15_takeMessage_111 : decode cX15_takeMessage 111 = .ok (.iload_n 3, 1) := by decide +kernel
theorem dX15_takeMessage_112 : decode cX15_takeMessage 112 = .ok (.iaload, 1) := by decide +kernel
theorem dX15_takeMessage_113 : decode cX15_takeMessage 113 = .ok (.iadd, 1) := by decide +kernel
theorem dX15_takeMessage_114 : decode cX15_takeMessage 114 = .ok (.iload_n 2, 1) := by decide +kernel
theorem dX15_takeMessage_115 : decode cX15_takeMessage 115 = .ok (.iastore, 1) := by decide +kernel
theorem dX15_takeMessage_116 : decode cX15_takeMessage 116 = .ok (.aload_n 0, 1) := by decide +kernel
theorem dX15_takeMessage_117 : decode cX15_takeMessage 117 = .ok (.getfield 284, 3) := by decide +kernel
theorem dX15_takeMessage_120 : decode cX15_takeMessage 120 = .ok (.sipush 30060, 3) := by decide +kernel
theorem dX15_takeMessage_123 : decode cX15_takeMessage 123 = .ok (.iload_n 3, 1) := by decide +kernel
theorem dX15_takeMessage_124 : decode cX15_takeMessage 124 = .ok (.imul, 1) := by decide +kernel
theorem dX15_takeMessage_125 : decode cX15_takeMessage 125 = .ok (.aload_n 0, 1) := by decide +kernel
theorem dX15_takeMessage_126 : decode cX15_takeMessage 126 = .ok (.getfield 274, 3) := by decide +kernel
theorem dX15_takeMessage_129 : decode cX15_takeMessage 129 = .ok (.iload_n 3, 1) := by decide +kernel
theorem dX15_takeMessage_130 : decode cX15_takeMessage 130 = .ok (.iaload, 1) := by decide +kernel
theorem dX15_takeMessage_131 : decode cX15_takeMessage 131 = .ok (.iadd, 1) := by decide +kernel
theorem dX15_takeMessage_132 : decode cX15_takeMessage 132 = .ok (.iload 4, 2) := by decide +kernel
theorem dX15_takeMessage_134 : decode cX15_takeMessage 134 = .ok (.iastore, 1) := by decide +kernel
theorem dX15_takeMessage_135 : decode cX15_takeMessage 135 = .ok (.aload_n 0, 1) := by decide +kernel
theorem dX15_takeMessage_136 : decode cX15_takeMessage 136 = .ok (.getfield 274, 3) := by decide +kernel
theorem dX15_takeMessage_139 : decode cX15_takeMessage 139 = .ok (.iload_n 3, 1) := by decide +kernel
theorem dX15_takeMessage_140 : decode cX15_takeMessage 140 = .ok (.dup2, 1) := by decide +kernel
theorem dX15_takeMessage_141 : decode cX15_takeMessage 141 = .ok (.iaload, 1) := by decide +kernel
theorem dX15_takeMessage_142 : decode cX15_takeMessage 142 = .ok (.iconst 1, 1) := by decide +kernel
theorem dX15_takeMessage_143 : decode cX15_takeMessage 143 = .ok (.iadd, 1) := by decide +kernel
theorem dX15_takeMessage_144 : decode cX15_takeMessage 144 = .ok (.iastore, 1) := by decide +kernel
theorem dX15_takeMessage_145 : decode cX15_takeMessage 145 = .ok (.aload_n 0, 1) := by decide +kernel
theorem dX15_takeMessage_146 : decode cX15_takeMessage 146 = .ok (.getfield 277, 3) := by decide +kernel
theorem dX15_takeMessage_149 : decode cX15_takeMessage 149 = .ok (.iload_n 3, 1) := by decide +kernel
theorem dX15_takeMessage_150 : decode cX15_takeMessage 150 = .ok (.dup2, 1) := by decide +kernel
theorem dX15_takeMessage_151 : decode cX15_takeMessage 151 = .ok (.iaload, 1) := by decide +kernel
theorem dX15_takeMessage_152 : decode cX15_takeMessage 152 = .ok (.aload_n 0, 1) := by decide +kernel
theorem dX15_takeMessage_153 : decode cX15_takeMessage 153 = .ok (.iload_n 2, 1) := by decide +kernel
theorem dX15_takeMessage_154 : decode cX15_takeMessage 154 = .ok (.iload 4, 2) := by decide +kernel
theorem dX15_takeMessage_156 : decode cX15_takeMessage 156 = .ok (.invokevirtual 827, 3) := by decide +kernel
theorem dX15_takeMessage_159 : decode cX15_takeMessage 159 = .ok (.iadd, 1) := by decide +kernel
theorem dX15_takeMessage_160 : decode cX15_takeMessage 160 = .ok (.iastore, 1) := by decide +kernel
theorem dX15_takeMessage_161 : decode cX15_takeMessage 161 = .ok (.aload_n 0, 1) := by decide +kernel
theorem dX15_takeMessage_162 : decode cX15_takeMessage 162 = .ok (.dup, 1) := by decide +kernel
theorem dX15_takeMessage_163 : decode cX15_takeMessage 163 = .ok (.getfield 830, 3) := by decide +kernel
theorem dX15_takeMessage_166 : decode cX15_takeMessage 166 = .ok (.iconst 1, 1) := by decide +kernel
theorem dX15_takeMessage_167 : decode cX15_takeMessage 167 = .ok (.iadd, 1) := by decide +kernel
theorem dX15_takeMessage_168 : decode cX15_takeMessage 168 = .ok (.putfield 830, 3) := by decide +kernel
theorem dX15_takeMessage_171 : decode cX15_takeMessage 171 = .ok (.aload_n 0, 1) := by decide +kernel
theorem dX15_takeMessage_172 : decode cX15_takeMessage 172 = .ok (.getfield 268, 3) := by decide +kernel
theorem dX15_takeMessage_175 : decode cX15_takeMessage 175 = .ok (.iload_n 3, 1) := by decide +kernel
theorem dX15_takeMessage_176 : decode cX15_takeMessage 176 = .ok (.dup2, 1) := by decide +kernel
theorem dX15_takeMessage_177 : decode cX15_takeMessage 177 = .ok (.iaload, 1) := by decide +kernel
theorem dX15_takeMessage_178 : decode cX15_takeMessage 178 = .ok (.iload 4, 2) := by decide +kernel
theorem dX15_takeMessage_180 : decode cX15_takeMessage 180 = .ok (.aload_n 0, 1) := by decide +kernel
theorem dX15_takeMessage_181 : decode cX15_takeMessage 181 = .ok (.getfield 265, 3) := by decide +kernel
theorem dX15_takeMessage_184 : decode cX15_takeMessage 184 = .ok (.iload_n 3, 1) := by decide +kernel
theorem dX15_takeMessage_185 : decode cX15_takeMessage 185 = .ok (.iaload, 1) := by decide +kernel
theorem dX15_takeMessage_186 : decode cX15_takeMessage 186 = .ok (.if_icmp .ne 7, 3) := by decide +kernel
theorem dX15_takeMessage_189 : decode cX15_takeMessage 189 = .ok (.iconst 1, 1) := by decide +kernel
theorem dX15_takeMessage_190 : decode cX15_takeMessage 190 = .ok (.goto 4, 3) := by decide +kernel
theorem dX15_takeMessage_193 : decode cX15_takeMessage 193 = .ok (.iconst 0, 1) := by decide +kernel
theorem dX15_takeMessage_194 : decode cX15_takeMessage 194 = .ok (.iadd, 1) := by decide +kernel
theorem dX15_takeMessage_195 : decode cX15_takeMessage 195 = .ok (.iastore, 1) := by decide +kernel
theorem dX15_takeMessage_196 : decode cX15_takeMessage 196 = .ok (.aload_n 0, 1) := by decide +kernel
theorem dX15_takeMessage_197 : decode cX15_takeMessage 197 = .ok (.getfield 271, 3) := by decide +kernel
theorem dX15_takeMessage_200 : decode cX15_takeMessage 200 = .ok (.iload_n 3, 1) := by decide +kernel
theorem dX15_takeMessage_201 : decode cX15_takeMessage 201 = .ok (.dup2, 1) := by decide +kernel
theorem dX15_takeMessage_202 : decode cX15_takeMessage 202 = .ok (.iaload, 1) := by decide +kernel
theorem dX15_takeMessage_203 : decode cX15_takeMessage 203 = .ok (.iload 4, 2) := by decide +kernel
theorem dX15_takeMessage_205 : decode cX15_takeMessage 205 = .ok (.aload_n 0, 1) := by decide +kernel
theorem dX15_takeMessage_206 : decode cX15_takeMessage 206 = .ok (.getfield 265, 3) := by decide +kernel
theorem dX15_takeMessage_209 : decode cX15_takeMessage 209 = .ok (.iload_n 3, 1) := by decide +kernel
theorem dX15_takeMessage_210 : decode cX15_takeMessage 210 = .ok (.iaload, 1) := by decide +kernel
theorem dX15_takeMessage_211 : decode cX15_takeMessage 211 = .ok (.if_icmp .ne 7, 3) := by decide +kernel
theorem dX15_takeMessage_214 : decode cX15_takeMessage 214 = .ok (.iconst 0, 1) := by decide +kernel
theorem dX15_takeMessage_215 : decode cX15_takeMessage 215 = .ok (.goto 4, 3) := by decide +kernel
theorem dX15_takeMessage_218 : decode cX15_takeMessage 218 = .ok (.iconst 1, 1) := by decide +kernel
theorem dX15_takeMessage_219 : decode cX15_takeMessage 219 = .ok (.iadd, 1) := by decide +kernel
theorem dX15_takeMessage_220 : decode cX15_takeMessage 220 = .ok (.iastore, 1) := by decide +kernel
theorem dX15_takeMessage_221 : decode cX15_takeMessage 221 = .ok (.aload_n 0, 1) := by decide +kernel
theorem dX15_takeMessage_222 : decode cX15_takeMessage 222 = .ok (.iconst 0, 1) := by decide +kernel
theorem dX15_takeMessage_223 : decode cX15_takeMessage 223 = .ok (.putfield 821, 3) := by decide +kernel
theorem dX15_takeMessage_226 : decode cX15_takeMessage 226 = .ok (.aload_n 0, 1) := by decide +kernel
theorem dX15_takeMessage_227 : decode cX15_takeMessage 227 = .ok (.getfield 265, 3) := by decide +kernel
theorem dX15_takeMessage_230 : decode cX15_takeMessage 230 = .ok (.iload_n 3, 1) := by decide +kernel
theorem dX15_takeMessage_231 : decode cX15_takeMessage 231 = .ok (.iaload, 1) := by decide +kernel
theorem dX15_takeMessage_232 : decode cX15_takeMessage 232 = .ok (.aload_n 0, 1) := by decide +kernel
theorem dX15_takeMessage_233 : decode cX15_takeMessage 233 = .ok (.getfield 633, 3) := by decide +kernel
theorem dX15_takeMessage_236 : decode cX15_takeMessage 236 = .ok (.iconst 1, 1) := by decide +kernel
theorem dX15_takeMessage_237 : decode cX15_takeMessage 237 = .ok (.iadd, 1) := by decide +kernel
theorem dX15_takeMessage_238 : decode cX15_takeMessage 238 = .ok (.if_icmp .gt 70, 3) := by decide +kernel
theorem dX15_takeMessage_241 : decode cX15_takeMessage 241 = .ok (.aload_n 0, 1) := by decide +kernel
theorem dX15_takeMessage_242 : decode cX15_takeMessage 242 = .ok (.getfield 268, 3) := by decide +kernel
theorem dX15_takeMessage_245 : decode cX15_takeMessage 245 = .ok (.iload_n 3, 1) := by decide +kernel
theorem dX15_takeMessage_246 : decode cX15_takeMessage 246 = .ok (.iaload, 1) := by decide +kernel
theorem dX15_takeMessage_247 : decode cX15_takeMessage 247 = .ok (.aload_n 0, 1) := by decide +kernel
theorem dX15_takeMessage_248 : decode cX15_takeMessage 248 = .ok (.getfield 299, 3) := by decide +kernel
theorem dX15_takeMessage_251 : decode cX15_takeMessage 251 = .ok (.iconst 1, 1) := by decide +kernel
theorem dX15_takeMessage_252 : decode cX15_takeMessage 252 = .ok (.isub, 1) := by decide +kernel
theorem dX15_takeMessage_253 : decode cX15_takeMessage 253 = .ok (.if_icmp .ne 55, 3) := by decide +kernel
theorem dX15_takeMessage_256 : decode cX15_takeMessage 256 = .ok (.aload_n 0, 1) := by decide +kernel
theorem dX15_takeMessage_257 : decode cX15_takeMessage 257 = .ok (.getfield 265, 3) := by decide +kernel
theorem dX15_takeMessage_260 : decode cX15_takeMessage 260 = .ok (.iload_n 3, 1) := by decide +kernel
theorem dX15_takeMessage_261 : decode cX15_takeMessage 261 = .ok (.dup2, 1) := by decide +kernel
theorem dX15_takeMessage_262 : decode cX15_takeMessage 262 = .ok (.iaload, 1) := by decide +kernel
theorem dX15_takeMessage_263 : decode cX15_takeMessage 263 = .ok (.iconst 1, 1) := by decide +kernel
theorem dX15_takeMessage_264 : decode cX15_takeMessage 264 = .ok (.iadd, 1) := by decide +kernel
theorem dX15_takeMessage_265 : decode cX15_takeMessage 265 = .ok (.iastore, 1) := by decide +kernel
theorem dX15_takeMessage_266 : decode cX15_takeMessage 266 = .ok (.aload_n 0, 1) := by decide +kernel
theorem dX15_takeMessage_267 : decode cX15_takeMessage 267 = .ok (.getfield 268, 3) := by decide +kernel
theorem dX15_takeMessage_270 : decode cX15_takeMessage 270 = .ok (.iload_n 3, 1) := by decide +kernel
theorem dX15_takeMessage_271 : decode cX15_takeMessage 271 = .ok (.aload_n 0, 1) := by decide +kernel
theorem dX15_takeMessage_272 : decode cX15_takeMessage 272 = .ok (.getfield 271, 3) := by decide +kernel
theorem dX15_takeMessage_275 : decode cX15_takeMessage 275 = .ok (.iload_n 3, 1) := by decide +kernel
theorem dX15_takeMessage_276 : decode cX15_takeMessage 276 = .ok (.iaload, 1) := by decide +kernel
theorem dX15_takeMessage_277 : decode cX15_takeMessage 277 = .ok (.iastore, 1) := by decide +kernel
theorem dX15_takeMessage_278 : decode cX15_takeMessage 278 = .ok (.aload_n 0, 1) := by decide +kernel
theorem dX15_takeMessage_279 : decode cX15_takeMessage 279 = .ok (.getfield 271, 3) := by decide +kernel
theorem dX15_takeMessage_282 : decode cX15_takeMessage 282 = .ok (.iload_n 3, 1) := by decide +kernel
theorem dX15_takeMessage_283 : decode cX15_takeMessage 283 = .ok (.iconst 0, 1) := by decide +kernel
theorem dX15_takeMessage_284 : decode cX15_takeMessage 284 = .ok (.iastore, 1) := by decide +kernel
theorem dX15_takeMessage_285 : decode cX15_takeMessage 285 = .ok (.aload_n 0, 1) := by decide +kernel
theorem dX15_takeMessage_286 : decode cX15_takeMessage 286 = .ok (.getfield 265, 3) := by decide +kernel
theorem dX15_takeMessage_289 : decode cX15_takeMessage 289 = .ok (.iload_n 3, 1) := by decide +kernel
theorem dX15_takeMessage_290 : decode cX15_takeMessage 290 = .ok (.iaload, 1) := by decide +kernel
theorem dX15_takeMessage_291 : decode cX15_takeMessage 291 = .ok (.aload_n 0, 1) := by decide +kernel
theorem dX15_takeMessage_292 : decode cX15_takeMessage 292 = .ok (.getfield 633, 3) := by decide +kernel
theorem dX15_takeMessage_295 : decode cX15_takeMessage 295 = .ok (.iconst 1, 1) := by decide +kernel
theorem dX15_takeMessage_296 : decode cX15_takeMessage 296 = .ok (.iadd, 1) := by decide +kernel
theorem dX15_takeMessage_297 : decode cX15_takeMessage 297 = .ok (.if_icmp .gt (-71), 3) := by decide +kernel
theorem dX15_takeMessage_300 : decode cX15_takeMessage 300 = .ok (.aload_n 0, 1) := by decide +kernel
theorem dX15_takeMessage_301 : decode cX15_takeMessage 301 = .ok (.iload_n 3, 1) := by decide +kernel
theorem dX15_takeMessage_302 : decode cX15_takeMessage 302 = .ok (.invokevirtual 833, 3) := by decide +kernel
theorem dX15_takeMessage_305 : decode cX15_takeMessage 305 = .ok (.goto (-79), 3) := by decide +kernel
theorem dX15_takeMessage_308 : decode cX15_takeMessage 308 = .ok (.aload_n 0, 1) := by decide +kernel
theorem dX15_takeMessage_309 : decode cX15_takeMessage 309 = .ok (.getfield 821, 3) := by decide +kernel
theorem dX15_takeMessage_312 : decode cX15_takeMessage 312 = .ok (.ireturn, 1) := by decide +kernel
theorem dX15_rush_0 : decode cX15_rush 0 = .ok (.iload_n 1, 1) := by decide +kernel
theorem dX15_rush_1 : decode cX15_rush 1 = .ok (.ifCond .lt 14, 3) := by decide +kernel
theorem dX15_rush_4 : decode cX15_rush 4 = .ok (.iload_n 2, 1) := by decide +kernel
theorem dX15_rush_5 : decode cX15_rush 5 = .ok (.ifCond .lt 10, 3) := by decide +kernel
theorem dX15_rush_8 : decode cX15_rush 8 = .ok (.iload_n 1, 1) := by decide +kernel
theorem dX15_rush_9 : decode cX15_rush 9 = .ok (.ldc_w 662, 3) := by decide +kernel
theorem dX15_rush_12 : decode cX15_rush 12 = .ok (.if_icmp .le 5, 3) := by decide +kernel
theorem dX15_rush_15 : decode cX15_rush 15 = .ok (.iconst (-1), 1) := by decide +kernel
theorem dX15_rush_16 : decode cX15_rush 16 = .ok (.ireturn, 1) := by decide +kernel
theorem dX15_rush_17 : decode cX15_rush 17 = .ok (.iconst 0, 1) := by decide +kernel
theorem dX15_rush_18 : decode cX15_rush 18 = .ok (.istore_n 3, 1) := by decide +kernel
theorem dX15_rush_19 : decode cX15_rush 19 = .ok (.iload_n 3, 1) := by decide +kernel
theorem dX15_rush_20 : decode cX15_rush 20 = .ok (.iload_n 1, 1) := by decide +kernel
theorem dX15_rush_21 : decode cX15_rush 21 = .ok (.if_icmp .ge 38, 3) := by decide +kernel
theorem dX15_rush_24 : decode cX15_rush 24 = .ok (.aload_n 0, 1) := by decide +kernel
theorem dX15_rush_25 : decode cX15_rush 25 = .ok (.getfield 818, 3) := by decide +kernel
theorem dX15_rush_28 : decode cX15_rush 28 = .ok (.ifCond .le 31, 3) := by decide +kernel
theorem dX15_rush_31 : decode cX15_rush 31 = .ok (.aload_n 0, 1) := by decide +kernel
theorem dX15_rush_32 : decode cX15_rush 32 = .ok (.iload_n 2, 1) := by decide +kernel
theorem dX15_rush_33 : decode cX15_rush 33 = .ok (.aload_n 0, 1) := by decide +kernel
theorem dX15_rush_34 : decode cX15_rush 34 = .ok (.getfield 818, 3) := by decide +kernel
theorem dX15_rush_37 : decode cX15_rush 37 = .ok (.irem, 1) := by decide +kernel
theorem dX15_rush_38 : decode cX15_rush 38 = .ok (.invokevirtual 863, 3) := by decide +kernel
theorem dX15_rush_41 : decode cX15_rush 41 = .ok (.istore 4, 2) := by decide +kernel
theorem dX15_rush_43 : decode cX15_rush 43 = .ok (.iload_n 3, 1) := by decide +kernel
theorem dX15_rush_44 : decode cX15_rush 44 = .ok (.iload 4, 2) := by decide +kernel
theorem dX15_rush_46 : decode cX15_rush 46 = .ok (.ifCond .lt 7, 3) := by decide +kernel
theorem dX15_rush_49 : decode cX15_rush 49 = .ok (.iconst 1, 1) := by decide +kernel
theorem dX15_rush_50 : decode cX15_rush 50 = .ok (.goto 4, 3) := by decide +kernel
theorem dX15_rush_53 : decode cX15_rush 53 = .ok (.iconst 0, 1) := by decide +kernel
theorem dX15_rush_54 : decode cX15_rush 54 = .ok (.iadd, 1) := by decide +kernel
theorem dX15_rush_55 : decode cX15_rush 55 = .ok (.istore_n 3, 1) := by decide +kernel
theorem dX15_rush_56 : decode cX15_rush 56 = .ok (.goto (-37), 3) := by decide +kernel
theorem dX15_rush_59 : decode cX15_rush 59 = .ok (.iload_n 3, 1) := by decide +kernel
theorem dX15_rush_60 : decode cX15_rush 60 = .ok (.ireturn, 1) := by decide +kernel
theorem dX15_party_0 : decode cX15_party 0 = .ok (.aload_n 0, 1) := by decide +kernel
theorem dX15_party_1 : decode cX15_party 1 = .ok (.getfield 762, 3) := by decide +kernel
theorem dX15_party_4 : decode cX15_party 4 = .ok (.ifCond .eq 24, 3) := by decide +kernel
theorem dX15_party_7 : decode cX15_party 7 = .ok (.iload_n 1, 1) := by decide +kernel
theorem dX15_party_8 : decode cX15_party 8 = .ok (.ifCond .lt 20, 3) := by decide +kernel
theorem dX15_party_11 : decode cX15_party 11 = .ok (.iload_n 1, 1) := by decide +kernel
theorem dX15_party_12 : decode cX15_party 12 = .ok (.aload_n 0, 1) := by decide +kernel
theorem dX15_party_13 : decode cX15_party 13 = .ok (.getfield 299, 3) := by decide +kernel
theorem dX15_party_16 : decode cX15_party 16 = .ok (.if_icmp .ge 12, 3) := by decide +kernel
theorem dX15_party_19 : decode cX15_party 19 = .ok (.iload_n 2, 1) := by decide +kernel
theorem dX15_party_20 : decode cX15_party 20 = .ok (.ifCond .lt 8, 3) := by decide +kernel
theorem dX15_party_23 : decode cX15_party 23 = .ok (.iload_n 2, 1) := by decide +kernel
theorem dX15_party_24 : decode cX15_party 24 = .ok (.iconst 2, 1) := by decide +kernel
theorem dX15_party_25 : decode cX15_party 25 = .ok (.if_icmp .le 5, 3) := by decide +kernel
theorem dX15_party_28 : decode cX15_party 28 = .ok (.iconst (-1), 1) := by decide +kernel
theorem dX15_party_29 : decode cX15_party 29 = .ok (.ireturn, 1) := by decide +kernel
theorem dX15_party_30 : decode cX15_party 30 = .ok (.iload_n 2, 1) := by decide +kernel
theorem dX15_party_31 : decode cX15_party 31 = .ok (.ifCond .ne 12, 3) := by decide +kernel
theorem dX15_party_34 : decode cX15_party 34 = .ok (.aload_n 0, 1) := by decide +kernel
theorem dX15_party_35 : decode cX15_party 35 = .ok (.getfield 265, 3) := by decide +kernel
theorem dX15_party_38 : decode cX15_party 38 = .ok (.iload_n 1, 1) := by decide +kernel
theorem dX15_party_39 : decode cX15_party 39 = .ok (.iaload, 1) := by decide +kernel
theorem dX15_party_40 : decode cX15_party 40 = .ok (.goto 22, 3) := by decide +kernel
theorem dX15_party_43 : decode cX15_party 43 = .ok (.iload_n 2, 1) := by decide +kernel
theorem dX15_party_44 : decode cX15_party 44 = .ok (.iconst 1, 1) := by decide +kernel
theorem dX15_party_45 : decode cX15_party 45 = .ok (.if_icmp .ne 12, 3) := by decide +kernel
theorem dX15_party_48 : decode cX15_party 48 = .ok (.aload_n 0, 1) := by decide +kernel
theorem dX15_party_49 : decode cX15_party 49 = .ok (.getfield 274, 3) := by decide +kernel
theorem dX15_party_52 : decode cX15_party 52 = .ok (.iload_n 1, 1) := by decide +kernel
theorem dX15_party_53 : decode cX15_party 53 = .ok (.iaload, 1) := by decide +kernel
theorem dX15_party_54 : decode cX15_party 54 = .ok (.goto 8, 3) := by decide +kernel
theorem dX15_party_57 : decode cX15_party 57 = .ok (.aload_n 0, 1) := by decide +kernel
theorem dX15_party_58 : decode cX15_party 58 = .ok (.iload_n 1, 1) := by decide +kernel
theorem dX15_party_59 : decode cX15_party 59 = .ok (.invokevirtual 866, 3) := by decide +kernel
theorem dX15_party_62 : decode cX15_party 62 = .ok (.ireturn, 1) := by decide +kernel
theorem dX15_viewBits_0 : decode cX15_viewBits 0 = .ok (.aload_n 0, 1) := by decide +kernel
theorem dX15_viewBits_1 : decode cX15_viewBits 1 = .ok (.getfield 296, 3) := by decide +kernel
theorem dX15_viewBits_4 : decode cX15_viewBits 4 = .ok (.iload_n 1, 1) := by decide +kernel
theorem dX15_viewBits_5 : decode cX15_viewBits 5 = .ok (.iaload, 1) := by decide +kernel
theorem dX15_viewBits_6 : decode cX15_viewBits 6 = .ok (.aload_n 0, 1) := by decide +kernel
theorem dX15_viewBits_7 : decode cX15_viewBits 7 = .ok (.getfield 299, 3) := by decide +kernel
theorem dX15_viewBits_10 : decode cX15_viewBits 10 = .ok (.imul, 1) := by decide +kernel
theorem dX15_viewBits_11 : decode cX15_viewBits 11 = .ok (.iconst 3, 1) := by decide +kernel
theorem dX15_viewBits_12 : decode cX15_viewBits 12 = .ok (.aload_n 0, 1) := by decide +kernel
theorem dX15_viewBits_13 : decode cX15_viewBits 13 = .ok (.getfield 630, 3) := by decide +kernel
theorem dX15_viewBits_16 : decode cX15_viewBits 16 = .ok (.imul, 1) := by decide +kernel
theorem dX15_viewBits_17 : decode cX15_viewBits 17 = .ok (.iadd, 1) := by decide +kernel
theorem dX15_viewBits_18 : decode cX15_viewBits 18 = .ok (.aload_n 0, 1) := by decide +kernel
theorem dX15_viewBits_19 : decode cX15_viewBits 19 = .ok (.getfield 277, 3) := by decide +kernel
theorem dX15_viewBits_22 : decode cX15_viewBits 22 = .ok (.iload_n 1, 1) := by decide +kernel
theorem dX15_viewBits_23 : decode cX15_viewBits 23 = .ok (.iaload, 1) := by decide +kernel
theorem dX15_viewBits_24 : decode cX15_viewBits 24 = .ok (.iadd, 1) := by decide +kernel
theorem dX15_viewBits_25 : decode cX15_viewBits 25 = .ok (.ireturn, 1) := by decide +kernel
theorem dX15_dealt_0 : decode cX15_dealt 0 = .ok (.aload_n 0, 1) := by decide +kernel
theorem dX15_dealt_1 : decode cX15_dealt 1 = .ok (.getfield 762, 3) := by decide +kernel
theorem dX15_dealt_4 : decode cX15_dealt 4 = .ok (.ifCond .eq 36, 3) := by decide +kernel
theorem dX15_dealt_7 : decode cX15_dealt 7 = .ok (.iload_n 1, 1) := by decide +kernel
theorem dX15_dealt_8 : decode cX15_dealt 8 = .ok (.ifCond .lt 32, 3) := by decide +kernel
theorem dX15_dealt_11 : decode cX15_dealt 11 = .ok (.iload_n 1, 1) := by decide +kernel
theorem dX15_dealt_12 : decode cX15_dealt 12 = .ok (.aload_n 0, 1) := by decide +kernel
theorem dX15_dealt_13 : decode cX15_dealt 13 = .ok (.getfield 299, 3) := by decide +kernel
theorem dX15_dealt_16 : decode cX15_dealt 16 = .ok (.if_icmp .ge 24, 3) := by decide +kernel
theorem dX15_dealt_19 : decode cX15_dealt 19 = .ok (.iload_n 2, 1) := by decide +kernel
theorem dX15_dealt_20 : decode cX15_dealt 20 = .ok (.ifCond .lt 20, 3) := by decide +kernel
theorem dX15_dealt_23 : decode cX15_dealt 23 = .ok (.iload_n 2, 1) := by decide +kernel
theorem dX15_dealt_24 : decode cX15_dealt 24 = .ok (.aload_n 0, 1) := by decide +kernel
theorem dX15_dealt_25 : decode cX15_dealt 25 = .ok (.getfield 624, 3) := by decide +kernel
theorem dX15_dealt_28 : decode cX15_dealt 28 = .ok (.if_icmp .ge 12, 3) := by decide +kernel
theorem dX15_dealt_31 : decode cX15_dealt 31 = .ok (.iload_n 3, 1) := by decide +kernel
theorem dX15_dealt_32 : decode cX15_dealt 32 = .ok (.ifCond .lt 8, 3) := by decide +kernel
theorem dX15_dealt_35 : decode cX15_dealt 35 = .ok (.iload_n 3, 1) := by decide +kernel
theorem dX15_dealt_36 : decode cX15_dealt 36 = .ok (.iconst 2, 1) := by decide +kernel
theorem dX15_dealt_37 : decode cX15_dealt 37 = .ok (.if_icmp .le 5, 3) := by decide +kernel
theorem dX15_dealt_40 : decode cX15_dealt 40 = .ok (.iconst (-1), 1) := by decide +kernel
theorem dX15_dealt_41 : decode cX15_dealt 41 = .ok (.ireturn, 1) := by decide +kernel
theorem dX15_dealt_42 : decode cX15_dealt 42 = .ok (.aload_n 0, 1) := by decide +kernel
theorem dX15_dealt_43 : decode cX15_dealt 43 = .ok (.getfield 124, 3) := by decide +kernel
theorem dX15_dealt_46 : decode cX15_dealt 46 = .ok (.iload_n 2, 1) := by decide +kernel
theorem dX15_dealt_47 : decode cX15_dealt 47 = .ok (.iaload, 1) := by decide +kernel
theorem dX15_dealt_48 : decode cX15_dealt 48 = .ok (.ifCond .ne 5, 3) := by decide +kernel
theorem dX15_dealt_51 : decode cX15_dealt 51 = .ok (.iconst (-1), 1) := by decide +kernel
theorem dX15_dealt_52 : decode cX15_dealt 52 = .ok (.ireturn, 1) := by decide +kernel
theorem dX15_dealt_53 : decode cX15_dealt 53 = .ok (.iload_n 3, 1) := by decide +kernel
theorem dX15_dealt_54 : decode cX15_dealt 54 = .ok (.ifCond .ne 12, 3) := by decide +kernel
theorem dX15_dealt_57 : decode cX15_dealt 57 = .ok (.aload_n 0, 1) := by decide +kernel
theorem dX15_dealt_58 : decode cX15_dealt 58 = .ok (.getfield 250, 3) := by decide +kernel
theorem dX15_dealt_61 : decode cX15_dealt 61 = .ok (.iload_n 2, 1) := by decide +kernel
theorem dX15_dealt_62 : decode cX15_dealt 62 = .ok (.iaload, 1) := by decide +kernel
theorem dX15_dealt_63 : decode cX15_dealt 63 = .ok (.goto 23, 3) := by decide +kernel
theorem dX15_dealt_66 : decode cX15_dealt 66 = .ok (.iload_n 3, 1) := by decide +kernel
theorem dX15_dealt_67 : decode cX15_dealt 67 = .ok (.iconst 1, 1) := by decide +kernel
theorem dX15_dealt_68 : decode cX15_dealt 68 = .ok (.if_icmp .ne 12, 3) := by decide +kernel
theorem dX15_dealt_71 : decode cX15_dealt 71 = .ok (.aload_n 0, 1) := by decide +kernel
theorem dX15_dealt_72 : decode cX15_dealt 72 = .ok (.getfield 253, 3) := by decide +kernel
theorem dX15_dealt_75 : decode cX15_dealt 75 = .ok (.iload_n 2, 1) := by decide +kernel
theorem dX15_dealt_76 : decode cX15_dealt 76 = .ok (.iaload, 1) := by decide +kernel
theorem dX15_dealt_77 : decode cX15_dealt 77 = .ok (.goto 9, 3) := by decide +kernel
theorem dX15_dealt_80 : decode cX15_dealt 80 = .ok (.aload_n 0, 1) := by decide +kernel
theorem dX15_dealt_81 : decode cX15_dealt 81 = .ok (.getfield 256, 3) := by decide +kernel
theorem dX15_dealt_84 : decode cX15_dealt 84 = .ok (.iload_n 2, 1) := by decide +kernel
theorem dX15_dealt_85 : decode cX15_dealt 85 = .ok (.iaload, 1) := by decide +kernel
theorem dX15_dealt_86 : decode cX15_dealt 86 = .ok (.iload_n 1, 1) := by decide +kernel
theorem dX15_dealt_87 : decode cX15_dealt 87 = .ok (.ishr, 1) := by decide +kernel
theorem dX15_dealt_88 : decode cX15_dealt 88 = .ok (.iconst 1, 1) := by decide +kernel
theorem dX15_dealt_89 : decode cX15_dealt 89 = .ok (.iand, 1) := by decide +kernel
theorem dX15_dealt_90 : decode cX15_dealt 90 = .ok (.ireturn, 1) := by decide +kernel
theorem dX15_share_0 : decode cX15_share 0 = .ok (.aload_n 0, 1) := by decide +kernel
theorem dX15_share_1 : decode cX15_share 1 = .ok (.getfield 762, 3) := by decide +kernel
theorem dX15_share_4 : decode cX15_share 4 = .ok (.ifCond .eq 32, 3) := by decide +kernel
theorem dX15_share_7 : decode cX15_share 7 = .ok (.iload_n 1, 1) := by decide +kernel
theorem dX15_share_8 : decode cX15_share 8 = .ok (.ifCond .lt 28, 3) := by decide +kernel
theorem dX15_share_11 : decode cX15_share 11 = .ok (.iload_n 1, 1) := by decide +kernel
theorem dX15_share_12 : decode cX15_share 12 = .ok (.aload_n 0, 1) := by decide +kernel
theorem dX15_share_13 : decode cX15_share 13 = .ok (.getfield 299, 3) := by decide +kernel
theorem dX15_share_16 : decode cX15_share 16 = .ok (.if_icmp .ge 20, 3) := by decide +kernel
theorem dX15_share_19 : decode cX15_share 19 = .ok (.iload_n 2, 1) := by decide +kernel
theorem dX15_share_20 : decode cX15_share 20 = .ok (.ifCond .lt 16, 3) := by decide +kernel
theorem dX15_share_23 : decode cX15_share 23 = .ok (.iload_n 2, 1) := by decide +kernel
theorem dX15_share_24 : decode cX15_share 24 = .ok (.aload_n 0, 1) := by decide +kernel
theorem dX15_share_25 : decode cX15_share 25 = .ok (.getfield 618, 3) := by decide +kernel
theorem dX15_share_28 : decode cX15_share 28 = .ok (.aload_n 0, 1) := by decide +kernel
theorem dX15_share_29 : decode cX15_share 29 = .ok (.getfield 624, 3) := by decide +kernel
theorem dX15_share_32 : decode cX15_share 32 = .ok (.iadd, 1) := by decide +kernel
theorem dX15_share_33 : decode cX15_share 33 = .ok (.if_icmp .lt 5, 3) := by decide +kernel
theorem dX15_share_36 : decode cX15_share 36 = .ok (.iconst (-1), 1) := by decide +kernel
theorem dX15_share_37 : decode cX15_share 37 = .ok (.ireturn, 1) := by decide +kernel
theorem dX15_share_38 : decode cX15_share 38 = .ok (.iload_n 2, 1) := by decide +kernel
theorem dX15_share_39 : decode cX15_share 39 = .ok (.aload_n 0, 1) := by decide +kernel
theorem dX15_share_40 : decode cX15_share 40 = .ok (.getfield 618, 3) := by decide +kernel
theorem dX15_share_43 : decode cX15_share 43 = .ok (.if_icmp .ge 7, 3) := by decide +kernel
theorem dX15_share_46 : decode cX15_share 46 = .ok (.iconst 0, 1) := by decide +kernel
theorem dX15_share_47 : decode cX15_share 47 = .ok (.goto 14, 3) := by decide +kernel
theorem dX15_share_50 : decode cX15_share 50 = .ok (.aload_n 0, 1) := by decide +kernel
theorem dX15_share_51 : decode cX15_share 51 = .ok (.getfield 127, 3) := by decide +kernel
theorem dX15_share_54 : decode cX15_share 54 = .ok (.iload_n 2, 1) := by decide +kernel
theorem dX15_share_55 : decode cX15_share 55 = .ok (.aload_n 0, 1) := by decide +kernel
theorem dX15_share_56 : decode cX15_share 56 = .ok (.getfield 618, 3) := by decide +kernel
theorem dX15_share_59 : decode cX15_share 59 = .ok (.isub, 1) := by decide +kernel
theorem dX15_share_60 : decode cX15_share 60 = .ok (.iaload, 1) := by decide +kernel
theorem dX15_share_61 : decode cX15_share 61 = .ok (.istore_n 3, 1) := by decide +kernel
theorem dX15_share_62 : decode cX15_share 62 = .ok (.aload_n 0, 1) := by decide +kernel
theorem dX15_share_63 : decode cX15_share 63 = .ok (.getfield 265, 3) := by decide +kernel
theorem dX15_share_66 : decode cX15_share 66 = .ok (.iload_n 1, 1) := by decide +kernel
theorem dX15_share_67 : decode cX15_share 67 = .ok (.iaload, 1) := by decide +kernel
theorem dX15_share_68 : decode cX15_share 68 = .ok (.iload_n 3, 1) := by decide +kernel
theorem dX15_share_69 : decode cX15_share 69 = .ok (.if_icmp .le 16, 3) := by decide +kernel
theorem dX15_share_72 : decode cX15_share 72 = .ok (.aload_n 0, 1) := by decide +kernel
theorem dX15_share_73 : decode cX15_share 73 = .ok (.getfield 247, 3) := by decide +kernel
theorem dX15_share_76 : decode cX15_share 76 = .ok (.iload_n 2, 1) := by decide +kernel
theorem dX15_share_77 : decode cX15_share 77 = .ok (.iaload, 1) := by decide +kernel
theorem dX15_share_78 : decode cX15_share 78 = .ok (.iload_n 1, 1) := by decide +kernel
theorem dX15_share_79 : decode cX15_share 79 = .ok (.ishr, 1) := by decide +kernel
theorem dX15_share_80 : decode cX15_share 80 = .ok (.iconst 1, 1) := by decide +kernel
theorem dX15_share_81 : decode cX15_share 81 = .ok (.iand, 1) := by decide +kernel
theorem dX15_share_82 : decode cX15_share 82 = .ok (.goto 4, 3) := by decide +kernel
theorem dX15_share_85 : decode cX15_share 85 = .ok (.iconst (-1), 1) := by decide +kernel
theorem dX15_share_86 : decode cX15_share 86 = .ok (.ireturn, 1) := by decide +kernel
theorem dX15_view_0 : decode cX15_view 0 = .ok (.aload_n 0, 1) := by decide +kernel
theorem dX15_view_1 : decode cX15_view 1 = .ok (.getfield 762, 3) := by decide +kernel
theorem dX15_view_4 : decode cX15_view 4 = .ok (.ifCond .eq 44, 3) := by decide +kernel
theorem dX15_view_7 : decode cX15_view 7 = .ok (.iload_n 1, 1) := by decide +kernel
theorem dX15_view_8 : decode cX15_view 8 = .ok (.ifCond .lt 40, 3) := by decide +kernel
theorem dX15_view_11 : decode cX15_view 11 = .ok (.iload_n 1, 1) := by decide +kernel
theorem dX15_view_12 : decode cX15_view 12 = .ok (.aload_n 0, 1) := by decide +kernel
theorem dX15_view_13 : decode cX15_view 13 = .ok (.getfield 299, 3) := by decide +kernel
theorem dX15_view_16 : decode cX15_view 16 = .ok (.if_icmp .ge 32, 3) := by decide +kernel
theorem dX15_view_19 : decode cX15_view 19 = .ok (.iload_n 2, 1) := by decide +kernel
theorem dX15_view_20 : decode cX15_view 20 = .ok (.ifCond .lt 28, 3) := by decide +kernel
theorem dX15_view_23 : decode cX15_view 23 = .ok (.iload_n 2, 1) := by decide +kernel
theorem dX15_view_24 : decode cX15_view 24 = .ok (.aload_n 0, 1) := by decide +kernel
theorem dX15_view_25 : decode cX15_view 25 = .ok (.iload_n 1, 1) := by decide +kernel
theorem dX15_view_26 : decode cX15_view 26 = .ok (.ifCond .lt 15, 3) := by decide +kernel
theorem dX15_view_29 : decode cX15_view 29 = .ok (.iload_n 1, 1) := by decide +kernel
theorem dX15_view_30 : decode cX15_view 30 = .ok (.aload_n 0, 1) := by decide +kernel
theorem dX15_view_31 : decode cX15_view 31 = .ok (.getfield 299, 3) := by decide +kernel
theorem dX15_view_34 : decode cX15_view 34 = .ok (.if_icmp .ge 7, 3) := by decide +kernel
theorem dX15_view_37 : decode cX15_view 37 = .ok (.iload_n 1, 1) := by decide +kernel
theorem dX15_view_38 : decode cX15_view 38 = .ok (.goto 4, 3) := by decide +kernel
theorem dX15_view_41 : decode cX15_view 41 = .ok (.iconst 0, 1) := by decide +kernel
theorem dX15_view_42 : decode cX15_view 42 = .ok (.invokevirtual 866, 3) := by decide +kernel
theorem dX15_view_45 : decode cX15_view 45 = .ok (.if_icmp .lt 5, 3) := by decide +kernel
theorem dX15_view_48 : decode cX15_view 48 = .ok (.iconst (-1), 1) := by decide +kernel
theorem dX15_view_49 : decode cX15_view 49 = .ok (.ireturn, 1) := by decide +kernel
theorem dX15_view_50 : decode cX15_view 50 = .ok (.iload_n 2, 1) := by decide +kernel
theorem dX15_view_51 : decode cX15_view 51 = .ok (.istore_n 3, 1) := by decide +kernel
theorem dX15_view_52 : decode cX15_view 52 = .ok (.aload_n 0, 1) := by decide +kernel
theorem dX15_view_53 : decode cX15_view 53 = .ok (.getfield 296, 3) := by decide +kernel
theorem dX15_view_56 : decode cX15_view 56 = .ok (.iload_n 1, 1) := by decide +kernel
theorem dX15_view_57 : decode cX15_view 57 = .ok (.iaload, 1) := by decide +kernel
theorem dX15_view_58 : decode cX15_view 58 = .ok (.istore 4, 2) := by decide +kernel
theorem dX15_view_60 : decode cX15_view 60 = .ok (.iload_n 3, 1) := by decide +kernel
theorem dX15_view_61 : decode cX15_view 61 = .ok (.iload 4, 2) := by decide +kernel
theorem dX15_view_63 : decode cX15_view 63 = .ok (.aload_n 0, 1) := by decide +kernel
theorem dX15_view_64 : decode cX15_view 64 = .ok (.getfield 299, 3) := by decide +kernel
theorem dX15_view_67 : decode cX15_view 67 = .ok (.imul, 1) := by decide +kernel
theorem dX15_view_68 : decode cX15_view 68 = .ok (.if_icmp .ge 166, 3) := by decide +kernel
theorem dX15_view_71 : decode cX15_view 71 = .ok (.iload_n 3, 1) := by decide +kernel
theorem dX15_view_72 : decode cX15_view 72 = .ok (.iload 4, 2) := by decide +kernel
theorem dX15_view_74 : decode cX15_view 74 = .ok (.if_icmp .lt 7, 3) := by decide +kernel
theorem dX15_view_77 : decode cX15_view 77 = .ok (.iconst 1, 1) := by decide +kernel
theorem dX15_view_78 : decode cX15_view 78 = .ok (.goto 4, 3) := by decide +kernel
theorem dX15_view_81 : decode cX15_view 81 = .ok (.iconst 0, 1) := by decide +kernel
theorem dX15_view_82 : decode cX15_view 82 = .ok (.istore 5, 2) := by decide +kernel
theorem dX15_view_84 : decode cX15_view 84 = .ok (.iload 5, 2) := by decide +kernel
theorem dX15_view_86 : decode cX15_view 86 = .ok (.ifCond .eq 17, 3) := by decide +kernel
theorem dX15_view_89 : decode cX15_view 89 = .ok (.iload_n 3, 1) := by decide +kernel
theorem dX15_view_90 : decode cX15_view 90 = .ok (.iload 4, 2) := by decide +kernel
theorem dX15_view_92 : decode cX15_view 92 = .ok (.isub, 1) := by decide +kernel
theorem dX15_view_93 : decode cX15_view 93 = .ok (.aload_n 0, 1) := by decide +kernel
theorem dX15_view_94 : decode cX15_view 94 = .ok (.getfield 299, 3) := by decide +kernel
theorem dX15_view_97 : decode cX15_view 97 = .ok (.iconst 1, 1) := by decide +kernel
theorem dX15_view_98 : decode cX15_view 98 = .ok (.isub, 1) := by decide +kernel
theorem dX15_view_99 : decode cX15_view 99 = .ok (.idiv, 1) := by decide +kernel
theorem dX15_view_100 : decode cX15_view 100 = .ok (.goto 4, 3) := by decide +kernel
theorem dX15_view_103 : decode cX15_view 103 = .ok (.iload_n 3, 1) := by decide +kernel
theorem dX15_view_104 : decode cX15_view 104 = .ok (.istore 6, 2) := by decide +kernel
theorem dX15_view_106 : decode cX15_view 106 = .ok (.iconst 0, 1) := by decide +kernel
theorem dX15_view_107 : decode cX15_view 107 = .ok (.istore 7, 2) := by decide +kernel
theorem dX15_view_109 : decode cX15_view 109 = .ok (.aload_n 0, 1) := by decide +kernel
theorem dX15_view_110 : decode cX15_view 110 = .ok (.getfield 136, 3) := by decide +kernel
theorem dX15_view_113 : decode cX15_view 113 = .ok (.iload 7, 2) := by decide +kernel
theorem dX15_view_115 : decode cX15_view 115 = .ok (.iaload, 1) := by decide +kernel
theorem dX15_view_116 : decode cX15_view 116 = .ok (.iload_n 1, 1) := by decide +kernel
theorem dX15_view_117 : decode cX15_view 117 = .ok (.if_icmp .ne 15, 3) := by decide +kernel
theorem dX15_view_120 : decode cX15_view 120 = .ok (.iload 6, 2) := by decide +kernel
theorem dX15_view_122 : decode cX15_view 122 = .ok (.aload_n 0, 1) := by decide +kernel
theorem dX15_view_123 : decode cX15_view 123 = .ok (.getfield 139, 3) := by decide +kernel
theorem dX15_view_126 : decode cX15_view 126 = .ok (.iload 7, 2) := by decide +kernel
theorem dX15_view_128 : decode cX15_view 128 = .ok (.iaload, 1) := by decide +kernel
theorem dX15_view_129 : decode cX15_view 129 = .ok (.if_icmp .lt 36, 3) := by decide +kernel
theorem dX15_view_132 : decode cX15_view 132 = .ok (.iload 6, 2) := by decide +kernel
theorem dX15_view_134 : decode cX15_view 134 = .ok (.aload_n 0, 1) := by decide +kernel
theorem dX15_view_135 : decode cX15_view 135 = .ok (.getfield 136, 3) := by decide +kernel
theorem dX15_view_138 : decode cX15_view 138 = .ok (.iload 7, 2) := by decide +kernel
theorem dX15_view_140 : decode cX15_view 140 = .ok (.iaload, 1) := by decide +kernel
theorem dX15_view_141 : decode cX15_view 141 = .ok (.iload_n 1, 1) := by decide +kernel
theorem dX15_view_142 : decode cX15_view 142 = .ok (.if_icmp .ne 13, 3) := by decide +kernel
theorem dX15_view_145 : decode cX15_view 145 = .ok (.aload_n 0, 1) := by decide +kernel
theorem dX15_view_146 : decode cX15_view 146 = .ok (.getfield 139, 3) := by decide +kernel
theorem dX15_view_149 : decode cX15_view 149 = .ok (.iload 7, 2) := by decide +kernel
theorem dX15_view_151 : decode cX15_view 151 = .ok (.iaload, 1) := by decide +kernel
theorem dX15_view_152 : decode cX15_view 152 = .ok (.goto 4, 3) := by decide +kernel
theorem dX15_view_155 : decode cX15_view 155 = .ok (.iconst 0, 1) := by decide +kernel
theorem dX15_view_156 : decode cX15_view 156 = .ok (.isub, 1) := by decide +kernel
theorem dX15_view_157 : decode cX15_view 157 = .ok (.istore 6, 2) := by decide +kernel
theorem dX15_view_159 : decode cX15_view 159 = .ok (.iinc 7 1, 3) := by decide +kernel
theorem dX15_view_162 : decode cX15_view 162 = .ok (.goto (-53), 3) := by decide +kernel
theorem dX15_view_165 : decode cX15_view 165 = .ok (.iload 5, 2) := by decide +kernel
theorem dX15_view_167 : decode cX15_view 167 = .ok (.ifCond .ne 17, 3) := by decide +kernel
theorem dX15_view_170 : decode cX15_view 170 = .ok (.aload_n 0, 1) := by decide +kernel
theorem dX15_view_171 : decode cX15_view 171 = .ok (.getfield 148, 3) := by decide +kernel
theorem dX15_view_174 : decode cX15_view 174 = .ok (.iload 7, 2) := by decide +kernel
theorem dX15_view_176 : decode cX15_view 176 = .ok (.laload, 1) := by decide +kernel
theorem dX15_view_177 : decode cX15_view 177 = .ok (.iload 6, 2) := by decide +kernel
theorem dX15_view_179 : decode cX15_view 179 = .ok (.lshr, 1) := by decide +kernel
theorem dX15_view_180 : decode cX15_view 180 = .ok (.lconst 1, 1) := by decide +kernel
theorem dX15_view_181 : decode cX15_view 181 = .ok (.land, 1) := by decide +kernel
theorem dX15_view_182 : decode cX15_view 182 = .ok (.l2i, 1) := by decide +kernel
theorem dX15_view_183 : decode cX15_view 183 = .ok (.ireturn, 1) := by decide +kernel
theorem dX15_view_184 : decode cX15_view 184 = .ok (.iload_n 3, 1) := by decide +kernel
theorem dX15_view_185 : decode cX15_view 185 = .ok (.iload 4, 2) := by decide +kernel
theorem dX15_view_187 : decode cX15_view 187 = .ok (.isub, 1) := by decide +kernel
theorem dX15_view_188 : decode cX15_view 188 = .ok (.aload_n 0, 1) := by decide +kernel
theorem dX15_view_189 : decode cX15_view 189 = .ok (.getfield 299, 3) := by decide +kernel
theorem dX15_view_192 : decode cX15_view 192 = .ok (.iconst 1, 1) := by decide +kernel
theorem dX15_view_193 : decode cX15_view 193 = .ok (.isub, 1) := by decide +kernel
theorem dX15_view_194 : decode cX15_view 194 = .ok (.irem, 1) := by decide +kernel
theorem dX15_view_195 : decode cX15_view 195 = .ok (.istore 8, 2) := by decide +kernel
theorem dX15_view_197 : decode cX15_view 197 = .ok (.iload 8, 2) := by decide +kernel
theorem dX15_view_199 : decode cX15_view 199 = .ok (.iload 8, 2) := by decide +kernel
theorem dX15_view_201 : decode cX15_view 201 = .ok (.iload_n 1, 1) := by decide +kernel
theorem dX15_view_202 : decode cX15_view 202 = .ok (.if_icmp .lt 7, 3) := by decide +kernel
theorem dX15_view_205 : decode cX15_view 205 = .ok (.iconst 1, 1) := by decide +kernel
theorem dX15_view_206 : decode cX15_view 206 = .ok (.goto 4, 3) := by decide +kernel
theorem dX15_view_209 : decode cX15_view 209 = .ok (.iconst 0, 1) := by decide +kernel
theorem dX15_view_210 : decode cX15_view 210 = .ok (.iadd, 1) := by decide +kernel
theorem dX15_view_211 : decode cX15_view 211 = .ok (.istore 8, 2) := by decide +kernel
theorem dX15_view_213 : decode cX15_view 213 = .ok (.aload_n 0, 1) := by decide +kernel
theorem dX15_view_214 : decode cX15_view 214 = .ok (.getfield 247, 3) := by decide +kernel
theorem dX15_view_217 : decode cX15_view 217 = .ok (.aload_n 0, 1) := by decide +kernel
theorem dX15_view_218 : decode cX15_view 218 = .ok (.getfield 142, 3) := by decide +kernel
theorem dX15_view_221 : decode cX15_view 221 = .ok (.iload 7, 2) := by decide +kernel
theorem dX15_view_223 : decode cX15_view 223 = .ok (.iaload, 1) := by decide +kernel
theorem dX15_view_224 : decode cX15_view 224 = .ok (.iload 6, 2) := by decide +kernel
theorem dX15_view_226 : decode cX15_view 226 = .ok (.iadd, 1) := by decide +kernel
theorem dX15_view_227 : decode cX15_view 227 = .ok (.iaload, 1) := by decide +kernel
theorem dX15_view_228 : decode cX15_view 228 = .ok (.iload 8, 2) := by decide +kernel
theorem dX15_view_230 : decode cX15_view 230 = .ok (.ishr, 1) := by decide +kernel
theorem dX15_view_231 : decode cX15_view 231 = .ok (.iconst 1, 1) := by decide +kernel
theorem dX15_view_232 : decode cX15_view 232 = .ok (.iand, 1) := by decide +kernel
theorem dX15_view_233 : decode cX15_view 233 = .ok (.ireturn, 1) := by decide +kernel
theorem dX15_view_234 : decode cX15_view 234 = .ok (.iload_n 3, 1) := by decide +kernel
theorem dX15_view_235 : decode cX15_view 235 = .ok (.iload 4, 2) := by decide +kernel
theorem dX15_view_237 : decode cX15_view 237 = .ok (.aload_n 0, 1) := by decide +kernel
theorem dX15_view_238 : decode cX15_view 238 = .ok (.getfield 299, 3) := by decide +kernel
theorem dX15_view_241 : decode cX15_view 241 = .ok (.imul, 1) := by decide +kernel
theorem dX15_view_242 : decode cX15_view 242 = .ok (.isub, 1) := by decide +kernel
theorem dX15_view_243 : decode cX15_view 243 = .ok (.istore_n 3, 1) := by decide +kernel
theorem dX15_view_244 : decode cX15_view 244 = .ok (.iload_n 3, 1) := by decide +kernel
theorem dX15_view_245 : decode cX15_view 245 = .ok (.iconst 3, 1) := by decide +kernel
theorem dX15_view_246 : decode cX15_view 246 = .ok (.aload_n 0, 1) := by decide +kernel
theorem dX15_view_247 : decode cX15_view 247 = .ok (.getfield 630, 3) := by decide +kernel
theorem dX15_view_250 : decode cX15_view 250 = .ok (.imul, 1) := by decide +kernel
theorem dX15_view_251 : decode cX15_view 251 = .ok (.if_icmp .ge 90, 3) := by decide +kernel
theorem dX15_view_254 : decode cX15_view 254 = .ok (.iconst 0, 1) := by decide +kernel
theorem dX15_view_255 : decode cX15_view 255 = .ok (.istore 5, 2) := by decide +kernel
theorem dX15_view_257 : decode cX15_view 257 = .ok (.iconst 0, 1) := by decide +kernel
theorem dX15_view_258 : decode cX15_view 258 = .ok (.istore 6, 2) := by decide +kernel
theorem dX15_view_260 : decode cX15_view 260 = .ok (.aload_n 0, 1) := by decide +kernel
theorem dX15_view_261 : decode cX15_view 261 = .ok (.getfield 124, 3) := by decide +kernel
theorem dX15_view_264 : decode cX15_view 264 = .ok (.iload 5, 2) := by decide +kernel
theorem dX15_view_266 : decode cX15_view 266 = .ok (.iaload, 1) := by decide +kernel
theorem dX15_view_267 : decode cX15_view 267 = .ok (.ifCond .eq 11, 3) := by decide +kernel
theorem dX15_view_270 : decode cX15_view 270 = .ok (.iload 6, 2) := by decide +kernel
theorem dX15_view_272 : decode cX15_view 272 = .ok (.iload_n 3, 1) := by decide +kernel
theorem dX15_view_273 : decode cX15_view 273 = .ok (.iconst 3, 1) := by decide +kernel
theorem dX15_view_274 : decode cX15_view 274 = .ok (.idiv, 1) := by decide +kernel
theorem dX15_view_275 : decode cX15_view 275 = .ok (.if_icmp .ge 21, 3) := by decide +kernel
theorem dX15_view_278 : decode cX15_view 278 = .ok (.iload 6, 2) := by decide +kernel
theorem dX15_view_280 : decode cX15_view 280 = .ok (.aload_n 0, 1) := by decide +kernel
theorem dX15_view_281 : decode cX15_view 281 = .ok (.getfield 124, 3) := by decide +kernel
theorem dX15_view_284 : decode cX15_view 284 = .ok (.iload 5, 2) := by decide +kernel
theorem dX15_view_286 : decode cX15_view 286 = .ok (.iaload, 1) := by decide +kernel
theorem dX15_view_287 : decode cX15_view 287 = .ok (.iadd, 1) := by decide +kernel
theorem dX15_view_288 : decode cX15_view 288 = .ok (.istore 6, 2) := by decide +kernel
theorem dX15_view_290 : decode cX15_view 290 = .ok (.iinc 5 1, 3) := by decide +kernel
theorem dX15_view_293 : decode cX15_view 293 = .ok (.goto (-33), 3) := by decide +kernel
theorem dX15_view_296 : decode cX15_view 296 = .ok (.iload_n 3, 1) := by decide +kernel
theorem dX15_view_297 : decode cX15_view 297 = .ok (.iconst 3, 1) := by decide +kernel
theorem dX15_view_298 : decode cX15_view 298 = .ok (.irem, 1) := by decide +kernel
theorem dX15_view_299 : decode cX15_view 299 = .ok (.ifCond .ne 13, 3) := by decide +kernel
theorem dX15_view_302 : decode cX15_view 302 = .ok (.aload_n 0, 1) := by decide +kernel
theorem dX15_view_303 : decode cX15_view 303 = .ok (.getfield 250, 3) := by decide +kernel
theorem dX15_view_306 : decode cX15_view 306 = .ok (.iload 5, 2) := by decide +kernel
theorem dX15_view_308 : decode cX15_view 308 = .ok (.iaload, 1) := by decide +kernel
theorem dX15_view_309 : decode cX15_view 309 = .ok (.goto 27, 3) := by decide +kernel
theorem dX15_view_312 : decode cX15_view 312 = .ok (.iload_n 3, 1) := by decide +kernel
theorem dX15_view_313 : decode cX15_view 313 = .ok (.iconst 3, 1) := by decide +kernel
theorem dX15_view_314 : decode cX15_view 314 = .ok (.irem, 1) := by decide +kernel
theorem dX15_view_315 : decode cX15_view 315 = .ok (.iconst 1, 1) := by decide +kernel
theorem dX15_view_316 : decode cX15_view 316 = .ok (.if_icmp .ne 13, 3) := by decide +kernel
theorem dX15_view_319 : decode cX15_view 319 = .ok (.aload_n 0, 1) := by decide +kernel
theorem dX15_view_320 : decode cX15_view 320 = .ok (.getfield 253, 3) := by decide +kernel
theorem dX15_view_323 : decode cX15_view 323 = .ok (.iload 5, 2) := by decide +kernel
theorem dX15_view_325 : decode cX15_view 325 = .ok (.iaload, 1) := by decide +kernel
theorem dX15_view_326 : decode cX15_view 326 = .ok (.goto 10, 3) := by decide +kernel
theorem dX15_view_329 : decode cX15_view 329 = .ok (.aload_n 0, 1) := by decide +kernel
theorem dX15_view_330 : decode cX15_view 330 = .ok (.getfield 256, 3) := by decide +kernel
theorem dX15_view_333 : decode cX15_view 333 = .ok (.iload 5, 2) := by decide +kernel
theorem dX15_view_335 : decode cX15_view 335 = .ok (.iaload, 1) := by decide +kernel
theorem dX15_view_336 : decode cX15_view 336 = .ok (.iload_n 1, 1) := by decide +kernel
theorem dX15_view_337 : decode cX15_view 337 = .ok (.ishr, 1) := by decide +kernel
theorem dX15_view_338 : decode cX15_view 338 = .ok (.iconst 1, 1) := by decide +kernel
theorem dX15_view_339 : decode cX15_view 339 = .ok (.iand, 1) := by decide +kernel
theorem dX15_view_340 : decode cX15_view 340 = .ok (.ireturn, 1) := by decide +kernel
theorem dX15_view_341 : decode cX15_view 341 = .ok (.iload_n 3, 1) := by decide +kernel
theorem dX15_view_342 : decode cX15_view 342 = .ok (.iconst 3, 1) := by decide +kernel
theorem dX15_view_343 : decode cX15_view 343 = .ok (.aload_n 0, 1) := by decide +kernel
theorem dX15_view_344 : decode cX15_view 344 = .ok (.getfield 630, 3) := by decide +kernel
theorem dX15_view_347 : decode cX15_view 347 = .ok (.imul, 1) := by decide +kernel
theorem dX15_view_348 : decode cX15_view 348 = .ok (.isub, 1) := by decide +kernel
theorem dX15_view_349 : decode cX15_view 349 = .ok (.istore_n 3, 1) := by decide +kernel
theorem dX15_view_350 : decode cX15_view 350 = .ok (.sipush 30060, 3) := by decide +kernel
theorem dX15_view_353 : decode cX15_view 353 = .ok (.iload_n 1, 1) := by decide +kernel
theorem dX15_view_354 : decode cX15_view 354 = .ok (.imul, 1) := by decide +kernel
theorem dX15_view_355 : decode cX15_view 355 = .ok (.istore 5, 2) := by decide +kernel
theorem dX15_view_357 : decode cX15_view 357 = .ok (.iload_n 3, 1) := by decide +kernel
theorem dX15_view_358 : decode cX15_view 358 = .ok (.aload_n 0, 1) := by decide +kernel
theorem dX15_view_359 : decode cX15_view 359 = .ok (.aload_n 0, 1) := by decide +kernel
theorem dX15_view_360 : decode cX15_view 360 = .ok (.getfield 281, 3) := by decide +kernel
theorem dX15_view_363 : decode cX15_view 363 = .ok (.iload 5, 2) := by decide +kernel
theorem dX15_view_365 : decode cX15_view 365 = .ok (.iaload, 1) := by decide +kernel
theorem dX15_view_366 : decode cX15_view 366 = .ok (.aload_n 0, 1) := by decide +kernel
theorem dX15_view_367 : decode cX15_view 367 = .ok (.getfield 284, 3) := by decide +kernel
theorem dX15_view_370 : decode cX15_view 370 = .ok (.iload 5, 2) := by decide +kernel
theorem dX15_view_372 : decode cX15_view 372 = .ok (.iaload, 1) := by decide +kernel
theorem dX15_view_373 : decode cX15_view 373 = .ok (.invokevirtual 827, 3) := by decide +kernel
theorem dX15_view_376 : decode cX15_view 376 = .ok (.if_icmp .lt 30, 3) := by decide +kernel
theorem dX15_view_379 : decode cX15_view 379 = .ok (.iload_n 3, 1) := by decide +kernel
theorem dX15_view_380 : decode cX15_view 380 = .ok (.aload_n 0, 1) := by decide +kernel
theorem dX15_view_381 : decode cX15_view 381 = .ok (.aload_n 0, 1) := by decide +kernel
theorem dX15_view_382 : decode cX15_view 382 = .ok (.getfield 281, 3) := by decide +kernel
theorem dX15_view_385 : decode cX15_view 385 = .ok (.iload 5, 2) := by decide +kernel
theorem dX15_view_387 : decode cX15_view 387 = .ok (.iaload, 1) := by decide +kernel
theorem dX15_view_388 : decode cX15_view 388 = .ok (.aload_n 0, 1) := by decide +kernel
theorem dX15_view_389 : decode cX15_view 389 = .ok (.getfield 284, 3) := by decide +kernel
theorem dX15_view_392 : decode cX15_view 392 = .ok (.iload 5, 2) := by decide +kernel
theorem dX15_view_394 : decode cX15_view 394 = .ok (.iaload, 1) := by decide +kernel
theorem dX15_view_395 : decode cX15_view 395 = .ok (.invokevirtual 827, 3) := by decide +kernel
theorem dX15_view_398 : decode cX15_view 398 = .ok (.isub, 1) := by decide +kernel
theorem dX15_view_399 : decode cX15_view 399 = .ok (.istore_n 3, 1) := by decide +kernel
theorem dX15_view_400 : decode cX15_view 400 = .ok (.iinc 5 1, 3) := by decide +kernel
theorem dX15_view_403 : decode cX15_view 403 = .ok (.goto (-46), 3) := by decide +kernel
theorem dX15_view_406 : decode cX15_view 406 = .ok (.aload_n 0, 1) := by decide +kernel
theorem dX15_view_407 : decode cX15_view 407 = .ok (.aload_n 0, 1) := by decide +kernel
theorem dX15_view_408 : decode cX15_view 408 = .ok (.getfield 281, 3) := by decide +kernel
theorem dX15_view_411 : decode cX15_view 411 = .ok (.iload 5, 2) := by decide +kernel
theorem dX15_view_413 : decode cX15_view 413 = .ok (.iaload, 1) := by decide +kernel
theorem dX15_view_414 : decode cX15_view 414 = .ok (.iload_n 1, 1) := by decide +kernel
theorem dX15_view_415 : decode cX15_view 415 = .ok (.aload_n 0, 1) := by decide +kernel
theorem dX15_view_416 : decode cX15_view 416 = .ok (.getfield 284, 3) := by decide +kernel
theorem dX15_view_419 : decode cX15_view 419 = .ok (.iload 5, 2) := by decide +kernel
theorem dX15_view_421 : decode cX15_view 421 = .ok (.iaload, 1) := by decide +kernel
theorem dX15_view_422 : decode cX15_view 422 = .ok (.iload_n 3, 1) := by decide +kernel
theorem dX15_view_423 : decode cX15_view 423 = .ok (.invokevirtual 860, 3) := by decide +kernel
theorem dX15_view_426 : decode cX15_view 426 = .ok (.ireturn, 1) := by decide +kernel
theorem dX15_told_0 : decode cX15_told 0 = .ok (.aload_n 0, 1) := by decide +kernel
theorem dX15_told_1 : decode cX15_told 1 = .ok (.getfield 762, 3) := by decide +kernel
theorem dX15_told_4 : decode cX15_told 4 = .ok (.ifCond .eq 27, 3) := by decide +kernel
theorem dX15_told_7 : decode cX15_told 7 = .ok (.iload_n 1, 1) := by decide +kernel
theorem dX15_told_8 : decode cX15_told 8 = .ok (.ifCond .lt 23, 3) := by decide +kernel
theorem dX15_told_11 : decode cX15_told 11 = .ok (.iload_n 1, 1) := by decide +kernel
theorem dX15_told_12 : decode cX15_told 12 = .ok (.aload_n 0, 1) := by decide +kernel
theorem dX15_told_13 : decode cX15_told 13 = .ok (.getfield 299, 3) := by decide +kernel
theorem dX15_told_16 : decode cX15_told 16 = .ok (.if_icmp .ge 15, 3) := by decide +kernel
theorem dX15_told_19 : decode cX15_told 19 = .ok (.iload_n 2, 1) := by decide +kernel
theorem dX15_told_20 : decode cX15_told 20 = .ok (.ifCond .lt 11, 3) := by decide +kernel
theorem dX15_told_23 : decode cX15_told 23 = .ok (.iload_n 2, 1) := by decide +kernel
theorem dX15_told_24 : decode cX15_told 24 = .ok (.aload_n 0, 1) := by decide +kernel
theorem dX15_told_25 : decode cX15_told 25 = .ok (.getfield 672, 3) := by decide +kernel
theorem dX15_told_28 : decode cX15_told 28 = .ok (.if_icmp .lt 7, 3) := by decide +kernel
theorem dX15_told_31 : decode cX15_told 31 = .ok (.ldc2_w 787, 3) := by decide +kernel
theorem dX15_told_34 : decode cX15_told 34 = .ok (.lreturn, 1) := by decide +kernel
theorem dX15_told_35 : decode cX15_told 35 = .ok (.aload_n 0, 1) := by decide +kernel
theorem dX15_told_36 : decode cX15_told 36 = .ok (.getfield 265, 3) := by decide +kernel
theorem dX15_told_39 : decode cX15_told 39 = .ok (.iload_n 1, 1) := by decide +kernel
theorem dX15_told_40 : decode cX15_told 40 = .ok (.iaload, 1) := by decide +kernel
theorem dX15_told_41 : decode cX15_told 41 = .ok (.aload_n 0, 1) := by decide +kernel
theorem dX15_told_42 : decode cX15_told 42 = .ok (.getfield 633, 3) := by decide +kernel
theorem dX15_told_45 : decode cX15_told 45 = .ok (.iconst 2, 1) := by decide +kernel
theorem dX15_told_46 : decode cX15_told 46 = .ok (.iadd, 1) := by decide +kernel
theorem dX15_told_47 : decode cX15_told 47 = .ok (.if_icmp .ge 7, 3) := by decide +kernel
theorem dX15_told_50 : decode cX15_told 50 = .ok (.ldc2_w 787, 3) := by decide +kernel
theorem dX15_told_53 : decode cX15_told 53 = .ok (.lreturn, 1) := by decide +kernel
theorem dX15_told_54 : decode cX15_told 54 = .ok (.lconst 0, 1) := by decide +kernel
theorem dX15_told_55 : decode cX15_told 55 = .ok (.lstore_n 3, 1) := by decide +kernel
theorem dX15_told_56 : decode cX15_told 56 = .ok (.iconst 0, 1) := by decide +kernel
theorem dX15_told_57 : decode cX15_told 57 = .ok (.istore 5, 2) := by decide +kernel
theorem dX15_told_59 : decode cX15_told 59 = .ok (.iload 5, 2) := by decide +kernel
theorem dX15_told_61 : decode cX15_told 61 = .ok (.aload_n 0, 1) := by decide +kernel
theorem dX15_told_62 : decode cX15_told 62 = .ok (.getfield 151, 3) := by decide +kernel
theorem dX15_told_65 : decode cX15_told 65 = .ok (.iload_n 2, 1) := by decide +kernel
theorem dX15_told_66 : decode cX15_told 66 = .ok (.iaload, 1) := by decide +kernel
theorem dX15_told_67 : decode cX15_told 67 = .ok (.if_icmp .ge 35, 3) := by decide +kernel
theorem dX15_told_70 : decode cX15_told 70 = .ok (.lload_n 3, 1) := by decide +kernel
theorem dX15_told_71 : decode cX15_told 71 = .ok (.aload_n 0, 1) := by decide +kernel
theorem dX15_told_72 : decode cX15_told 72 = .ok (.aload_n 0, 1) := by decide +kernel
theorem dX15_told_73 : decode cX15_told 73 = .ok (.getfield 154, 3) := by decide +kernel
theorem dX15_told_76 : decode cX15_told 76 = .ok (.bipush 32, 2) := by decide +kernel
theorem dX15_told_78 : decode cX15_told 78 = .ok (.iload_n 2, 1) := by decide +kernel
theorem dX15_told_79 : decode cX15_told 79 = .ok (.imul, 1) := by decide +kernel
theorem dX15_told_80 : decode cX15_told 80 = .ok (.iload 5, 2) := by decide +kernel
theorem dX15_told_82 : decode cX15_told 82 = .ok (.iadd, 1) := by decide +kernel
theorem dX15_told_83 : decode cX15_told 83 = .ok (.iaload, 1) := by decide +kernel
theorem dX15_told_84 : decode cX15_told 84 = .ok (.invokevirtual 815, 3) := by decide +kernel
theorem dX15_told_87 : decode cX15_told 87 = .ok (.invokestatic 812, 3) := by decide +kernel
theorem dX15_told_90 : decode cX15_told 90 = .ok (.i2l, 1) := by decide +kernel
theorem dX15_told_91 : decode cX15_told 91 = .ok (.iload 5, 2) := by decide +kernel
theorem dX15_told_93 : decode cX15_told 93 = .ok (.lshl, 1) := by decide +kernel
theorem dX15_told_94 : decode cX15_told 94 = .ok (.ladd, 1) := by decide +kernel
theorem dX15_told_95 : decode cX15_told 95 = .ok (.lstore_n 3, 1) := by decide +kernel
theorem dX15_told_96 : decode cX15_told 96 = .ok (.iinc 5 1, 3) := by decide +kernel
theorem dX15_told_99 : decode cX15_told 99 = .ok (.goto (-40), 3) := by decide +kernel
theorem dX15_told_102 : decode cX15_told 102 = .ok (.lload_n 3, 1) := by decide +kernel
theorem dX15_told_103 : decode cX15_told 103 = .ok (.lreturn, 1) := by decide +kernel
theorem dX15_truth_0 : decode cX15_truth 0 = .ok (.aload_n 0, 1) := by decide +kernel
theorem dX15_truth_1 : decode cX15_truth 1 = .ok (.getfield 848, 3) := by decide +kernel
theorem dX15_truth_4 : decode cX15_truth 4 = .ok (.ifCond .eq 15, 3) := by decide +kernel
theorem dX15_truth_7 : decode cX15_truth 7 = .ok (.iload_n 1, 1) := by decide +kernel
theorem dX15_truth_8 : decode cX15_truth 8 = .ok (.ifCond .lt 11, 3) := by decide +kernel
theorem dX15_truth_11 : decode cX15_truth 11 = .ok (.iload_n 1, 1) := by decide +kernel
theorem dX15_truth_12 : decode cX15_truth 12 = .ok (.aload_n 0, 1) := by decide +kernel
theorem dX15_truth_13 : decode cX15_truth 13 = .ok (.getfield 672, 3) := by decide +kernel
theorem dX15_truth_16 : decode cX15_truth 16 = .ok (.if_icmp .lt 7, 3) := by decide +kernel
theorem dX15_truth_19 : decode cX15_truth 19 = .ok (.ldc2_w 787, 3) := by decide +kernel
theorem dX15_truth_22 : decode cX15_truth 22 = .ok (.lreturn, 1) := by decide +kernel
theorem dX15_truth_23 : decode cX15_truth 23 = .ok (.aload_n 0, 1) := by decide +kernel
theorem dX15_truth_24 : decode cX15_truth 24 = .ok (.getfield 777, 3) := by decide +kernel
theorem dX15_truth_27 : decode cX15_truth 27 = .ok (.ifCond .ne 7, 3) := by decide +kernel
theorem dX15_truth_30 : decode cX15_truth 30 = .ok (.aload_n 0, 1) := by decide +kernel
theorem dX15_truth_31 : decode cX15_truth 31 = .ok (.invokevirtual 869, 3) := by decide +kernel
theorem dX15_truth_34 : decode cX15_truth 34 = .ok (.aload_n 0, 1) := by decide +kernel
theorem dX15_truth_35 : decode cX15_truth 35 = .ok (.getfield 240, 3) := by decide +kernel
theorem dX15_truth_38 : decode cX15_truth 38 = .ok (.iload_n 1, 1) := by decide +kernel
theorem dX15_truth_39 : decode cX15_truth 39 = .ok (.laload, 1) := by decide +kernel
theorem dX15_truth_40 : decode cX15_truth 40 = .ok (.lreturn, 1) := by decide +kernel
theorem dX15_mean_0 : decode cX15_mean 0 = .ok (.aload_n 0, 1) := by decide +kernel
theorem dX15_mean_1 : decode cX15_mean 1 = .ok (.iconst 0, 1) := by decide +kernel
theorem dX15_mean_2 : decode cX15_mean 2 = .ok (.putfield 765, 3) := by decide +kernel
theorem dX15_mean_5 : decode cX15_mean 5 = .ok (.aload_n 0, 1) := by decide +kernel
theorem dX15_mean_6 : decode cX15_mean 6 = .ok (.iconst 0, 1) := by decide +kernel
theorem dX15_mean_7 : decode cX15_mean 7 = .ok (.putfield 768, 3) := by decide +kernel
theorem dX15_mean_10 : decode cX15_mean 10 = .ok (.aload_n 0, 1) := by decide +kernel
theorem dX15_mean_11 : decode cX15_mean 11 = .ok (.iconst 0, 1) := by decide +kernel
theorem dX15_mean_12 : decode cX15_mean 12 = .ok (.putfield 681, 3) := by decide +kernel
theorem dX15_mean_15 : decode cX15_mean 15 = .ok (.iconst 0, 1) := by decide +kernel
theorem dX15_mean_16 : decode cX15_mean 16 = .ok (.istore_n 1, 1) := by decide +kernel
theorem dX15_mean_17 : decode cX15_mean 17 = .ok (.iload_n 1, 1) := by decide +kernel
theorem dX15_mean_18 : decode cX15_mean 18 = .ok (.aload_n 0, 1) := by decide +kernel
theorem dX15_mean_19 : decode cX15_mean 19 = .ok (.getfield 411, 3) := by decide +kernel
theorem dX15_mean_22 : decode cX15_mean 22 = .ok (.if_icmp .ge 31, 3) := by decide +kernel
theorem dX15_mean_25 : decode cX15_mean 25 = .ok (.aload_n 0, 1) := by decide +kernel
theorem dX15_mean_26 : decode cX15_mean 26 = .ok (.getfield 22, 3) := by decide +kernel
theorem dX15_mean_29 : decode cX15_mean 29 = .ok (.iload_n 1, 1) := by decide +kernel
theorem dX15_mean_30 : decode cX15_mean 30 = .ok (.iaload, 1) := by decide +kernel
theorem dX15_mean_31 : decode cX15_mean 31 = .ok (.bipush 20, 2) := by decide +kernel
theorem dX15_mean_33 : decode cX15_mean 33 = .ok (.if_icmp .ge 11, 3) := by decide +kernel
theorem dX15_mean_36 : decode cX15_mean 36 = .ok (.aload_n 0, 1) := by decide +kernel
theorem dX15_mean_37 : decode cX15_mean 37 = .ok (.iload_n 1, 1) := by decide +kernel
theorem dX15_mean_38 : decode cX15_mean 38 = .ok (.invokevirtual 771, 3) := by decide +kernel
theorem dX15_mean_41 : decode cX15_mean 41 = .ok (.goto 8, 3) := by decide +kernel
theorem dX15_mean_44 : decode cX15_mean 44 = .ok (.aload_n 0, 1) := by decide +kernel
theorem dX15_mean_45 : decode cX15_mean 45 = .ok (.iload_n 1, 1) := by decide +kernel
theorem dX15_mean_46 : decode cX15_mean 46 = .ok (.invokevirtual 774, 3) := by decide +kernel
theorem dX15_mean_49 : decode cX15_mean 49 = .ok (.istore_n 1, 1) := by decide +kernel
theorem dX15_mean_50 : decode cX15_mean 50 = .ok (.goto (-33), 3) := by decide +kernel
theorem dX15_mean_53 : decode cX15_mean 53 = .ok (.aload_n 0, 1) := by decide +kernel
theorem dX15_mean_54 : decode cX15_mean 54 = .ok (.iconst 1, 1) := by decide +kernel
theorem dX15_mean_55 : decode cX15_mean 55 = .ok (.putfield 777, 3) := by decide +kernel
theorem dX15_mean_58 : decode cX15_mean 58 = .ok (.return_, 1) := by decide +kernel
theorem dX15_meanOperand_0 : decode cX15_meanOperand 0 = .ok (.aload_n 0, 1) := by decide +kernel
theorem dX15_meanOperand_1 : decode cX15_meanOperand 1 = .ok (.getfield 22, 3) := by decide +kernel
theorem dX15_meanOperand_4 : decode cX15_meanOperand 4 = .ok (.iload_n 1, 1) := by decide +kernel
theorem dX15_meanOperand_5 : decode cX15_meanOperand 5 = .ok (.iaload, 1) := by decide +kernel
theorem dX15_meanOperand_6 : decode cX15_meanOperand 6 = .ok (.tableswitch 590 2 14 #[66, 79, 79, 101, 590, 210, 590, 296, 590, 351, 399, 473, 527], 66) := by decide +kernel
theorem dX15_meanOperand_72 : decode cX15_meanOperand 72 = .ok (.aload_n 0, 1) := by decide +kernel
theorem dX15_meanOperand_73 : decode cX15_meanOperand 73 = .ok (.aload_n 0, 1) := by decide +kernel
theorem dX15_meanOperand_74 : decode cX15_meanOperand 74 = .ok (.getfield 34, 3) := by decide +kernel
theorem dX15_meanOperand_77 : decode cX15_meanOperand 77 = .ok (.iload_n 1, 1) := by decide +kernel
theorem dX15_meanOperand_78 : decode cX15_meanOperand 78 = .ok (.laload, 1) := by decide +kernel
theorem dX15_meanOperand_79 : decode cX15_meanOperand 79 = .ok (.invokevirtual 780, 3) := by decide +kernel
theorem dX15_meanOperand_82 : decode cX15_meanOperand 82 = .ok (.goto 514, 3) := by decide +kernel
theorem dX15_meanOperand_85 : decode cX15_meanOperand 85 = .ok (.aload_n 0, 1) := by decide +kernel
theorem dX15_meanOperand_86 : decode cX15_meanOperand 86 = .ok (.aload_n 0, 1) := by decide +kernel
theorem dX15_meanOperand_87 : decode cX15_meanOperand 87 = .ok (.getfield 22, 3) := by decide +kernel
theorem dX15_meanOperand_90 : decode cX15_meanOperand 90 = .ok (.iload_n 1, 1) := by decide +kernel
theorem dX15_meanOperand_91 : decode cX15_meanOperand 91 = .ok (.iaload, 1) := by decide +kernel
theorem dX15_meanOperand_92 : decode cX15_meanOperand 92 = .ok (.iconst 3, 1) := by decide +kernel
theorem dX15_meanOperand_93 : decode cX15_meanOperand 93 = .ok (.if_icmp .ne 7, 3) := by decide +kernel
theorem dX15_meanOperand_96 : decode cX15_meanOperand 96 = .ok (.lconst 1, 1) := by decide +kernel
theorem dX15_meanOperand_97 : decode cX15_meanOperand 97 = .ok (.goto 4, 3) := by decide +kernel
theorem dX15_meanOperand_100 : decode cX15_meanOperand 100 = .ok (.lconst 0, 1) := by decide +kernel
theorem dX15_meanOperand_101 : decode cX15_meanOperand 101 = .ok (.invokevirtual 780, 3) := by decide +kernel
theorem dX15_meanOperand_104 : decode cX15_meanOperand 104 = .ok (.goto 492, 3) := by decide +kernel
theorem dX15_meanOperand_107 : decode cX15_meanOperand 107 = .ok (.aload_n 0, 1) := by decide +kernel
theorem dX15_meanOperand_108 : decode cX15_meanOperand 108 = .ok (.getfield 96, 3) := by decide +kernel
theorem dX15_meanOperand_111 : decode cX15_meanOperand 111 = .ok (.iload_n 1, 1) := by decide +kernel
theorem dX15_meanOperand_112 : decode cX15_meanOperand 112 = .ok (.iaload, 1) := by decide +kernel
theorem dX15_meanOperand_113 : decode cX15_meanOperand 113 = .ok (.istore_n 2, 1) := by decide +kernel
theorem dX15_meanOperand_114 : decode cX15_meanOperand 114 = .ok (.aload_n 0, 1) := by decide +kernel
theorem dX15_meanOperand_115 : decode cX15_meanOperand 115 = .ok (.iload_n 2, 1) := by decide +kernel
theorem dX15_meanOperand_116 : decode cX15_meanOperand 116 = .ok (.iconst 1, 1) := by decide +kernel
theorem dX15_meanOperand_117 : decode cX15_meanOperand 117 = .ok (.if_icmp .ne 16, 3) := by decide +kernel
theorem dX15_meanOperand_120 : decode cX15_meanOperand 120 = .ok (.aload_n 0, 1) := by decide +kernel
theorem dX15_meanOperand_121 : decode cX15_meanOperand 121 = .ok (.aload_n 0, 1) := by decide +kernel
theorem dX15_meanOperand_122 : decode cX15_meanOperand 122 = .ok (.getfield 99, 3) := by decide +kernel
theorem dX15_meanOperand_125 : decode cX15_meanOperand 125 = .ok (.iload_n 1, 1) := by decide +kernel
theorem dX15_meanOperand_126 : decode cX15_meanOperand 126 = .ok (.iaload, 1) := by decide +kernel
theorem dX15_meanOperand_127 : decode cX15_meanOperand 127 = .ok (.invokevirtual 784, 3) := by decide +kernel
theorem dX15_meanOperand_130 : decode cX15_meanOperand 130 = .ok (.goto 80, 3) := by decide +kernel
theorem dX15_meanOperand_133 : decode cX15_meanOperand 133 = .ok (.iload_n 2, 1) := by decide +kernel
theorem dX15_meanOperand_134 : decode cX15_meanOperand 134 = .ok (.iconst 2, 1) := by decide +kernel
theorem dX15_meanOperand_135 : decode cX15_meanOperand 135 = .ok (.if_icmp .ne 17, 3) := by decide +kernel
theorem dX15_meanOperand_138 : decode cX15_meanOperand 138 = .ok (.aload_n 0, 1) := by decide +kernel
theorem dX15_meanOperand_139 : decode cX15_meanOperand 139 = .ok (.getfield 237, 3) := by decide +kernel
theorem dX15_meanOperand_142 : decode cX15_meanOperand 142 = .ok (.aload_n 0, 1) := by decide +kernel
theorem dX15_meanOperand_143 : decode cX15_meanOperand 143 = .ok (.getfield 99, 3) := by decide +kernel
theorem dX15_meanOperand_146 : decode cX15_meanOperand 146 = .ok (.iload_n 1, 1) := by decide +kernel
theorem dX15_meanOperand_147 : decode cX15_meanOperand 147 = .ok (.iaload, 1) := by decide +kernel
theorem dX15_meanOperand_148 : decode cX15_meanOperand 148 = .ok (.laload, 1) := by decide +kernel
theorem dX15_meanOperand_149 : decode cX15_meanOperand 149 = .ok (.goto 61, 3) := by decide +kernel
theorem dX15_meanOperand_152 : decode cX15_meanOperand 152 = .ok (.iload_n 2, 1) := by decide +kernel
theorem dX15_meanOperand_153 : decode cX15_meanOperand 153 = .ok (.iconst 3, 1) := by decide +kernel
theorem dX15_meanOperand_154 : decode cX15_meanOperand 154 = .ok (.if_icmp .ne 22, 3) := by decide +kernel
theorem dX15_meanOperand_157 : decode cX15_meanOperand 157 = .ok (.aload_n 0, 1) := by decide +kernel
theorem dX15_meanOperand_158 : decode cX15_meanOperand 158 = .ok (.getfield 216, 3) := by decide +kernel
theorem dX15_meanOperand_161 : decode cX15_meanOperand 161 = .ok (.aload_n 0, 1) := by decide +kernel
theorem dX15_meanOperand_162 : decode cX15_meanOperand 162 = .ok (.getfield 99, 3) := by decide +kernel
theorem dX15_meanOperand_165 : decode cX15_meanOperand 165 = .ok (.iload_n 1, 1) := by decide +kernel
theorem dX15_meanOperand_166 : decode cX15_meanOperand 166 = .ok (.iaload, 1) := by decide +kernel
theorem dX15_meanOperand_167 : decode cX15_meanOperand 167 = .ok (.laload, 1) := by decide +kernel
theorem dX15_meanOperand_168 : decode cX15_meanOperand 168 = .ok (.aload_n 0, 1) := by decide +kernel
theorem dX15_meanOperand_169 : decode cX15_meanOperand 169 = .ok (.getfield 306, 3) := by decide +kernel
theorem dX15_meanOperand_172 : decode cX15_meanOperand 172 = .ok (.land, 1) := by decide +kernel
theorem dX15_meanOperand_173 : decode cX15_meanOperand 173 = .ok (.goto 37, 3) := by decide +kernel
theorem dX15_meanOperand_176 : decode cX15_meanOperand 176 = .ok (.aload_n 0, 1) := by decide +kernel
theorem dX15_meanOperand_177 : decode cX15_meanOperand 177 = .ok (.getfield 234, 3) := by decide +kernel
theorem dX15_meanOperand_180 : decode cX15_meanOperand 180 = .ok (.aload_n 0, 1) := by decide +kernel
theorem dX15_meanOperand_181 : decode cX15_meanOperand 181 = .ok (.getfield 225, 3) := by decide +kernel
theorem dX15_meanOperand_184 : decode cX15_meanOperand 184 = .ok (.aload_n 0, 1) := by decide +kernel
theorem dX15_meanOperand_185 : decode cX15_meanOperand 185 = .ok (.getfield 681, 3) := by decide +kernel
theorem dX15_meanOperand_188 : decode cX15_meanOperand 188 = .ok (.ifCond .le 12, 3) := by decide +kernel
theorem dX15_meanOperand_191 : decode cX15_meanOperand 191 = .ok (.aload_n 0, 1) := by decide +kernel
theorem dX15_meanOperand_192 : decode cX15_meanOperand 192 = .ok (.getfield 681, 3) := by decide +kernel
theorem dX15_meanOperand_195 : decode cX15_meanOperand 195 = .ok (.iconst 1, 1) := by decide +kernel
theorem dX15_meanOperand_196 : decode cX15_meanOperand 196 = .ok (.isub, 1) := by decide +kernel
theorem dX15_meanOperand_197 : decode cX15_meanOperand 197 = .ok (.goto 4, 3) := by decide +kernel
theorem dX15_meanOperand_200 : decode cX15_meanOperand 200 = .ok (.iconst 0, 1) := by decide +kernel
theorem dX15_meanOperand_201 : decode cX15_meanOperand 201 = .ok (.iaload, 1) := by decide +kernel
theorem dX15_meanOperand_202 : decode cX15_meanOperand 202 = .ok (.aload_n 0, 1) := by decide +kernel
theorem dX15_meanOperand_203 : decode cX15_meanOperand 203 = .ok (.getfield 99, 3) := by decide +kernel
theorem dX15_meanOperand_206 : decode cX15_meanOperand 206 = .ok (.iload_n 1, 1) := by decide +kernel
theorem dX15_meanOperand_207 : decode cX15_meanOperand 207 = .ok (.iaload, 1) := by decide +kernel
theorem dX15_meanOperand_208 : decode cX15_meanOperand 208 = .ok (.iadd, 1) := by decide +kernel
theorem dX15_meanOperand_209 : decode cX15_meanOperand 209 = .ok (.laload, 1) := by decide +kernel
theorem dX15_meanOperand_210 : decode cX15_meanOperand 210 = .ok (.invokevirtual 780, 3) := by decide +kernel
theorem dX15_meanOperand_213 : decode cX15_meanOperand 213 = .ok (.goto 383, 3) := by decide +kernel
theorem dX15_meanOperand_216 : decode cX15_meanOperand 216 = .ok (.aload_n 0, 1) := by decide +kernel
theorem dX15_meanOperand_217 : decode cX15_meanOperand 217 = .ok (.dup, 1) := by decide +kernel
theorem dX15_meanOperand_218 : decode cX15_meanOperand 218 = .ok (.getfield 765, 3) := by decide +kernel
theorem dX15_meanOperand_221 : decode cX15_meanOperand 221 = .ok (.iconst 1, 1) := by decide +kernel
theorem dX15_meanOperand_222 : decode cX15_meanOperand 222 = .ok (.isub, 1) := by decide +kernel
theorem dX15_meanOperand_223 : decode cX15_meanOperand 223 = .ok (.putfield 765, 3) := by decide +kernel
theorem dX15_meanOperand_226 : decode cX15_meanOperand 226 = .ok (.aload_n 0, 1) := by decide +kernel
theorem dX15_meanOperand_227 : decode cX15_meanOperand 227 = .ok (.getfield 234, 3) := by decide +kernel
theorem dX15_meanOperand_230 : decode cX15_meanOperand 230 = .ok (.aload_n 0, 1) := by decide +kernel
theorem dX15_meanOperand_231 : decode cX15_meanOperand 231 = .ok (.getfield 765, 3) := by decide +kernel
theorem dX15_meanOperand_234 : decode cX15_meanOperand 234 = .ok (.laload, 1) := by decide +kernel
theorem dX15_meanOperand_235 : decode cX15_meanOperand 235 = .ok (.lstore_n 2, 1) := by decide +kernel
theorem dX15_meanOperand_236 : decode cX15_meanOperand 236 = .ok (.lconst 0, 1) := by decide +kernel
theorem dX15_meanOperand_237 : decode cX15_meanOperand 237 = .ok (.lstore 4, 2) := by decide +kernel
theorem dX15_meanOperand_239 : decode cX15_meanOperand 239 = .ok (.lload_n 2, 1) := by decide +kernel
theorem dX15_meanOperand_240 : decode cX15_meanOperand 240 = .ok (.aload_n 0, 1) := by decide +kernel
theorem dX15_meanOperand_241 : decode cX15_meanOperand 241 = .ok (.getfield 102, 3) := by decide +kernel
theorem dX15_meanOperand_244 : decode cX15_meanOperand 244 = .ok (.iload_n 1, 1) := by decide +kernel
theorem dX15_meanOperand_245 : decode cX15_meanOperand 245 = .ok (.iaload, 1) := by decide +kernel
theorem dX15_meanOperand_246 : decode cX15_meanOperand 246 = .ok (.i2l, 1) := by decide +kernel
theorem dX15_meanOperand_247 : decode cX15_meanOperand 247 = .ok (.lcmp, 1) := by decide +kernel
theorem dX15_meanOperand_248 : decode cX15_meanOperand 248 = .ok (.ifCond .ge 45, 3) := by decide +kernel
theorem dX15_meanOperand_251 : decode cX15_meanOperand 251 = .ok (.aload_n 0, 1) := by decide +kernel
theorem dX15_meanOperand_252 : decode cX15_meanOperand 252 = .ok (.getfield 96, 3) := by decide +kernel
theorem dX15_meanOperand_255 : decode cX15_meanOperand 255 = .ok (.iload_n 1, 1) := by decide +kernel
theorem dX15_meanOperand_256 : decode cX15_meanOperand 256 = .ok (.iaload, 1) := by decide +kernel
theorem dX15_meanOperand_257 : decode cX15_meanOperand 257 = .ok (.iconst 1, 1) := by decide +kernel
theorem dX15_meanOperand_258 : decode cX15_meanOperand 258 = .ok (.if_icmp .ne 19, 3) := by decide +kernel
theorem dX15_meanOperand_261 : decode cX15_meanOperand 261 = .ok (.aload_n 0, 1) := by decide +kernel
theorem dX15_meanOperand_262 : decode cX15_meanOperand 262 = .ok (.aload_n 0, 1) := by decide +kernel
theorem dX15_meanOperand_263 : decode cX15_meanOperand 263 = .ok (.getfield 99, 3) := by decide +kernel
theorem dX15_meanOperand_266 : decode cX15_meanOperand 266 = .ok (.iload_n 1, 1) := by decide +kernel
theorem dX15_meanOperand_267 : decode cX15_meanOperand 267 = .ok (.iaload, 1) := by decide +kernel
theorem dX15_meanOperand_268 : decode cX15_meanOperand 268 = .ok (.lload_n 2, 1) := by decide +kernel
theorem dX15_meanOperand_269 : decode cX15_meanOperand 269 = .ok (.l2i, 1) := by decide +kernel
theorem dX15_meanOperand_270 : decode cX15_meanOperand 270 = .ok (.iadd, 1) := by decide +kernel
theorem dX15_meanOperand_271 : decode cX15_meanOperand 271 = .ok (.invokevirtual 784, 3) := by decide +kernel
theorem dX15_meanOperand_274 : decode cX15_meanOperand 274 = .ok (.goto 17, 3) := by decide +kernel
theorem dX15_meanOperand_277 : decode cX15_meanOperand 277 = .ok (.aload_n 0, 1) := by decide +kernel
theorem dX15_meanOperand_278 : decode cX15_meanOperand 278 = .ok (.getfield 237, 3) := by decide +kernel
theorem dX15_meanOperand_281 : decode cX15_meanOperand 281 = .ok (.aload_n 0, 1) := by decide +kernel
theorem dX15_meanOperand_282 : decode cX15_meanOperand 282 = .ok (.getfield 99, 3) := by decide +kernel
theorem dX15_meanOperand_285 : decode cX15_meanOperand 285 = .ok (.iload_n 1, 1) := by decide +kernel
theorem dX15_meanOperand_286 : decode cX15_meanOperand 286 = .ok (.iaload, 1) := by decide +kernel
theorem dX15_meanOperand_287 : decode cX15_meanOperand 287 = .ok (.lload_n 2, 1) := by decide +kernel
theorem dX15_meanOperand_288 : decode cX15_meanOperand 288 = .ok (.l2i, 1) := by decide +kernel
theorem dX15_meanOperand_289 : decode cX15_meanOperand 289 = .ok (.iadd, 1) := by decide +kernel
theorem dX15_meanOperand_290 : decode cX15_meanOperand 290 = .ok (.laload, 1) := by decide +kernel
theorem dX15_meanOperand_291 : decode cX15_meanOperand 291 = .ok (.lstore 4, 2) := by decide +kernel
theorem dX15_meanOperand_293 : decode cX15_meanOperand 293 = .ok (.aload_n 0, 1) := by decide +kernel
theorem dX15_meanOperand_294 : decode cX15_meanOperand 294 = .ok (.lload 4, 2) := by decide +kernel
theorem dX15_meanOperand_296 : decode cX15_meanOperand 296 = .ok (.invokevirtual 780, 3) := by decide +kernel
theorem dX15_meanOperand_299 : decode cX15_meanOperand 299 = .ok (.goto 297, 3) := by decide +kernel
theorem dX15_meanOperand_302 : decode cX15_meanOperand 302 = .ok (.aload_n 0, 1) := by decide +kernel
theorem dX15_meanOperand_303 : decode cX15_meanOperand 303 = .ok (.getfield 99, 3) := by decide +kernel
theorem dX15_meanOperand_306 : decode cX15_meanOperand 306 = .ok (.iload_n 1, 1) := by decide +kernel
theorem dX15_meanOperand_307 : decode cX15_meanOperand 307 = .ok (.iaload, 1) := by decide +kernel
theorem dX15_meanOperand_308 : decode cX15_meanOperand 308 = .ok (.istore_n 2, 1) := by decide +kernel
theorem dX15_meanOperand_309 : decode cX15_meanOperand 309 = .ok (.aload_n 0, 1) := by decide +kernel
theorem dX15_meanOperand_310 : decode cX15_meanOperand 310 = .ok (.getfield 225, 3) := by decide +kernel
theorem dX15_meanOperand_313 : decode cX15_meanOperand 313 = .ok (.aload_n 0, 1) := by decide +kernel
theorem dX15_meanOperand_314 : decode cX15_meanOperand 314 = .ok (.getfield 681, 3) := by decide +kernel
theorem dX15_meanOperand_317 : decode cX15_meanOperand 317 = .ok (.aload_n 0, 1) := by decide +kernel
theorem dX15_meanOperand_318 : decode cX15_meanOperand 318 = .ok (.getfield 765, 3) := by decide +kernel
theorem dX15_meanOperand_321 : decode cX15_meanOperand 321 = .ok (.aload_n 0, 1) := by decide +kernel
theorem dX15_meanOperand_322 : decode cX15_meanOperand 322 = .ok (.getfield 28, 3) := by decide +kernel
theorem dX15_meanOperand_325 : decode cX15_meanOperand 325 = .ok (.iload_n 2, 1) := by decide +kernel
theorem dX15_meanOperand_326 : decode cX15_meanOperand 326 = .ok (.iaload, 1) := by decide +kernel
theorem dX15_meanOperand_327 : decode cX15_meanOperand 327 = .ok (.isub, 1) := by decide +kernel
theorem dX15_meanOperand_328 : decode cX15_meanOperand 328 = .ok (.iastore, 1) := by decide +kernel
theorem dX15_meanOperand_329 : decode cX15_meanOperand 329 = .ok (.aload_n 0, 1) := by decide +kernel
theorem dX15_meanOperand_330 : decode cX15_meanOperand 330 = .ok (.getfield 228, 3) := by decide +kernel
theorem dX15_meanOperand_333 : decode cX15_meanOperand 333 = .ok (.aload_n 0, 1) := by decide +kernel
theorem dX15_meanOperand_334 : decode cX15_meanOperand 334 = .ok (.getfield 681, 3) := by decide +kernel
theorem dX15_meanOperand_337 : decode cX15_meanOperand 337 = .ok (.iload_n 1, 1) := by decide +kernel
theorem dX15_meanOperand_338 : decode cX15_meanOperand 338 = .ok (.iconst 1, 1) := by decide +kernel
theorem dX15_meanOperand_339 : decode cX15_meanOperand 339 = .ok (.iadd, 1) := by decide +kernel
theorem dX15_meanOperand_340 : decode cX15_meanOperand 340 = .ok (.iastore, 1) := by decide +kernel
theorem dX15_meanOperand_341 : decode cX15_meanOperand 341 = .ok (.aload_n 0, 1) := by decide +kernel
theorem dX15_meanOperand_342 : decode cX15_meanOperand 342 = .ok (.dup, 1) := by decide +kernel
theorem dX15_meanOperand_343 : decode cX15_meanOperand 343 = .ok (.getfield 681, 3) := by decide +kernel
theorem dX15_meanOperand_346 : decode cX15_meanOperand 346 = .ok (.iconst 1, 1) := by decide +kernel
theorem dX15_meanOperand_347 : decode cX15_meanOperand 347 = .ok (.iadd, 1) := by decide +kernel
theorem dX15_meanOperand_348 : decode cX15_meanOperand 348 = .ok (.putfield 681, 3) := by decide +kernel
theorem dX15_meanOperand_351 : decode cX15_meanOperand 351 = .ok (.aload_n 0, 1) := by decide +kernel
theorem dX15_meanOperand_352 : decode cX15_meanOperand 352 = .ok (.iload_n 2, 1) := by decide +kernel
theorem dX15_meanOperand_353 : decode cX15_meanOperand 353 = .ok (.invokevirtual 706, 3) := by decide +kernel
theorem dX15_meanOperand_356 : decode cX15_meanOperand 356 = .ok (.ireturn, 1) := by decide +kernel
theorem dX15_meanOperand_357 : decode cX15_meanOperand 357 = .ok (.aload_n 0, 1) := by decide +kernel
theorem dX15_meanOperand_358 : decode cX15_meanOperand 358 = .ok (.dup, 1) := by decide +kernel
theorem dX15_meanOperand_359 : decode cX15_meanOperand 359 = .ok (.getfield 765, 3) := by decide +kernel
theorem dX15_meanOperand_362 : decode cX15_meanOperand 362 = .ok (.iconst 1, 1) := by decide +kernel
theorem dX15_meanOperand_363 : decode cX15_meanOperand 363 = .ok (.isub, 1) := by decide +kernel
theorem dX15_meanOperand_364 : decode cX15_meanOperand 364 = .ok (.putfield 765, 3) := by decide +kernel
theorem dX15_meanOperand_367 : decode cX15_meanOperand 367 = .ok (.aload_n 0, 1) := by decide +kernel
theorem dX15_meanOperand_368 : decode cX15_meanOperand 368 = .ok (.getfield 234, 3) := by decide +kernel
theorem dX15_meanOperand_371 : decode cX15_meanOperand 371 = .ok (.aload_n 0, 1) := by decide +kernel
theorem dX15_meanOperand_372 : decode cX15_meanOperand 372 = .ok (.getfield 765, 3) := by decide +kernel
theorem dX15_meanOperand_375 : decode cX15_meanOperand 375 = .ok (.iconst 1, 1) := by decide +kernel
theorem dX15_meanOperand_376 : decode cX15_meanOperand 376 = .ok (.isub, 1) := by decide +kernel
theorem dX15_meanOperand_377 : decode cX15_meanOperand 377 = .ok (.aload_n 0, 1) := by decide +kernel
theorem dX15_meanOperand_378 : decode cX15_meanOperand 378 = .ok (.getfield 234, 3) := by decide +kernel
theorem dX15_meanOperand_381 : decode cX15_meanOperand 381 = .ok (.aload_n 0, 1) := by decide +kernel
theorem dX15_meanOperand_382 : decode cX15_meanOperand 382 = .ok (.getfield 765, 3) := by decide +kernel
theorem dX15_meanOperand_385 : decode cX15_meanOperand 385 = .ok (.iconst 1, 1) := by decide +kernel
theorem dX15_meanOperand_386 : decode cX15_meanOperand 386 = .ok (.isub, 1) := by decide +kernel
theorem dX15_meanOperand_387 : decode cX15_meanOperand 387 = .ok (.laload, 1) := by decide +kernel
theorem dX15_meanOperand_388 : decode cX15_meanOperand 388 = .ok (.aload_n 0, 1) := by decide +kernel
theorem dX15_meanOperand_389 : decode cX15_meanOperand 389 = .ok (.getfield 234, 3) := by decide +kernel
theorem dX15_meanOperand_392 : decode cX15_meanOperand 392 = .ok (.aload_n 0, 1) := by decide +kernel
theorem dX15_meanOperand_393 : decode cX15_meanOperand 393 = .ok (.getfield 765, 3) := by decide +kernel
theorem dX15_meanOperand_396 : decode cX15_meanOperand 396 = .ok (.laload, 1) := by decide +kernel
theorem dX15_meanOperand_397 : decode cX15_meanOperand 397 = .ok (.l2i, 1) := by decide +kernel
theorem dX15_meanOperand_398 : decode cX15_meanOperand 398 = .ok (.lshr, 1) := by decide +kernel
theorem dX15_meanOperand_399 : decode cX15_meanOperand 399 = .ok (.lconst 1, 1) := by decide +kernel
theorem dX15_meanOperand_400 : decode cX15_meanOperand 400 = .ok (.land, 1) := by decide +kernel
theorem dX15_meanOperand_401 : decode cX15_meanOperand 401 = .ok (.lastore, 1) := by decide +kernel
theorem dX15_meanOperand_402 : decode cX15_meanOperand 402 = .ok (.goto 194, 3) := by decide +kernel
theorem dX15_meanOperand_405 : decode cX15_meanOperand 405 = .ok (.aload_n 0, 1) := by decide +kernel
theorem dX15_meanOperand_406 : decode cX15_meanOperand 406 = .ok (.getfield 234, 3) := by decide +kernel
theorem dX15_meanOperand_409 : decode cX15_meanOperand 409 = .ok (.aload_n 0, 1) := by decide +kernel
theorem dX15_meanOperand_410 : decode cX15_meanOperand 410 = .ok (.getfield 765, 3) := by decide +kernel
theorem dX15_meanOperand_413 : decode cX15_meanOperand 413 = .ok (.iconst 1, 1) := by decide +kernel
theorem dX15_meanOperand_414 : decode cX15_meanOperand 414 = .ok (.isub, 1) := by decide +kernel
theorem dX15_meanOperand_415 : decode cX15_meanOperand 415 = .ok (.laload, 1) := by decide +kernel
theorem dX15_meanOperand_416 : decode cX15_meanOperand 416 = .ok (.lstore_n 2, 1) := by decide +kernel
theorem dX15_meanOperand_417 : decode cX15_meanOperand 417 = .ok (.aload_n 0, 1) := by decide +kernel
theorem dX15_meanOperand_418 : decode cX15_meanOperand 418 = .ok (.getfield 234, 3) := by decide +kernel
theorem dX15_meanOperand_421 : decode cX15_meanOperand 421 = .ok (.aload_n 0, 1) := by decide +kernel
theorem dX15_meanOperand_422 : decode cX15_meanOperand 422 = .ok (.getfield 765, 3) := by decide +kernel
theorem dX15_meanOperand_425 : decode cX15_meanOperand 425 = .ok (.iconst 1, 1) := by decide +kernel
theorem dX15_meanOperand_426 : decode cX15_meanOperand 426 = .ok (.isub, 1) := by decide +kernel
theorem dX15_meanOperand_427 : decode cX15_meanOperand 427 = .ok (.aload_n 0, 1) := by decide +kernel
theorem dX15_meanOperand_428 : decode cX15_meanOperand 428 = .ok (.getfield 25, 3) := by decide +kernel
theorem dX15_meanOperand_431 : decode cX15_meanOperand 431 = .ok (.iload_n 1, 1) := by decide +kernel
theorem dX15_meanOperand_432 : decode cX15_meanOperand 432 = .ok (.iaload, 1) := by decide +kernel
theorem dX15_meanOperand_433 : decode cX15_meanOperand 433 = .ok (.bipush 33, 2) := by decide +kernel
theorem dX15_meanOperand_435 : decode cX15_meanOperand 435 = .ok (.if_icmp .ne 9, 3) := by decide +kernel
theorem dX15_meanOperand_438 : decode cX15_meanOperand 438 = .ok (.lconst 1, 1) := by decide +kernel
theorem dX15_meanOperand_439 : decode cX15_meanOperand 439 = .ok (.lload_n 2, 1) := by decide +kernel
theorem dX15_meanOperand_440 : decode cX15_meanOperand 440 = .ok (.lsub, 1) := by decide +kernel
theorem dX15_meanOperand_441 : decode cX15_meanOperand 441 = .ok (.goto 34, 3) := by decide +kernel
theorem dX15_meanOperand_444 : decode cX15_meanOperand 444 = .ok (.aload_n 0, 1) := by decide +kernel
theorem dX15_meanOperand_445 : decode cX15_meanOperand 445 = .ok (.getfield 25, 3) := by decide +kernel
theorem dX15_meanOperand_448 : decode cX15_meanOperand 448 = .ok (.iload_n 1, 1) := by decide +kernel
theorem dX15_meanOperand_449 : decode cX15_meanOperand 449 = .ok (.iaload, 1) := by decide +kernel
theorem dX15_meanOperand_450 : decode cX15_meanOperand 450 = .ok (.bipush 45, 2) := by decide +kernel
theorem dX15_meanOperand_452 : decode cX15_meanOperand 452 = .ok (.if_icmp .ne 13, 3) := by decide +kernel
theorem dX15_meanOperand_455 : decode cX15_meanOperand 455 = .ok (.lload_n 2, 1) := by decide +kernel
theorem dX15_meanOperand_456 : decode cX15_meanOperand 456 = .ok (.lneg, 1) := by decide +kernel
theorem dX15_meanOperand_457 : decode cX15_meanOperand 457 = .ok (.aload_n 0, 1) := by decide +kernel
theorem dX15_meanOperand_458 : decode cX15_meanOperand 458 = .ok (.getfield 306, 3) := by decide +kernel
theorem dX15_meanOperand_461 : decode cX15_meanOperand 461 = .ok (.land, 1) := by decide +kernel
theorem dX15_meanOperand_462 : decode cX15_meanOperand 462 = .ok (.goto 13, 3) := by decide +kernel
theorem dX15_meanOperand_465 : decode cX15_meanOperand 465 = .ok (.lload_n 2, 1) := by decide +kernel
theorem dX15_meanOperand_466 : decode cX15_meanOperand 466 = .ok (.ldc2_w 787, 3) := by decide +kernel
theorem dX15_meanOperand_469 : decode cX15_meanOperand 469 = .ok (.lxor, 1) := by decide +kernel
theorem dX15_meanOperand_470 : decode cX15_meanOperand 470 = .ok (.aload_n 0, 1) := by decide +kernel
theorem dX15_meanOperand_471 : decode cX15_meanOperand 471 = .ok (.getfield 306, 3) := by decide +kernel
theorem dX15_meanOperand_474 : decode cX15_meanOperand 474 = .ok (.land, 1) := by decide +kernel
theorem dX15_meanOperand_475 : decode cX15_meanOperand 475 = .ok (.lastore, 1) := by decide +kernel
theorem dX15_meanOperand_476 : decode cX15_meanOperand 476 = .ok (.goto 120, 3) := by decide +kernel
theorem dX15_meanOperand_479 : decode cX15_meanOperand 479 = .ok (.aload_n 0, 1) := by decide +kernel
theorem dX15_meanOperand_480 : decode cX15_meanOperand 480 = .ok (.dup, 1) := by decide +kernel
theorem dX15_meanOperand_481 : decode cX15_meanOperand 481 = .ok (.getfield 765, 3) := by decide +kernel
theorem dX15_meanOperand_484 : decode cX15_meanOperand 484 = .ok (.iconst 1, 1) := by decide +kernel
theorem dX15_meanOperand_485 : decode cX15_meanOperand 485 = .ok (.isub, 1) := by decide +kernel
theorem dX15_meanOperand_486 : decode cX15_meanOperand 486 = .ok (.putfield 765, 3) := by decide +kernel
theorem dX15_meanOperand_489 : decode cX15_meanOperand 489 = .ok (.aload_n 0, 1) := by decide +kernel
theorem dX15_meanOperand_490 : decode cX15_meanOperand 490 = .ok (.getfield 234, 3) := by decide +kernel
theorem dX15_meanOperand_493 : decode cX15_meanOperand 493 = .ok (.aload_n 0, 1) := by decide +kernel
theorem dX15_meanOperand_494 : decode cX15_meanOperand 494 = .ok (.getfield 765, 3) := by decide +kernel
theorem dX15_meanOperand_497 : decode cX15_meanOperand 497 = .ok (.iconst 1, 1) := by decide +kernel
theorem dX15_meanOperand_498 : decode cX15_meanOperand 498 = .ok (.isub, 1) := by decide +kernel
theorem dX15_meanOperand_499 : decode cX15_meanOperand 499 = .ok (.aload_n 0, 1) := by decide +kernel
theorem dX15_meanOperand_500 : decode cX15_meanOperand 500 = .ok (.aload_n 0, 1) := by decide +kernel
theorem dX15_meanOperand_501 : decode cX15_meanOperand 501 = .ok (.getfield 25, 3) := by decide +kernel
theorem dX15_meanOperand_504 : decode cX15_meanOperand 504 = .ok (.iload_n 1, 1) := by decide +kernel
theorem dX15_meanOperand_505 : decode cX15_meanOperand 505 = .ok (.iaload, 1) := by decide +kernel
theorem dX15_meanOperand_506 : decode cX15_meanOperand 506 = .ok (.aload_n 0, 1) := by decide +kernel
theorem dX15_meanOperand_507 : decode cX15_meanOperand 507 = .ok (.getfield 234, 3) := by decide +kernel
theorem dX15_meanOperand_510 : decode cX15_meanOperand 510 = .ok (.aload_n 0, 1) := by decide +kernel
theorem dX15_meanOperand_511 : decode cX15_meanOperand 511 = .ok (.getfield 765, 3) := by decide +kernel
theorem dX15_meanOperand_514 : decode cX15_meanOperand 514 = .ok (.iconst 1, 1) := by decide +kernel
theorem dX15_meanOperand_515 : decode cX15_meanOperand 515 = .ok (.isub, 1) := by decide +kernel
theorem dX15_meanOperand_516 : decode cX15_meanOperand 516 = .ok (.laload, 1) := by decide +kernel
theorem dX15_meanOperand_517 : decode cX15_meanOperand 517 = .ok (.aload_n 0, 1) := by decide +kernel
theorem dX15_meanOperand_518 : decode cX15_meanOperand 518 = .ok (.getfield 234, 3) := by decide +kernel
theorem dX15_meanOperand_521 : decode cX15_meanOperand 521 = .ok (.aload_n 0, 1) := by decide +kernel
theorem dX15_meanOperand_522 : decode cX15_meanOperand 522 = .ok (.getfield 765, 3) := by decide +kernel
theorem dX15_meanOperand_525 : decode cX15_meanOperand 525 = .ok (.laload, 1) := by decide +kernel
theorem dX15_meanOperand_526 : decode cX15_meanOperand 526 = .ok (.invokevirtual 789, 3) := by decide +kernel
theorem dX15_meanOperand_529 : decode cX15_meanOperand 529 = .ok (.lastore, 1) := by decide +kernel
theorem dX15_meanOperand_530 : decode cX15_meanOperand 530 = .ok (.goto 66, 3) := by decide +kernel
theorem dX15_meanOperand_533 : decode cX15_meanOperand 533 = .ok (.aload_n 0, 1) := by decide +kernel
theorem dX15_meanOperand_534 : decode cX15_meanOperand 534 = .ok (.dup, 1) := by decide +kernel
theorem dX15_meanOperand_535 : decode cX15_meanOperand 535 = .ok (.getfield 765, 3) := by decide +kernel
theorem dX15_meanOperand_538 : decode cX15_meanOperand 538 = .ok (.iconst 2, 1) := by decide +kernel
theorem dX15_meanOperand_539 : decode cX15_meanOperand 539 = .ok (.isub, 1) := by decide +kernel
theorem dX15_meanOperand_540 : decode cX15_meanOperand 540 = .ok (.putfield 765, 3) := by decide +kernel
theorem dX15_meanOperand_543 : decode cX15_meanOperand 543 = .ok (.aload_n 0, 1) := by decide +kernel
theorem dX15_meanOperand_544 : decode cX15_meanOperand 544 = .ok (.getfield 234, 3) := by decide +kernel
theorem dX15_meanOperand_547 : decode cX15_meanOperand 547 = .ok (.aload_n 0, 1) := by decide +kernel
theorem dX15_meanOperand_548 : decode cX15_meanOperand 548 = .ok (.getfield 765, 3) := by decide +kernel
theorem dX15_meanOperand_551 : decode cX15_meanOperand 551 = .ok (.iconst 1, 1) := by decide +kernel
theorem dX15_meanOperand_552 : decode cX15_meanOperand 552 = .ok (.isub, 1) := by decide +kernel
theorem dX15_meanOperand_553 : decode cX15_meanOperand 553 = .ok (.aload_n 0, 1) := by decide +kernel
theorem dX15_meanOperand_554 : decode cX15_meanOperand 554 = .ok (.getfield 234, 3) := by decide +kernel
theorem dX15_meanOperand_557 : decode cX15_meanOperand 557 = .ok (.aload_n 0, 1) := by decide +kernel
theorem dX15_meanOperand_558 : decode cX15_meanOperand 558 = .ok (.getfield 765, 3) := by decide +kernel
theorem dX15_meanOperand_561 : decode cX15_meanOperand 561 = .ok (.iconst 1, 1) := by decide +kernel
theorem dX15_meanOperand_562 : decode cX15_meanOperand 562 = .ok (.isub, 1) := by decide +kernel
theorem dX15_meanOperand_563 : decode cX15_meanOperand 563 = .ok (.laload, 1) := by decide +kernel
theorem dX15_meanOperand_564 : decode cX15_meanOperand 564 = .ok (.lconst 1, 1) := by decide +kernel
theorem dX15_meanOperand_565 : decode cX15_meanOperand 565 = .ok (.lcmp, 1) := by decide +kernel
theorem dX15_meanOperand_566 : decode cX15_meanOperand 566 = .ok (.ifCond .ne 15, 3) := by decide +kernel
theorem dX15_meanOperand_569 : decode cX15_meanOperand 569 = .ok (.aload_n 0, 1) := by decide +kernel
theorem dX15_meanOperand_570 : decode cX15_meanOperand 570 = .ok (.getfield 234, 3) := by decide +kernel
theorem dX15_meanOperand_573 : decode cX15_meanOperand 573 = .ok (.aload_n 0, 1) := by decide +kernel
theorem dX15_meanOperand_574 : decode cX15_meanOperand 574 = .ok (.getfield 765, 3) := by decide +kernel
theorem dX15_meanOperand_577 : decode cX15_meanOperand 577 = .ok (.laload, 1) := by decide +kernel
theorem dX15_meanOperand_578 : decode cX15_meanOperand 578 = .ok (.goto 14, 3) := by decide +kernel
theorem dX15_meanOperand_581 : decode cX15_meanOperand 581 = .ok (.aload_n 0, 1) := by decide +kernel
theorem dX15_meanOperand_582 : decode cX15_meanOperand 582 = .ok (.getfield 234, 3) := by decide +kernel
theorem dX15_meanOperand_585 : decode cX15_meanOperand 585 = .ok (.aload_n 0, 1) := by decide +kernel
theorem dX15_meanOperand_586 : decode cX15_meanOperand 586 = .ok (.getfield 765, 3) := by decide +kernel
theorem dX15_meanOperand_589 : decode cX15_meanOperand 589 = .ok (.iconst 1, 1) := by decide +kernel
theorem dX15_meanOperand_590 : decode cX15_meanOperand 590 = .ok (.iadd, 1) := by decide +kernel
theorem dX15_meanOperand_591 : decode cX15_meanOperand 591 = .ok (.laload, 1) := by decide +kernel
theorem dX15_meanOperand_592 : decode cX15_meanOperand 592 = .ok (.lastore, 1) := by decide +kernel
theorem dX15_meanOperand_593 : decode cX15_meanOperand 593 = .ok (.goto 3, 3) := by decide +kernel
theorem dX15_meanOperand_596 : decode cX15_meanOperand 596 = .ok (.iload_n 1, 1) := by decide +kernel
theorem dX15_meanOperand_597 : decode cX15_meanOperand 597 = .ok (.iconst 1, 1) := by decide +kernel
theorem dX15_meanOperand_598 : decode cX15_meanOperand 598 = .ok (.iadd, 1) := by decide +kernel
theorem dX15_meanOperand_599 : decode cX15_meanOperand 599 = .ok (.ireturn, 1) := by decide +kernel
theorem dX15_pushWord_0 : decode cX15_pushWord 0 = .ok (.aload_n 0, 1) := by decide +kernel
theorem dX15_pushWord_1 : decode cX15_pushWord 1 = .ok (.getfield 234, 3) := by decide +kernel
theorem dX15_pushWord_4 : decode cX15_pushWord 4 = .ok (.aload_n 0, 1) := by decide +kernel
theorem dX15_pushWord_5 : decode cX15_pushWord 5 = .ok (.getfield 765, 3) := by decide +kernel
theorem dX15_pushWord_8 : decode cX15_pushWord 8 = .ok (.lload_n 1, 1) := by decide +kernel
theorem dX15_pushWord_9 : decode cX15_pushWord 9 = .ok (.lastore, 1) := by decide +kernel
theorem dX15_pushWord_10 : decode cX15_pushWord 10 = .ok (.aload_n 0, 1) := by decide +kernel
theorem dX15_pushWord_11 : decode cX15_pushWord 11 = .ok (.dup, 1) := by decide +kernel
theorem dX15_pushWord_12 : decode cX15_pushWord 12 = .ok (.getfield 765, 3) := by decide +kernel
theorem dX15_pushWord_15 : decode cX15_pushWord 15 = .ok (.iconst 1, 1) := by decide +kernel
theorem dX15_pushWord_16 : decode cX15_pushWord 16 = .ok (.iadd, 1) := by decide +kernel
theorem dX15_pushWord_17 : decode cX15_pushWord 17 = .ok (.putfield 765, 3) := by decide +kernel
theorem dX15_pushWord_20 : decode cX15_pushWord 20 = .ok (.return_, 1) := by decide +kernel
theorem dX15_inputWord_0 : decode cX15_inputWord 0 = .ok (.aload_n 0, 1) := by decide +kernel
theorem dX15_inputWord_1 : decode cX15_inputWord 1 = .ok (.getfield 762, 3) := by decide +kernel
theorem dX15_inputWord_4 : decode cX15_inputWord 4 = .ok (.ifCond .eq 12, 3) := by decide +kernel
theorem dX15_inputWord_7 : decode cX15_inputWord 7 = .ok (.aload_n 0, 1) := by decide +kernel
theorem dX15_inputWord_8 : decode cX15_inputWord 8 = .ok (.getfield 148, 3) := by decide +kernel
theorem dX15_inputWord_11 : decode cX15_inputWord 11 = .ok (.iload_n 1, 1) := by decide +kernel
theorem dX15_inputWord_12 : decode cX15_inputWord 12 = .ok (.laload, 1) := by decide +kernel
theorem dX15_inputWord_13 : decode cX15_inputWord 13 = .ok (.goto 9, 3) := by decide +kernel
theorem dX15_inputWord_16 : decode cX15_inputWord 16 = .ok (.aload_n 0, 1) := by decide +kernel
theorem dX15_inputWord_17 : decode cX15_inputWord 17 = .ok (.getfield 145, 3) := by decide +kernel
theorem dX15_inputWord_20 : decode cX15_inputWord 20 = .ok (.iload_n 1, 1) := by decide +kernel
theorem dX15_inputWord_21 : decode cX15_inputWord 21 = .ok (.laload, 1) := by decide +kernel
theorem dX15_inputWord_22 : decode cX15_inputWord 22 = .ok (.lreturn, 1) := by decide +kernel
theorem dX15_meanBinary_0 : decode cX15_meanBinary 0 = .ok (.iload_n 1, 1) := by decide +kernel
theorem dX15_meanBinary_1 : decode cX15_meanBinary 1 = .ok (.tableswitch 274 1 17 #[83, 88, 83, 93, 88, 98, 111, 124, 145, 166, 187, 208, 219, 225, 235, 245, 255], 83) := by decide +kernel
theorem dX15_meanBinary_84 : decode cX15_meanBinary 84 = .ok (.lload_n 2, 1) := by decide +kernel
theorem dX15_meanBinary_85 : decode cX15_meanBinary 85 = .ok (.lload 4, 2) := by decide +kernel
theorem dX15_meanBinary_87 : decode cX15_meanBinary 87 = .ok (.lor, 1) := by decide +kernel
theorem dX15_meanBinary_88 : decode cX15_meanBinary 88 = .ok (.lreturn, 1) := by decide +kernel
theorem dX15_meanBinary_89 : decode cX15_meanBinary 89 = .ok (.lload_n 2, 1) := by decide +kernel
theorem dX15_meanBinary_90 : decode cX15_meanBinary 90 = .ok (.lload 4, 2) := by decide +kernel
theorem dX15_meanBinary_92 : decode cX15_meanBinary 92 = .ok (.land, 1) := by decide +kernel
theorem dX15_meanBinary_93 : decode cX15_meanBinary 93 = .ok (.lreturn, 1) := by decide +kernel
theorem dX15_meanBinary_94 : decode cX15_meanBinary 94 = .ok (.lload_n 2, 1) := by decide +kernel
theorem dX15_meanBinary_95 : decode cX15_meanBinary 95 = .ok (.lload 4, 2) := by decide +kernel
theorem dX15_meanBinary_97 : decode cX15_meanBinary 97 = .ok (.lxor, 1) := by decide +kernel
theorem dX15_meanBinary_98 : decode cX15_meanBinary 98 = .ok (.lreturn, 1) := by decide +kernel
theorem dX15_meanBinary_99 : decode cX15_meanBinary 99 = .ok (.lload_n 2, 1) := by decide +kernel
theorem dX15_meanBinary_100 : decode cX15_meanBinary 100 = .ok (.lload 4, 2) := by decide +kernel
theorem dX15_meanBinary_102 : decode cX15_meanBinary 102 = .ok (.lcmp, 1) := by decide +kernel
theorem dX15_meanBinary_103 : decode cX15_meanBinary 103 = .ok (.ifCond .ne 7, 3) := by decide +kernel
theorem dX15_meanBinary_106 : decode cX15_meanBinary 106 = .ok (.lconst 1, 1) := by decide +kernel
theorem dX15_meanBinary_107 : decode cX15_meanBinary 107 = .ok (.goto 4, 3) := by decide +kernel
theorem dX15_meanBinary_110 : decode cX15_meanBinary 110 = .ok (.lconst 0, 1) := by decide +kernel
theorem dX15_meanBinary_111 : decode cX15_meanBinary 111 = .ok (.lreturn, 1) := by decide +kernel
theorem dX15_meanBinary_112 : decode cX15_meanBinary 112 = .ok (.lload_n 2, 1) := by decide +kernel
theorem dX15_meanBinary_113 : decode cX15_meanBinary 113 = .ok (.lload 4, 2) := by decide +kernel
theorem dX15_meanBinary_115 : decode cX15_meanBinary 115 = .ok (.lcmp, 1) := by decide +kernel
theorem dX15_meanBinary_116 : decode cX15_meanBinary 116 = .ok (.ifCond .ne 7, 3) := by decide +kernel
theorem dX15_meanBinary_119 : decode cX15_meanBinary 119 = .ok (.lconst 0, 1) := by decide +kernel
theorem dX15_meanBinary_120 : decode cX15_meanBinary 120 = .ok (.goto 4, 3) := by decide +kernel
theorem dX15_meanBinary_123 : decode cX15_meanBinary 123 = .ok (.lconst 1, 1) := by decide +kernel
theorem dX15_meanBinary_124 : decode cX15_meanBinary 124 = .ok (.lreturn, 1) := by decide +kernel
theorem dX15_meanBinary_125 : decode cX15_meanBinary 125 = .ok (.aload_n 0, 1) := by decide +kernel
theorem dX15_meanBinary_126 : decode cX15_meanBinary 126 = .ok (.lload_n 2, 1) := by decide +kernel
theorem dX15_meanBinary_127 : decode cX15_meanBinary 127 = .ok (.invokevirtual 793, 3) := by decide +kernel
theorem dX15_meanBinary_130 : decode cX15_meanBinary 130 = .ok (.aload_n 0, 1) := by decide +kernel
theorem dX15_meanBinary_131 : decode cX15_meanBinary 131 = .ok (.lload 4, 2) := by decide +kernel
theorem dX15_meanBinary_133 : decode cX15_meanBinary 133 = .ok (.invokevirtual 793, 3) := by decide +kernel
theorem dX15_meanBinary_136 : decode cX15_meanBinary 136 = .ok (.lcmp, 1) := by decide +kernel
theorem dX15_meanBinary_137 : decode cX15_meanBinary 137 = .ok (.ifCond .ge 7, 3) := by decide +kernel
theorem dX15_meanBinary_140 : decode cX15_meanBinary 140 = .ok (.lconst 1, 1) := by decide +kernel
theorem dX15_meanBinary_141 : decode cX15_meanBinary 141 = .ok (.goto 4, 3) := by decide +kernel
theorem dX15_meanBinary_144 : decode cX15_meanBinary 144 = .ok (.lconst 0, 1) := by decide +kernel
theorem dX15_meanBinary_145 : decode cX15_meanBinary 145 = .ok (.lreturn, 1) := by decide +kernel
theorem dX15_meanBinary_146 : decode cX15_meanBinary 146 = .ok (.aload_n 0, 1) := by decide +kernel
theorem dX15_meanBinary_147 : decode cX15_meanBinary 147 = .ok (.lload_n 2, 1) := by decide +kernel
theorem dX15_meanBinary_148 : decode cX15_meanBinary 148 = .ok (.invokevirtual 793, 3) := by decide +kernel
theorem dX15_meanBinary_151 : decode cX15_meanBinary 151 = .ok (.aload_n 0, 1) := by decide +kernel
theorem dX15_meanBinary_152 : decode cX15_meanBinary 152 = .ok (.lload 4, 2) := by decide +kernel
theorem dX15_meanBinary_154 : decode cX15_meanBinary 154 = .ok (.invokevirtual 793, 3) := by decide +kernel
theorem dX15_meanBinary_157 : decode cX15_meanBinary 157 = .ok (.lcmp, 1) := by decide +kernel
theorem dX15_meanBinary_158 : decode cX15_meanBinary 158 = .ok (.ifCond .gt 7, 3) := by decide +kernel
theorem dX15_meanBinary_161 : decode cX15_meanBinary 161 = .ok (.lconst 1, 1) := by decide +kernel
theorem dX15_meanBinary_162 : decode cX15_meanBinary 162 = .ok (.goto 4, 3) := by decide +kernel
theorem dX15_meanBinary_165 : decode cX15_meanBinary 165 = .ok (.lconst 0, 1) := by decide +kernel
theorem dX15_meanBinary_166 : decode cX15_meanBinary 166 = .ok (.lreturn, 1) := by decide +kernel
theorem dX15_meanBinary_167 : decode cX15_meanBinary 167 = .ok (.aload_n 0, 1) := by decide +kernel
theorem dX15_meanBinary_168 : decode cX15_meanBinary 168 = .ok (.lload_n 2, 1) := by decide +kernel
theorem dX15_meanBinary_169 : decode cX15_meanBinary 169 = .ok (.invokevirtual 793, 3) := by decide +kernel
theorem dX15_meanBinary_172 : decode cX15_meanBinary 172 = .ok (.aload_n 0, 1) := by decide +kernel
theorem dX15_meanBinary_173 : decode cX15_meanBinary 173 = .ok (.lload 4, 2) := by decide +kernel
theorem dX15_meanBinary_175 : decode cX15_meanBinary 175 = .ok (.invokevirtual 793, 3) := by decide +kernel
theorem dX15_meanBinary_178 : decode cX15_meanBinary 178 = .ok (.lcmp, 1) := by decide +kernel
theorem dX15_meanBinary_179 : decode cX15_meanBinary 179 = .ok (.ifCond .le 7, 3) := by decide +kernel
theorem dX15_meanBinary_182 : decode cX15_meanBinary 182 = .ok (.lconst 1, 1) := by decide +kernel
theorem dX15_meanBinary_183 : decode cX15_meanBinary 183 = .ok (.goto 4, 3) := by decide +kernel
theorem dX15_meanBinary_186 : decode cX15_meanBinary 186 = .ok (.lconst 0, 1) := by decide +kernel
theorem dX15_meanBinary_187 : decode cX15_meanBinary 187 = .ok (.lreturn, 1) := by decide +kernel
theorem dX15_meanBinary_188 : decode cX15_meanBinary 188 = .ok (.aload_n 0, 1) := by decide +kernel
theorem dX15_meanBinary_189 : decode cX15_meanBinary 189 = .ok (.lload_n 2, 1) := by decide +kernel
theorem dX15_meanBinary_190 : decode cX15_meanBinary 190 = .ok (.invokevirtual 793, 3) := by decide +kernel
theorem dX15_meanBinary_193 : decode cX15_meanBinary 193 = .ok (.aload_n 0, 1) := by decide +kernel
theorem dX15_meanBinary_194 : decode cX15_meanBinary 194 = .ok (.lload 4, 2) := by decide +kernel
theorem dX15_meanBinary_196 : decode cX15_meanBinary 196 = .ok (.invokevirtual 793, 3) := by decide +kernel
theorem dX15_meanBinary_199 : decode cX15_meanBinary 199 = .ok (.lcmp, 1) := by decide +kernel
theorem dX15_meanBinary_200 : decode cX15_meanBinary 200 = .ok (.ifCond .lt 7, 3) := by decide +kernel
theorem dX15_meanBinary_203 : decode cX15_meanBinary 203 = .ok (.lconst 1, 1) := by decide +kernel
theorem dX15_meanBinary_204 : decode cX15_meanBinary 204 = .ok (.goto 4, 3) := by decide +kernel
theorem dX15_meanBinary_207 : decode cX15_meanBinary 207 = .ok (.lconst 0, 1) := by decide +kernel
theorem dX15_meanBinary_208 : decode cX15_meanBinary 208 = .ok (.lreturn, 1) := by decide +kernel
theorem dX15_meanBinary_209 : decode cX15_meanBinary 209 = .ok (.lload_n 2, 1) := by decide +kernel
theorem dX15_meanBinary_210 : decode cX15_meanBinary 210 = .ok (.lload 4, 2) := by decide +kernel
theorem dX15_meanBinary_212 : decode cX15_meanBinary 212 = .ok (.l2i, 1) := by decide +kernel
theorem dX15_meanBinary_213 : decode cX15_meanBinary 213 = .ok (.lshl, 1) := by decide +kernel
theorem dX15_meanBinary_214 : decode cX15_meanBinary 214 = .ok (.aload_n 0, 1) := by decide +kernel
theorem dX15_meanBinary_215 : decode cX15_meanBinary 215 = .ok (.getfield 306, 3) := by decide +kernel
theorem dX15_meanBinary_218 : decode cX15_meanBinary 218 = .ok (.land, 1) := by decide +kernel
theorem dX15_meanBinary_219 : decode cX15_meanBinary 219 = .ok (.lreturn, 1) := by decide +kernel
theorem dX15_meanBinary_220 : decode cX15_meanBinary 220 = .ok (.lload_n 2, 1) := by decide +kernel
theorem dX15_meanBinary_221 : decode cX15_meanBinary 221 = .ok (.lload 4, 2) := by decide +kernel
theorem dX15_meanBinary_223 : decode cX15_meanBinary 223 = .ok (.l2i, 1) := by decide +kernel
theorem dX15_meanBinary_224 : decode cX15_meanBinary 224 = .ok (.lshr, 1) := by decide +kernel
theorem dX15_meanBinary_225 : decode cX15_meanBinary 225 = .ok (.lreturn, 1) := by decide +kernel
theorem dX15_meanBinary_226 : decode cX15_meanBinary 226 = .ok (.lload_n 2, 1) := by decide +kernel
theorem dX15_meanBinary_227 : decode cX15_meanBinary 227 = .ok (.lload 4, 2) := by decide +kernel
theorem dX15_meanBinary_229 : decode cX15_meanBinary 229 = .ok (.ladd, 1) := by decide +kernel
theorem dX15_meanBinary_230 : decode cX15_meanBinary 230 = .ok (.aload_n 0, 1) := by decide +kernel
theorem dX15_meanBinary_231 : decode cX15_meanBinary 231 = .ok (.getfield 306, 3) := by decide +kernel
theorem dX15_meanBinary_234 : decode cX15_meanBinary 234 = .ok (.land, 1) := by decide +kernel
theorem dX15_meanBinary_235 : decode cX15_meanBinary 235 = .ok (.lreturn, 1) := by decide +kernel
theorem dX15_meanBinary_236 : decode cX15_meanBinary 236 = .ok (.lload_n 2, 1) := by decide +kernel
theorem dX15_meanBinary_237 : decode cX15_meanBinary 237 = .ok (.lload 4, 2) := by decide +kernel
theorem dX15_meanBinary_239 : decode cX15_meanBinary 239 = .ok (.lsub, 1) := by decide +kernel
theorem dX15_meanBinary_240 : decode cX15_meanBinary 240 = .ok (.aload_n 0, 1) := by decide +kernel
theorem dX15_meanBinary_241 : decode cX15_meanBinary 241 = .ok (.getfield 306, 3) := by decide +kernel
theorem dX15_meanBinary_244 : decode cX15_meanBinary 244 = .ok (.land, 1) := by decide +kernel
theorem dX15_meanBinary_245 : decode cX15_meanBinary 245 = .ok (.lreturn, 1) := by decide +kernel
theorem dX15_meanBinary_246 : decode cX15_meanBinary 246 = .ok (.lload_n 2, 1) := by decide +kernel
theorem dX15_meanBinary_247 : decode cX15_meanBinary 247 = .ok (.lload 4, 2) := by decide +kernel
theorem dX15_meanBinary_249 : decode cX15_meanBinary 249 = .ok (.lmul, 1) := by decide +kernel
theorem dX15_meanBinary_250 : decode cX15_meanBinary 250 = .ok (.aload_n 0, 1) := by decide +kernel
theorem dX15_meanBinary_251 : decode cX15_meanBinary 251 = .ok (.getfield 306, 3) := by decide +kernel
theorem dX15_meanBinary_254 : decode cX15_meanBinary 254 = .ok (.land, 1) := by decide +kernel
theorem dX15_meanBinary_255 : decode cX15_meanBinary 255 = .ok (.lreturn, 1) := by decide +kernel
theorem dX15_meanBinary_256 : decode cX15_meanBinary 256 = .ok (.lload 4, 2) := by decide +kernel
theorem dX15_meanBinary_258 : decode cX15_meanBinary 258 = .ok (.lconst 0, 1) := by decide +kernel
theorem dX15_meanBinary_259 : decode cX15_meanBinary 259 = .ok (.lcmp, 1) := by decide +kernel
theorem dX15_meanBinary_260 : decode cX15_meanBinary 260 = .ok (.ifCond .ne 10, 3) := by decide +kernel
theorem dX15_meanBinary_263 : decode cX15_meanBinary 263 = .ok (.aload_n 0, 1) := by decide +kernel
theorem dX15_meanBinary_264 : decode cX15_meanBinary 264 = .ok (.getfield 306, 3) := by decide +kernel
theorem dX15_meanBinary_267 : decode cX15_meanBinary 267 = .ok (.goto 7, 3) := by decide +kernel
theorem dX15_meanBinary_270 : decode cX15_meanBinary 270 = .ok (.lload_n 2, 1) := by decide +kernel
theorem dX15_meanBinary_271 : decode cX15_meanBinary 271 = .ok (.lload 4, 2) := by decide +kernel
theorem dX15_meanBinary_273 : decode cX15_meanBinary 273 = .ok (.ldiv, 1) := by decide +kernel
theorem dX15_meanBinary_274 : decode cX15_meanBinary 274 = .ok (.lreturn, 1) := by decide +kernel
theorem dX15_meanBinary_275 : decode cX15_meanBinary 275 = .ok (.lload 4, 2) := by decide +kernel
theorem dX15_meanBinary_277 : decode cX15_meanBinary 277 = .ok (.lconst 0, 1) := by decide +kernel
theorem dX15_meanBinary_278 : decode cX15_meanBinary 278 = .ok (.lcmp, 1) := by decide +kernel
theorem dX15_meanBinary_279 : decode cX15_meanBinary 279 = .ok (.ifCond .ne 7, 3) := by decide +kernel
theorem dX15_meanBinary_282 : decode cX15_meanBinary 282 = .ok (.lload_n 2, 1) := by decide +kernel
theorem dX15_meanBinary_283 : decode cX15_meanBinary 283 = .ok (.goto 7, 3) := by decide +kernel
theorem dX15_meanBinary_286 : decode cX15_meanBinary 286 = .ok (.lload_n 2, 1) := by decide +kernel
theorem dX15_meanBinary_287 : decode cX15_meanBinary 287 = .ok (.lload 4, 2) := by decide +kernel
theorem dX15_meanBinary_289 : decode cX15_meanBinary 289 = .ok (.lrem, 1) := by decide +kernel
theorem dX15_meanBinary_290 : decode cX15_meanBinary 290 = .ok (.lreturn, 1) := by decide +kernel
theorem dX15_signed_0 : decode cX15_signed 0 = .ok (.lload_n 1, 1) := by decide +kernel
theorem dX15_signed_1 : decode cX15_signed 1 = .ok (.aload_n 0, 1) := by decide +kernel
theorem dX15_signed_2 : decode cX15_signed 2 = .ok (.getfield 303, 3) := by decide +kernel
theorem dX15_signed_5 : decode cX15_signed 5 = .ok (.iconst 1, 1) := by decide +kernel
theorem dX15_signed_6 : decode cX15_signed 6 = .ok (.isub, 1) := by decide +kernel
theorem dX15_signed_7 : decode cX15_signed 7 = .ok (.lshr, 1) := by decide +kernel
theorem dX15_signed_8 : decode cX15_signed 8 = .ok (.lconst 1, 1) := by decide +kernel
theorem dX15_signed_9 : decode cX15_signed 9 = .ok (.lcmp, 1) := by decide +kernel
theorem dX15_signed_10 : decode cX15_signed 10 = .ok (.ifCond .ne 14, 3) := by decide +kernel
theorem dX15_signed_13 : decode cX15_signed 13 = .ok (.lload_n 1, 1) := by decide +kernel
theorem dX15_signed_14 : decode cX15_signed 14 = .ok (.lconst 1, 1) := by decide +kernel
theorem dX15_signed_15 : decode cX15_signed 15 = .ok (.aload_n 0, 1) := by decide +kernel
theorem dX15_signed_16 : decode cX15_signed 16 = .ok (.getfield 303, 3) := by decide +kernel
theorem dX15_signed_19 : decode cX15_signed 19 = .ok (.lshl, 1) := by decide +kernel
theorem dX15_signed_20 : decode cX15_signed 20 = .ok (.lsub, 1) := by decide +kernel
theorem dX15_signed_21 : decode cX15_signed 21 = .ok (.goto 4, 3) := by decide +kernel
theorem dX15_signed_24 : decode cX15_signed 24 = .ok (.lload_n 1, 1) := by decide +kernel
theorem dX15_signed_25 : decode cX15_signed 25 = .ok (.lreturn, 1) := by decide +kernel
theorem dX15_meanStatement_0 : decode cX15_meanStatement 0 = .ok (.aload_n 0, 1) := by decide +kernel
theorem dX15_meanStatement_1 : decode cX15_meanStatement 1 = .ok (.getfield 22, 3) := by decide +kernel
theorem dX15_meanStatement_4 : decode cX15_meanStatement 4 = .ok (.iload_n 1, 1) := by decide +kernel
theorem dX15_meanStatement_5 : decode cX15_meanStatement 5 = .ok (.iaload, 1) := by decide +kernel
theorem dX15_meanStatement_6 : decode cX15_meanStatement 6 = .ok (.tableswitch 552 25 40 #[78, 172, 552, 552, 182, 242, 552, 283, 552, 316, 382, 415, 552, 552, 424, 502], 78) := by decide +kernel
theorem dX15_meanStatement_84 : decode cX15_meanStatement 84 = .ok (.lconst 0, 1) := by decide +kernel
theorem dX15_meanStatement_85 : decode cX15_meanStatement 85 = .ok (.lstore_n 2, 1) := by decide +kernel
theorem dX15_meanStatement_86 : decode cX15_meanStatement 86 = .ok (.aload_n 0, 1) := by decide +kernel
theorem dX15_meanStatement_87 : decode cX15_meanStatement 87 = .ok (.getfield 34, 3) := by decide +kernel
theorem dX15_meanStatement_90 : decode cX15_meanStatement 90 = .ok (.iload_n 1, 1) := by decide +kernel
theorem dX15_meanStatement_91 : decode cX15_meanStatement 91 = .ok (.laload, 1) := by decide +kernel
theorem dX15_meanStatement_92 : decode cX15_meanStatement 92 = .ok (.ldc2_w 499, 3) := by decide +kernel
theorem dX15_meanStatement_95 : decode cX15_meanStatement 95 = .ok (.lcmp, 1) := by decide +kernel
theorem dX15_meanStatement_96 : decode cX15_meanStatement 96 = .ok (.ifCond .lt 23, 3) := by decide +kernel
theorem dX15_meanStatement_99 : decode cX15_meanStatement 99 = .ok (.aload_n 0, 1) := by decide +kernel
theorem dX15_meanStatement_100 : decode cX15_meanStatement 100 = .ok (.dup, 1) := by decide +kernel
theorem dX15_meanStatement_101 : decode cX15_meanStatement 101 = .ok (.getfield 765, 3) := by decide +kernel
theorem dX15_meanStatement_104 : decode cX15_meanStatement 104 = .ok (.iconst 1, 1) := by decide +kernel
theorem dX15_meanStatement_105 : decode cX15_meanStatement 105 = .ok (.isub, 1) := by decide +kernel
theorem dX15_meanStatement_106 : decode cX15_meanStatement 106 = .ok (.putfield 765, 3) := by decide +kernel
theorem dX15_meanStatement_109 : decode cX15_meanStatement 109 = .ok (.aload_n 0, 1) := by decide +kernel
theorem dX15_meanStatement_110 : decode cX15_meanStatement 110 = .ok (.getfield 234, 3) := by decide +kernel
theorem dX15_meanStatement_113 : decode cX15_meanStatement 113 = .ok (.aload_n 0, 1) := by decide +kernel
theorem dX15_meanStatement_114 : decode cX15_meanStatement 114 = .ok (.getfield 765, 3) := by decide +kernel
theorem dX15_meanStatement_117 : decode cX15_meanStatement 117 = .ok (.laload, 1) := by decide +kernel
theorem dX15_meanStatement_118 : decode cX15_meanStatement 118 = .ok (.lstore_n 2, 1) := by decide +kernel
theorem dX15_meanStatement_119 : decode cX15_meanStatement 119 = .ok (.aload_n 0, 1) := by decide +kernel
theorem dX15_meanStatement_120 : decode cX15_meanStatement 120 = .ok (.getfield 34, 3) := by decide +kernel
theorem dX15_meanStatement_123 : decode cX15_meanStatement 123 = .ok (.iload_n 1, 1) := by decide +kernel
theorem dX15_meanStatement_124 : decode cX15_meanStatement 124 = .ok (.laload, 1) := by decide +kernel
theorem dX15_meanStatement_125 : decode cX15_meanStatement 125 = .ok (.bipush 8, 2) := by decide +kernel
theorem dX15_meanStatement_127 : decode cX15_meanStatement 127 = .ok (.lshr, 1) := by decide +kernel
theorem dX15_meanStatement_128 : decode cX15_meanStatement 128 = .ok (.ldc2_w 606, 3) := by decide +kernel
theorem dX15_meanStatement_131 : decode cX15_meanStatement 131 = .ok (.land, 1) := by decide +kernel
theorem dX15_meanStatement_132 : decode cX15_meanStatement 132 = .ok (.l2i, 1) := by decide +kernel
theorem dX15_meanStatement_133 : decode cX15_meanStatement 133 = .ok (.istore 4, 2) := by decide +kernel
theorem dX15_meanStatement_135 : decode cX15_meanStatement 135 = .ok (.iconst 0, 1) := by decide +kernel
theorem dX15_meanStatement_136 : decode cX15_meanStatement 136 = .ok (.istore 5, 2) := by decide +kernel
theorem dX15_meanStatement_138 : decode cX15_meanStatement 138 = .ok (.iload 5, 2) := by decide +kernel
theorem dX15_meanStatement_140 : decode cX15_meanStatement 140 = .ok (.iload 4, 2) := by decide +kernel
theorem dX15_meanStatement_142 : decode cX15_meanStatement 142 = .ok (.ifCond .ne 7, 3) := by decide +kernel
theorem dX15_meanStatement_145 : decode cX15_meanStatement 145 = .ok (.iconst 1, 1) := by decide +kernel
theorem dX15_meanStatement_146 : decode cX15_meanStatement 146 = .ok (.goto 5, 3) := by decide +kernel
theorem dX15_meanStatement_149 : decode cX15_meanStatement 149 = .ok (.iload 4, 2) := by decide +kernel
theorem dX15_meanStatement_151 : decode cX15_meanStatement 151 = .ok (.if_icmp .ge 24, 3) := by decide +kernel
theorem dX15_meanStatement_154 : decode cX15_meanStatement 154 = .ok (.aload_n 0, 1) := by decide +kernel
theorem dX15_meanStatement_155 : decode cX15_meanStatement 155 = .ok (.getfield 237, 3) := by decide +kernel
theorem dX15_meanStatement_158 : decode cX15_meanStatement 158 = .ok (.aload_n 0, 1) := by decide +kernel
theorem dX15_meanStatement_159 : decode cX15_meanStatement 159 = .ok (.getfield 56, 3) := by decide +kernel
theorem dX15_meanStatement_162 : decode cX15_meanStatement 162 = .ok (.iload_n 1, 1) := by decide +kernel
theorem dX15_meanStatement_163 : decode cX15_meanStatement 163 = .ok (.iaload, 1) := by decide +kernel
theorem dX15_meanStatement_164 : decode cX15_meanStatement 164 = .ok (.iload 5, 2) := by decide +kernel
theorem dX15_meanStatement_166 : decode cX15_meanStatement 166 = .ok (.iadd, 1) := by decide +kernel
theorem dX15_meanStatement_167 : decode cX15_meanStatement 167 = .ok (.lload_n 2, 1) := by decide +kernel
theorem dX15_meanStatement_168 : decode cX15_meanStatement 168 = .ok (.lastore, 1) := by decide +kernel
theorem dX15_meanStatement_169 : decode cX15_meanStatement 169 = .ok (.iinc 5 1, 3) := by decide +kernel
theorem dX15_meanStatement_172 : decode cX15_meanStatement 172 = .ok (.goto (-34), 3) := by decide +kernel
theorem dX15_meanStatement_175 : decode cX15_meanStatement 175 = .ok (.goto 383, 3) := by decide +kernel
theorem dX15_meanStatement_178 : decode cX15_meanStatement 178 = .ok (.aload_n 0, 1) := by decide +kernel
theorem dX15_meanStatement_179 : decode cX15_meanStatement 179 = .ok (.getfield 34, 3) := by decide +kernel
theorem dX15_meanStatement_182 : decode cX15_meanStatement 182 = .ok (.iload_n 1, 1) := by decide +kernel
theorem dX15_meanStatement_183 : decode cX15_meanStatement 183 = .ok (.laload, 1) := by decide +kernel
theorem dX15_meanStatement_184 : decode cX15_meanStatement 184 = .ok (.l2i, 1) := by decide +kernel
theorem dX15_meanStatement_185 : decode cX15_meanStatement 185 = .ok (.iconst 1, 1) := by decide +kernel
theorem dX15_meanStatement_186 : decode cX15_meanStatement 186 = .ok (.iadd, 1) := by decide +kernel
theorem dX15_meanStatement_187 : decode cX15_meanStatement 187 = .ok (.ireturn, 1) := by decide +kernel
theorem dX15_meanStatement_188 : decode cX15_meanStatement 188 = .ok (.aload_n 0, 1) := by decide +kernel
theorem dX15_meanStatement_189 : decode cX15_meanStatement 189 = .ok (.dup, 1) := by decide +kernel
theorem dX15_meanStatement_190 : decode cX15_meanStatement 190 = .ok (.getfield 681, 3) := by decide +kernel
theorem dX15_meanStatement_193 : decode cX15_meanStatement 193 = .ok (.iconst 1, 1) := by decide +kernel
theorem dX15_meanStatement_194 : decode cX15_meanStatement 194 = .ok (.isub, 1) := by decide +kernel
theorem dX15_meanStatement_195 : decode cX15_meanStatement 195 = .ok (.putfield 681, 3) := by decide +kernel
theorem dX15_meanStatement_198 : decode cX15_meanStatement 198 = .ok (.aload_n 0, 1) := by decide +kernel
theorem dX15_meanStatement_199 : decode cX15_meanStatement 199 = .ok (.getfield 234, 3) := by decide +kernel
theorem dX15_meanStatement_202 : decode cX15_meanStatement 202 = .ok (.aload_n 0, 1) := by decide +kernel
theorem dX15_meanStatement_203 : decode cX15_meanStatement 203 = .ok (.getfield 225, 3) := by decide +kernel
theorem dX15_meanStatement_206 : decode cX15_meanStatement 206 = .ok (.aload_n 0, 1) := by decide +kernel
theorem dX15_meanStatement_207 : decode cX15_meanStatement 207 = .ok (.getfield 681, 3) := by decide +kernel
theorem dX15_meanStatement_210 : decode cX15_meanStatement 210 = .ok (.iaload, 1) := by decide +kernel
theorem dX15_meanStatement_211 : decode cX15_meanStatement 211 = .ok (.aload_n 0, 1) := by decide +kernel
theorem dX15_meanStatement_212 : decode cX15_meanStatement 212 = .ok (.getfield 234, 3) := by decide +kernel
theorem dX15_meanStatement_215 : decode cX15_meanStatement 215 = .ok (.aload_n 0, 1) := by decide +kernel
theorem dX15_meanStatement_216 : decode cX15_meanStatement 216 = .ok (.getfield 765, 3) := by decide +kernel
theorem dX15_meanStatement_219 : decode cX15_meanStatement 219 = .ok (.iconst 1, 1) := by decide +kernel
theorem dX15_meanStatement_220 : decode cX15_meanStatement 220 = .ok (.isub, 1) := by decide +kernel
theorem dX15_meanStatement_221 : decode cX15_meanStatement 221 = .ok (.laload, 1) := by decide +kernel
theorem dX15_meanStatement_222 : decode cX15_meanStatement 222 = .ok (.lastore, 1) := by decide +kernel
theorem dX15_meanStatement_223 : decode cX15_meanStatement 223 = .ok (.aload_n 0, 1) := by decide +kernel
theorem dX15_meanStatement_224 : decode cX15_meanStatement 224 = .ok (.aload_n 0, 1) := by decide +kernel
theorem dX15_meanStatement_225 : decode cX15_meanStatement 225 = .ok (.getfield 225, 3) := by decide +kernel
theorem dX15_meanStatement_228 : decode cX15_meanStatement 228 = .ok (.aload_n 0, 1) := by decide +kernel
theorem dX15_meanStatement_229 : decode cX15_meanStatement 229 = .ok (.getfield 681, 3) := by decide +kernel
theorem dX15_meanStatement_232 : decode cX15_meanStatement 232 = .ok (.iaload, 1) := by decide +kernel
theorem dX15_meanStatement_233 : decode cX15_meanStatement 233 = .ok (.iconst 1, 1) := by decide +kernel
theorem dX15_meanStatement_234 : decode cX15_meanStatement 234 = .ok (.iadd, 1) := by decide +kernel
theorem dX15_meanStatement_235 : decode cX15_meanStatement 235 = .ok (.putfield 765, 3) := by decide +kernel
theorem dX15_meanStatement_238 : decode cX15_meanStatement 238 = .ok (.aload_n 0, 1) := by decide +kernel
theorem dX15_meanStatement_239 : decode cX15_meanStatement 239 = .ok (.getfield 228, 3) := by decide +kernel
theorem dX15_meanStatement_242 : decode cX15_meanStatement 242 = .ok (.aload_n 0, 1) := by decide +kernel
theorem dX15_meanStatement_243 : decode cX15_meanStatement 243 = .ok (.getfield 681, 3) := by decide +kernel
theorem dX15_meanStatement_246 : decode cX15_meanStatement 246 = .ok (.iaload, 1) := by decide +kernel
theorem dX15_meanStatement_247 : decode cX15_meanStatement 247 = .ok (.ireturn, 1) := by decide +kernel
theorem dX15_meanStatement_248 : decode cX15_meanStatement 248 = .ok (.aload_n 0, 1) := by decide +kernel
theorem dX15_meanStatement_249 : decode cX15_meanStatement 249 = .ok (.dup, 1) := by decide +kernel
theorem dX15_meanStatement_250 : decode cX15_meanStatement 250 = .ok (.getfield 765, 3) := by decide +kernel
theorem dX15_meanStatement_253 : decode cX15_meanStatement 253 = .ok (.iconst 1, 1) := by decide +kernel
theorem dX15_meanStatement_254 : decode cX15_meanStatement 254 = .ok (.isub, 1) := by decide +kernel
theorem dX15_meanStatement_255 : decode cX15_meanStatement 255 = .ok (.putfield 765, 3) := by decide +kernel
theorem dX15_meanStatement_258 : decode cX15_meanStatement 258 = .ok (.aload_n 0, 1) := by decide +kernel
theorem dX15_meanStatement_259 : decode cX15_meanStatement 259 = .ok (.getfield 240, 3) := by decide +kernel
theorem dX15_meanStatement_262 : decode cX15_meanStatement 262 = .ok (.aload_n 0, 1) := by decide +kernel
theorem dX15_meanStatement_263 : decode cX15_meanStatement 263 = .ok (.getfield 768, 3) := by decide +kernel
theorem dX15_meanStatement_266 : decode cX15_meanStatement 266 = .ok (.aload_n 0, 1) := by decide +kernel
theorem dX15_meanStatement_267 : decode cX15_meanStatement 267 = .ok (.getfield 234, 3) := by decide +kernel
theorem dX15_meanStatement_270 : decode cX15_meanStatement 270 = .ok (.aload_n 0, 1) := by decide +kernel
theorem dX15_meanStatement_271 : decode cX15_meanStatement 271 = .ok (.getfield 765, 3) := by decide +kernel
theorem dX15_meanStatement_274 : decode cX15_meanStatement 274 = .ok (.laload, 1) := by decide +kernel
theorem dX15_meanStatement_275 : decode cX15_meanStatement 275 = .ok (.lastore, 1) := by decide +kernel
theorem dX15_meanStatement_276 : decode cX15_meanStatement 276 = .ok (.aload_n 0, 1) := by decide +kernel
theorem dX15_meanStatement_277 : decode cX15_meanStatement 277 = .ok (.dup, 1) := by decide +kernel
theorem dX15_meanStatement_278 : decode cX15_meanStatement 278 = .ok (.getfield 768, 3) := by decide +kernel
theorem dX15_meanStatement_281 : decode cX15_meanStatement 281 = .ok (.iconst 1, 1) := by decide +kernel
theorem dX15_meanStatement_282 : decode cX15_meanStatement 282 = .ok (.iadd, 1) := by decide +kernel
theorem dX15_meanStatement_283 : decode cX15_meanStatement 283 = .ok (.putfield 768, 3) := by decide +kernel
theorem dX15_meanStatement_286 : decode cX15_meanStatement 286 = .ok (.goto 272, 3) := by decide +kernel
theorem dX15_meanStatement_289 : decode cX15_meanStatement 289 = .ok (.aload_n 0, 1) := by decide +kernel
theorem dX15_meanStatement_290 : decode cX15_meanStatement 290 = .ok (.dup, 1) := by decide +kernel
theorem dX15_meanStatement_291 : decode cX15_meanStatement 291 = .ok (.getfield 765, 3) := by decide +kernel
theorem dX15_meanStatement_294 : decode cX15_meanStatement 294 = .ok (.iconst 1, 1) := by decide +kernel
theorem dX15_meanStatement_295 : decode cX15_meanStatement 295 = .ok (.isub, 1) := by decide +kernel
theorem dX15_meanStatement_296 : decode cX15_meanStatement 296 = .ok (.putfield 765, 3) := by decide +kernel
theorem dX15_meanStatement_299 : decode cX15_meanStatement 299 = .ok (.aload_n 0, 1) := by decide +kernel
theorem dX15_meanStatement_300 : decode cX15_meanStatement 300 = .ok (.getfield 237, 3) := by decide +kernel
theorem dX15_meanStatement_303 : decode cX15_meanStatement 303 = .ok (.aload_n 0, 1) := by decide +kernel
theorem dX15_meanStatement_304 : decode cX15_meanStatement 304 = .ok (.getfield 99, 3) := by decide +kernel
theorem dX15_meanStatement_307 : decode cX15_meanStatement 307 = .ok (.iload_n 1, 1) := by decide +kernel
theorem dX15_meanStatement_308 : decode cX15_meanStatement 308 = .ok (.iaload, 1) := by decide +kernel
theorem dX15_meanStatement_309 : decode cX15_meanStatement 309 = .ok (.aload_n 0, 1) := by decide +kernel
theorem dX15_meanStatement_310 : decode cX15_meanStatement 310 = .ok (.getfield 234, 3) := by decide +kernel
theorem dX15_meanStatement_313 : decode cX15_meanStatement 313 = .ok (.aload_n 0, 1) := by decide +kernel
theorem dX15_meanStatement_314 : decode cX15_meanStatement 314 = .ok (.getfield 765, 3) := by decide +kernel
theorem dX15_meanStatement_317 : decode cX15_meanStatement 317 = .ok (.laload, 1) := by decide +kernel
theorem dX15_meanStatement_318 : decode cX15_meanStatement 318 = .ok (.lastore, 1) := by decide +kernel
theorem dX15_meanStatement_319 : decode cX15_meanStatement 319 = .ok (.goto 239, 3) := by decide +kernel
theorem dX15_meanStatement_322 : decode cX15_meanStatement 322 = .ok (.aload_n 0, 1) := by decide +kernel
theorem dX15_meanStatement_323 : decode cX15_meanStatement 323 = .ok (.dup, 1) := by decide +kernel
theorem dX15_meanStatement_324 : decode cX15_meanStatement 324 = .ok (.getfield 765, 3) := by decide +kernel
theorem dX15_meanStatement_327 : decode cX15_meanStatement 327 = .ok (.iconst 2, 1) := by decide +kernel
theorem dX15_meanStatement_328 : decode cX15_meanStatement 328 = .ok (.isub, 1) := by decide +kernel
theorem dX15_meanStatement_329 : decode cX15_meanStatement 329 = .ok (.putfield 765, 3) := by decide +kernel
theorem dX15_meanStatement_332 : decode cX15_meanStatement 332 = .ok (.aload_n 0, 1) := by decide +kernel
theorem dX15_meanStatement_333 : decode cX15_meanStatement 333 = .ok (.getfield 234, 3) := by decide +kernel
theorem dX15_meanStatement_336 : decode cX15_meanStatement 336 = .ok (.aload_n 0, 1) := by decide +kernel
theorem dX15_meanStatement_337 : decode cX15_meanStatement 337 = .ok (.getfield 765, 3) := by decide +kernel
theorem dX15_meanStatement_340 : decode cX15_meanStatement 340 = .ok (.laload, 1) := by decide +kernel
theorem dX15_meanStatement_341 : decode cX15_meanStatement 341 = .ok (.aload_n 0, 1) := by decide +kernel
theorem dX15_meanStatement_342 : decode cX15_meanStatement 342 = .ok (.getfield 102, 3) := by decide +kernel
theorem dX15_meanStatement_345 : decode cX15_meanStatement 345 = .ok (.iload_n 1, 1) := by decide +kernel
theorem dX15_meanStatement_346 : decode cX15_meanStatement 346 = .ok (.iaload, 1) := by decide +kernel
theorem dX15_meanStatement_347 : decode cX15_meanStatement 347 = .ok (.i2l, 1) := by decide +kernel
theorem dX15_meanStatement_348 : decode cX15_meanStatement 348 = .ok (.lcmp, 1) := by decide +kernel
theorem dX15_meanStatement_349 : decode cX15_meanStatement 349 = .ok (.ifCond .ge 209, 3) := by decide +kernel
theorem dX15_meanStatement_352 : decode cX15_meanStatement 352 = .ok (.aload_n 0, 1) := by decide +kernel
theorem dX15_meanStatement_353 : decode cX15_meanStatement 353 = .ok (.getfield 237, 3) := by decide +kernel
theorem dX15_meanStatement_356 : decode cX15_meanStatement 356 = .ok (.aload_n 0, 1) := by decide +kernel
theorem dX15_meanStatement_357 : decode cX15_meanStatement 357 = .ok (.getfield 99, 3) := by decide +kernel
theorem dX15_meanStatement_360 : decode cX15_meanStatement 360 = .ok (.iload_n 1, 1) := by decide +kernel
theorem dX15_meanStatement_361 : decode cX15_meanStatement 361 = .ok (.iaload, 1) := by decide +kernel
theorem dX15_meanStatement_362 : decode cX15_meanStatement 362 = .ok (.aload_n 0, 1) := by decide +kernel
theorem dX15_meanStatement_363 : decode cX15_meanStatement 363 = .ok (.getfield 234, 3) := by decide +kernel
theorem dX15_meanStatement_366 : decode cX15_meanStatement 366 = .ok (.aload_n 0, 1) := by decide +kernel
theorem dX15_meanStatement_367 : decode cX15_meanStatement 367 = .ok (.getfield 765, 3) := by decide +kernel
theorem dX15_meanStatement_370 : decode cX15_meanStatement 370 = .ok (.laload, 1) := by decide +kernel
theorem dX15_meanStatement_371 : decode cX15_meanStatement 371 = .ok (.l2i, 1) := by decide +kernel
theorem dX15_meanStatement_372 : decode cX15_meanStatement 372 = .ok (.iadd, 1) := by decide +kernel
theorem dX15_meanStatement_373 : decode cX15_meanStatement 373 = .ok (.aload_n 0, 1) := by decide +kernel
theorem dX15_meanStatement_374 : decode cX15_meanStatement 374 = .ok (.getfield 234, 3) := by decide +kernel
theorem dX15_meanStatement_377 : decode cX15_meanStatement 377 = .ok (.aload_n 0, 1) := by decide +kernel
theorem dX15_meanStatement_378 : decode cX15_meanStatement 378 = .ok (.getfield 765, 3) := by decide +kernel
theorem dX15_meanStatement_381 : decode cX15_meanStatement 381 = .ok (.iconst 1, 1) := by decide +kernel
theorem dX15_meanStatement_382 : decode cX15_meanStatement 382 = .ok (.iadd, 1) := by decide +kernel
theorem dX15_meanStatement_383 : decode cX15_meanStatement 383 = .ok (.laload, 1) := by decide +kernel
theorem dX15_meanStatement_384 : decode cX15_meanStatement 384 = .ok (.lastore, 1) := by decide +kernel
theorem dX15_meanStatement_385 : decode cX15_meanStatement 385 = .ok (.goto 173, 3) := by decide +kernel
theorem dX15_meanStatement_388 : decode cX15_meanStatement 388 = .ok (.aload_n 0, 1) := by decide +kernel
theorem dX15_meanStatement_389 : decode cX15_meanStatement 389 = .ok (.dup, 1) := by decide +kernel
theorem dX15_meanStatement_390 : decode cX15_meanStatement 390 = .ok (.getfield 765, 3) := by decide +kernel
theorem dX15_meanStatement_393 : decode cX15_meanStatement 393 = .ok (.iconst 1, 1) := by decide +kernel
theorem dX15_meanStatement_394 : decode cX15_meanStatement 394 = .ok (.isub, 1) := by decide +kernel
theorem dX15_meanStatement_395 : decode cX15_meanStatement 395 = .ok (.putfield 765, 3) := by decide +kernel
theorem dX15_meanStatement_398 : decode cX15_meanStatement 398 = .ok (.aload_n 0, 1) := by decide +kernel
theorem dX15_meanStatement_399 : decode cX15_meanStatement 399 = .ok (.getfield 234, 3) := by decide +kernel
theorem dX15_meanStatement_402 : decode cX15_meanStatement 402 = .ok (.aload_n 0, 1) := by decide +kernel
theorem dX15_meanStatement_403 : decode cX15_meanStatement 403 = .ok (.getfield 765, 3) := by decide +kernel
theorem dX15_meanStatement_406 : decode cX15_meanStatement 406 = .ok (.laload, 1) := by decide +kernel
theorem dX15_meanStatement_407 : decode cX15_meanStatement 407 = .ok (.lconst 0, 1) := by decide +kernel
theorem dX15_meanStatement_408 : decode cX15_meanStatement 408 = .ok (.lcmp, 1) := by decide +kernel
theorem dX15_meanStatement_409 : decode cX15_meanStatement 409 = .ok (.ifCond .ne 149, 3) := by decide +kernel
theorem dX15_meanStatement_412 : decode cX15_meanStatement 412 = .ok (.aload_n 0, 1) := by decide +kernel
theorem dX15_meanStatement_413 : decode cX15_meanStatement 413 = .ok (.getfield 28, 3) := by decide +kernel
theorem dX15_meanStatement_416 : decode cX15_meanStatement 416 = .ok (.iload_n 1, 1) := by decide +kernel
theorem dX15_meanStatement_417 : decode cX15_meanStatement 417 = .ok (.iaload, 1) := by decide +kernel
theorem dX15_meanStatement_418 : decode cX15_meanStatement 418 = .ok (.iconst 1, 1) := by decide +kernel
theorem dX15_meanStatement_419 : decode cX15_meanStatement 419 = .ok (.iadd, 1) := by decide +kernel
theorem dX15_meanStatement_420 : decode cX15_meanStatement 420 = .ok (.ireturn, 1) := by decide +kernel
theorem dX15_meanStatement_421 : decode cX15_meanStatement 421 = .ok (.aload_n 0, 1) := by decide +kernel
theorem dX15_meanStatement_422 : decode cX15_meanStatement 422 = .ok (.getfield 28, 3) := by decide +kernel
theorem dX15_meanStatement_425 : decode cX15_meanStatement 425 = .ok (.iload_n 1, 1) := by decide +kernel
theorem dX15_meanStatement_426 : decode cX15_meanStatement 426 = .ok (.iaload, 1) := by decide +kernel
theorem dX15_meanStatement_427 : decode cX15_meanStatement 427 = .ok (.iconst 1, 1) := by decide +kernel
theorem dX15_meanStatement_428 : decode cX15_meanStatement 428 = .ok (.iadd, 1) := by decide +kernel
theorem dX15_meanStatement_429 : decode cX15_meanStatement 429 = .ok (.ireturn, 1) := by decide +kernel
theorem dX15_meanStatement_430 : decode cX15_meanStatement 430 = .ok (.aload_n 0, 1) := by decide +kernel
theorem dX15_meanStatement_431 : decode cX15_meanStatement 431 = .ok (.dup, 1) := by decide +kernel
theorem dX15_meanStatement_432 : decode cX15_meanStatement 432 = .ok (.getfield 765, 3) := by decide +kernel
theorem dX15_meanStatement_435 : decode cX15_meanStatement 435 = .ok (.iconst 2, 1) := by decide +kernel
theorem dX15_meanStatement_436 : decode cX15_meanStatement 436 = .ok (.isub, 1) := by decide +kernel
theorem dX15_meanStatement_437 : decode cX15_meanStatement 437 = .ok (.putfield 765, 3) := by decide +kernel
theorem dX15_meanStatement_440 : decode cX15_meanStatement 440 = .ok (.aload_n 0, 1) := by decide +kernel
theorem dX15_meanStatement_441 : decode cX15_meanStatement 441 = .ok (.getfield 234, 3) := by decide +kernel
theorem dX15_meanStatement_444 : decode cX15_meanStatement 444 = .ok (.aload_n 0, 1) := by decide +kernel
theorem dX15_meanStatement_445 : decode cX15_meanStatement 445 = .ok (.getfield 765, 3) := by decide +kernel
theorem dX15_meanStatement_448 : decode cX15_meanStatement 448 = .ok (.laload, 1) := by decide +kernel
theorem dX15_meanStatement_449 : decode cX15_meanStatement 449 = .ok (.aload_n 0, 1) := by decide +kernel
theorem dX15_meanStatement_450 : decode cX15_meanStatement 450 = .ok (.getfield 234, 3) := by decide +kernel
theorem dX15_meanStatement_453 : decode cX15_meanStatement 453 = .ok (.aload_n 0, 1) := by decide +kernel
theorem dX15_meanStatement_454 : decode cX15_meanStatement 454 = .ok (.getfield 765, 3) := by decide +kernel
theorem dX15_meanStatement_457 : decode cX15_meanStatement 457 = .ok (.iconst 1, 1) := by decide +kernel
theorem dX15_meanStatement_458 : decode cX15_meanStatement 458 = .ok (.iadd, 1) := by decide +kernel
theorem dX15_meanStatement_459 : decode cX15_meanStatement 459 = .ok (.laload, 1) := by decide +kernel
theorem dX15_meanStatement_460 : decode cX15_meanStatement 460 = .ok (.lcmp, 1) := by decide +kernel
theorem dX15_meanStatement_461 : decode cX15_meanStatement 461 = .ok (.ifCond .le 12, 3) := by decide +kernel
theorem dX15_meanStatement_464 : decode cX15_meanStatement 464 = .ok (.aload_n 0, 1) := by decide +kernel
theorem dX15_meanStatement_465 : decode cX15_meanStatement 465 = .ok (.getfield 28, 3) := by decide +kernel
theorem dX15_meanStatement_468 : decode cX15_meanStatement 468 = .ok (.iload_n 1, 1) := by decide +kernel
theorem dX15_meanStatement_469 : decode cX15_meanStatement 469 = .ok (.iaload, 1) := by decide +kernel
theorem dX15_meanStatement_470 : decode cX15_meanStatement 470 = .ok (.iconst 1, 1) := by decide +kernel
theorem dX15_meanStatement_471 : decode cX15_meanStatement 471 = .ok (.iadd, 1) := by decide +kernel
theorem dX15_meanStatement_472 : decode cX15_meanStatement 472 = .ok (.ireturn, 1) := by decide +kernel
theorem dX15_meanStatement_473 : decode cX15_meanStatement 473 = .ok (.aload_n 0, 1) := by decide +kernel
theorem dX15_meanStatement_474 : decode cX15_meanStatement 474 = .ok (.getfield 216, 3) := by decide +kernel
theorem dX15_meanStatement_477 : decode cX15_meanStatement 477 = .ok (.iload_n 1, 1) := by decide +kernel
theorem dX15_meanStatement_478 : decode cX15_meanStatement 478 = .ok (.aload_n 0, 1) := by decide +kernel
theorem dX15_meanStatement_479 : decode cX15_meanStatement 479 = .ok (.getfield 234, 3) := by decide +kernel
theorem dX15_meanStatement_482 : decode cX15_meanStatement 482 = .ok (.aload_n 0, 1) := by decide +kernel
theorem dX15_meanStatement_483 : decode cX15_meanStatement 483 = .ok (.getfield 765, 3) := by decide +kernel
theorem dX15_meanStatement_486 : decode cX15_meanStatement 486 = .ok (.laload, 1) := by decide +kernel
theorem dX15_meanStatement_487 : decode cX15_meanStatement 487 = .ok (.lastore, 1) := by decide +kernel
theorem dX15_meanStatement_488 : decode cX15_meanStatement 488 = .ok (.aload_n 0, 1) := by decide +kernel
theorem dX15_meanStatement_489 : decode cX15_meanStatement 489 = .ok (.getfield 219, 3) := by decide +kernel
theorem dX15_meanStatement_492 : decode cX15_meanStatement 492 = .ok (.iload_n 1, 1) := by decide +kernel
theorem dX15_meanStatement_493 : decode cX15_meanStatement 493 = .ok (.aload_n 0, 1) := by decide +kernel
theorem dX15_meanStatement_494 : decode cX15_meanStatement 494 = .ok (.getfield 234, 3) := by decide +kernel
theorem dX15_meanStatement_497 : decode cX15_meanStatement 497 = .ok (.aload_n 0, 1) := by decide +kernel
theorem dX15_meanStatement_498 : decode cX15_meanStatement 498 = .ok (.getfield 765, 3) := by decide +kernel
theorem dX15_meanStatement_501 : decode cX15_meanStatement 501 = .ok (.iconst 1, 1) := by decide +kernel
theorem dX15_meanStatement_502 : decode cX15_meanStatement 502 = .ok (.iadd, 1) := by decide +kernel
theorem dX15_meanStatement_503 : decode cX15_meanStatement 503 = .ok (.laload, 1) := by decide +kernel
theorem dX15_meanStatement_504 : decode cX15_meanStatement 504 = .ok (.lastore, 1) := by decide +kernel
theorem dX15_meanStatement_505 : decode cX15_meanStatement 505 = .ok (.goto 53, 3) := by decide +kernel
theorem dX15_meanStatement_508 : decode cX15_meanStatement 508 = .ok (.aload_n 0, 1) := by decide +kernel
theorem dX15_meanStatement_509 : decode cX15_meanStatement 509 = .ok (.getfield 216, 3) := by decide +kernel
theorem dX15_meanStatement_512 : decode cX15_meanStatement 512 = .ok (.aload_n 0, 1) := by decide +kernel
theorem dX15_meanStatement_513 : decode cX15_meanStatement 513 = .ok (.getfield 25, 3) := by decide +kernel
theorem dX15_meanStatement_516 : decode cX15_meanStatement 516 = .ok (.iload_n 1, 1) := by decide +kernel
theorem dX15_meanStatement_517 : decode cX15_meanStatement 517 = .ok (.iaload, 1) := by decide +kernel
theorem dX15_meanStatement_518 : decode cX15_meanStatement 518 = .ok (.laload, 1) := by decide +kernel
theorem dX15_meanStatement_519 : decode cX15_meanStatement 519 = .ok (.aload_n 0, 1) := by decide +kernel
theorem dX15_meanStatement_520 : decode cX15_meanStatement 520 = .ok (.getfield 219, 3) := by decide +kernel
theorem dX15_meanStatement_523 : decode cX15_meanStatement 523 = .ok (.aload_n 0, 1) := by decide +kernel
theorem dX15_meanStatement_524 : decode cX15_meanStatement 524 = .ok (.getfield 25, 3) := by decide +kernel
theorem dX15_meanStatement_527 : decode cX15_meanStatement 527 = .ok (.iload_n 1, 1) := by decide +kernel
theorem dX15_meanStatement_528 : decode cX15_meanStatement 528 = .ok (.iaload, 1) := by decide +kernel
theorem dX15_meanStatement_529 : decode cX15_meanStatement 529 = .ok (.laload, 1) := by decide +kernel
theorem dX15_meanStatement_530 : decode cX15_meanStatement 530 = .ok (.lcmp, 1) := by decide +kernel
theorem dX15_meanStatement_531 : decode cX15_meanStatement 531 = .ok (.ifCond .ge 27, 3) := by decide +kernel
theorem dX15_meanStatement_534 : decode cX15_meanStatement 534 = .ok (.aload_n 0, 1) := by decide +kernel
theorem dX15_meanStatement_535 : decode cX15_meanStatement 535 = .ok (.getfield 216, 3) := by decide +kernel
theorem dX15_meanStatement_538 : decode cX15_meanStatement 538 = .ok (.aload_n 0, 1) := by decide +kernel
theorem dX15_meanStatement_539 : decode cX15_meanStatement 539 = .ok (.getfield 25, 3) := by decide +kernel
theorem dX15_meanStatement_542 : decode cX15_meanStatement 542 = .ok (.iload_n 1, 1) := by decide +kernel
theorem dX15_meanStatement_543 : decode cX15_meanStatement 543 = .ok (.iaload, 1) := by decide +kernel
theorem dX15_meanStatement_544 : decode cX15_meanStatement 544 = .ok (.dup2, 1) := by decide +kernel
theorem dX15_meanStatement_545 : decode cX15_meanStatement 545 = .ok (.laload, 1) := by decide +kernel
theorem dX15_meanStatement_546 : decode cX15_meanStatement 546 = .ok (.lconst 1, 1) := by decide +kernel
theorem dX15_meanStatement_547 : decode cX15_meanStatement 547 = .ok (.ladd, 1) := by decide +kernel
theorem dX15_meanStatement_548 : decode cX15_meanStatement 548 = .ok (.lastore, 1) := by decide +kernel
theorem dX15_meanStatement_549 : decode cX15_meanStatement 549 = .ok (.aload_n 0, 1) := by decide +kernel
theorem dX15_meanStatement_550 : decode cX15_meanStatement 550 = .ok (.getfield 25, 3) := by decide +kernel
theorem dX15_meanStatement_553 : decode cX15_meanStatement 553 = .ok (.iload_n 1, 1) := by decide +kernel
theorem dX15_meanStatement_554 : decode cX15_meanStatement 554 = .ok (.iaload, 1) := by decide +kernel
theorem dX15_meanStatement_555 : decode cX15_meanStatement 555 = .ok (.iconst 1, 1) := by decide +kernel
theorem dX15_meanStatement_556 : decode cX15_meanStatement 556 = .ok (.iadd, 1) := by decide +kernel
theorem dX15_meanStatement_557 : decode cX15_meanStatement 557 = .ok (.ireturn, 1) := by decide +kernel
theorem dX15_meanStatement_558 : decode cX15_meanStatement 558 = .ok (.iload_n 1, 1) := by decide +kernel
theorem dX15_meanStatement_559 : decode cX15_meanStatement 559 = .ok (.iconst 1, 1) := by decide +kernel
theorem dX15_meanStatement_560 : decode cX15_meanStatement 560 = .ok (.iadd, 1) := by decide +kernel
theorem dX15_meanStatement_561 : decode cX15_meanStatement 561 = .ok (.ireturn, 1) := by decide +kernel
