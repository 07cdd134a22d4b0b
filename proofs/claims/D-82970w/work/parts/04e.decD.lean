set_option maxRecDepth 100000
theorem dX11_init_0 : decode cX11_init 0 = .ok (.aload_n 0, 1) := by decide +kernel
theorem dX11_init_1 : decode cX11_init 1 = .ok (.invokespecial 3, 3) := by decide +kernel
theorem dX11_init_4 : decode cX11_init 4 = .ok (.aload_n 0, 1) := by decide +kernel
theorem dX11_init_5 : decode cX11_init 5 = .ok (.sipush 256, 3) := by decide +kernel
theorem dX11_init_8 : decode cX11_init 8 = .ok (.newarray .int, 2) := by decide +kernel
theorem dX11_init_10 : decode cX11_init 10 = .ok (.putfield 9, 3) := by decide +kernel
theorem dX11_init_13 : decode cX11_init 13 = .ok (.aload_n 0, 1) := by decide +kernel
theorem dX11_init_14 : decode cX11_init 14 = .ok (.sipush 256, 3) := by decide +kernel
theorem dX11_init_17 : decode cX11_init 17 = .ok (.newarray .int, 2) := by decide +kernel
theorem dX11_init_19 : decode cX11_init 19 = .ok (.putfield 15, 3) := by decide +kernel
theorem dX11_init_22 : decode cX11_init 22 = .ok (.aload_n 0, 1) := by decide +kernel
theorem dX11_init_23 : decode cX11_init 23 = .ok (.sipush 256, 3) := by decide +kernel
theorem dX11_init_26 : decode cX11_init 26 = .ok (.newarray .int, 2) := by decide +kernel
theorem dX11_init_28 : decode cX11_init 28 = .ok (.putfield 18, 3) := by decide +kernel
theorem dX11_init_31 : decode cX11_init 31 = .ok (.aload_n 0, 1) := by decide +kernel
theorem dX11_init_32 : decode cX11_init 32 = .ok (.sipush 256, 3) := by decide +kernel
theorem dX11_init_35 : decode cX11_init 35 = .ok (.newarray .int, 2) := by decide +kernel
theorem dX11_init_37 : decode cX11_init 37 = .ok (.putfield 21, 3) := by decide +kernel
theorem dX11_init_40 : decode cX11_init 40 = .ok (.aload_n 0, 1) := by decide +kernel
theorem dX11_init_41 : decode cX11_init 41 = .ok (.bipush 31, 2) := by decide +kernel
theorem dX11_init_43 : decode cX11_init 43 = .ok (.newarray .int, 2) := by decide +kernel
theorem dX11_init_45 : decode cX11_init 45 = .ok (.putfield 24, 3) := by decide +kernel
theorem dX11_init_48 : decode cX11_init 48 = .ok (.aload_n 0, 1) := by decide +kernel
theorem dX11_init_49 : decode cX11_init 49 = .ok (.bipush 31, 2) := by decide +kernel
theorem dX11_init_51 : decode cX11_init 51 = .ok (.newarray .int, 2) := by decide +kernel
theorem dX11_init_53 : decode cX11_init 53 = .ok (.putfield 27, 3) := by decide +kernel
theorem dX11_init_56 : decode cX11_init 56 = .ok (.aload_n 0, 1) := by decide +kernel
theorem dX11_init_57 : decode cX11_init 57 = .ok (.bipush 31, 2) := by decide +kernel
theorem dX11_init_59 : decode cX11_init 59 = .ok (.newarray .int, 2) := by decide +kernel
theorem dX11_init_61 : decode cX11_init 61 = .ok (.putfield 30, 3) := by decide +kernel
theorem dX11_init_64 : decode cX11_init 64 = .ok (.aload_n 0, 1) := by decide +kernel
theorem dX11_init_65 : decode cX11_init 65 = .ok (.bipush 31, 2) := by decide +kernel
theorem dX11_init_67 : decode cX11_init 67 = .ok (.anewarray 33, 3) := by decide +kernel
theorem dX11_init_70 : decode cX11_init 70 = .ok (.putfield 34, 3) := by decide +kernel
theorem dX11_init_73 : decode cX11_init 73 = .ok (.aload_n 0, 1) := by decide +kernel
theorem dX11_init_74 : decode cX11_init 74 = .ok (.bipush 31, 2) := by decide +kernel
theorem dX11_init_76 : decode cX11_init 76 = .ok (.anewarray 33, 3) := by decide +kernel
theorem dX11_init_79 : decode cX11_init 79 = .ok (.putfield 38, 3) := by decide +kernel
theorem dX11_init_82 : decode cX11_init 82 = .ok (.aload_n 0, 1) := by decide +kernel
theorem dX11_init_83 : decode cX11_init 83 = .ok (.bipush 31, 2) := by decide +kernel
theorem dX11_init_85 : decode cX11_init 85 = .ok (.newarray .long, 2) := by decide +kernel
theorem dX11_init_87 : decode cX11_init 87 = .ok (.putfield 41, 3) := by decide +kernel
theorem dX11_init_90 : decode cX11_init 90 = .ok (.aload_n 0, 1) := by decide +kernel
theorem dX11_init_91 : decode cX11_init 91 = .ok (.bipush 31, 2) := by decide +kernel
theorem dX11_init_93 : decode cX11_init 93 = .ok (.newarray .long, 2) := by decide +kernel
theorem dX11_init_95 : decode cX11_init 95 = .ok (.putfield 45, 3) := by decide +kernel
theorem dX11_init_98 : decode cX11_init 98 = .ok (.aload_n 0, 1) := by decide +kernel
theorem dX11_init_99 : decode cX11_init 99 = .ok (.sipush 4000, 3) := by decide +kernel
theorem dX11_init_102 : decode cX11_init 102 = .ok (.newarray .int, 2) := by decide +kernel
theorem dX11_init_104 : decode cX11_init 104 = .ok (.putfield 48, 3) := by decide +kernel
theorem dX11_init_107 : decode cX11_init 107 = .ok (.aload_n 0, 1) := by decide +kernel
theorem dX11_init_108 : decode cX11_init 108 = .ok (.sipush 4000, 3) := by decide +kernel
theorem dX11_init_111 : decode cX11_init 111 = .ok (.newarray .int, 2) := by decide +kernel
theorem dX11_init_113 : decode cX11_init 113 = .ok (.putfield 51, 3) := by decide +kernel
theorem dX11_init_116 : decode cX11_init 116 = .ok (.aload_n 0, 1) := by decide +kernel
theorem dX11_init_117 : decode cX11_init 117 = .ok (.sipush 4000, 3) := by decide +kernel
theorem dX11_init_120 : decode cX11_init 120 = .ok (.newarray .int, 2) := by decide +kernel
theorem dX11_init_122 : decode cX11_init 122 = .ok (.putfield 54, 3) := by decide +kernel
theorem dX11_init_125 : decode cX11_init 125 = .ok (.aload_n 0, 1) := by decide +kernel
theorem dX11_init_126 : decode cX11_init 126 = .ok (.sipush 4000, 3) := by decide +kernel
theorem dX11_init_129 : decode cX11_init 129 = .ok (.newarray .int, 2) := by decide +kernel
theorem dX11_init_131 : decode cX11_init 131 = .ok (.putfield 57, 3) := by decide +kernel
theorem dX11_init_134 : decode cX11_init 134 = .ok (.aload_n 0, 1) := by decide +kernel
theorem dX11_init_135 : decode cX11_init 135 = .ok (.iload_n 1, 1) := by decide +kernel
theorem dX11_init_136 : decode cX11_init 136 = .ok (.putfield 60, 3) := by decide +kernel
theorem dX11_init_139 : decode cX11_init 139 = .ok (.aload_n 0, 1) := by decide +kernel
theorem dX11_init_140 : decode cX11_init 140 = .ok (.aload_n 2, 1) := by decide +kernel
theorem dX11_init_141 : decode cX11_init 141 = .ok (.putfield 64, 3) := by decide +kernel
theorem dX11_init_144 : decode cX11_init 144 = .ok (.aload_n 0, 1) := by decide +kernel
theorem dX11_init_145 : decode cX11_init 145 = .ok (.aload_n 3, 1) := by decide +kernel
theorem dX11_init_146 : decode cX11_init 146 = .ok (.putfield 68, 3) := by decide +kernel
theorem dX11_init_149 : decode cX11_init 149 = .ok (.aload_n 0, 1) := by decide +kernel
theorem dX11_init_150 : decode cX11_init 150 = .ok (.aload 4, 2) := by decide +kernel
theorem dX11_init_152 : decode cX11_init 152 = .ok (.putfield 72, 3) := by decide +kernel
theorem dX11_init_155 : decode cX11_init 155 = .ok (.aload_n 0, 1) := by decide +kernel
theorem dX11_init_156 : decode cX11_init 156 = .ok (.new 76, 3) := by decide +kernel
theorem dX11_init_159 : decode cX11_init 159 = .ok (.dup, 1) := by decide +kernel
theorem dX11_init_160 : decode cX11_init 160 = .ok (.aload 4, 2) := by decide +kernel
theorem dX11_init_162 : decode cX11_init 162 = .ok (.iload_n 1, 1) := by decide +kernel
theorem dX11_init_163 : decode cX11_init 163 = .ok (.invokespecial 78, 3) := by decide +kernel
theorem dX11_init_166 : decode cX11_init 166 = .ok (.putfield 81, 3) := by decide +kernel
theorem dX11_init_169 : decode cX11_init 169 = .ok (.aload_n 0, 1) := by decide +kernel
theorem dX11_init_170 : decode cX11_init 170 = .ok (.iload_n 1, 1) := by decide +kernel
theorem dX11_init_171 : decode cX11_init 171 = .ok (.sipush 4000, 3) := by decide +kernel
theorem dX11_init_174 : decode cX11_init 174 = .ok (.imul, 1) := by decide +kernel
theorem dX11_init_175 : decode cX11_init 175 = .ok (.newarray .int, 2) := by decide +kernel
theorem dX11_init_177 : decode cX11_init 177 = .ok (.putfield 85, 3) := by decide +kernel
theorem dX11_init_180 : decode cX11_init 180 = .ok (.aload_n 0, 1) := by decide +kernel
theorem dX11_init_181 : decode cX11_init 181 = .ok (.iload_n 1, 1) := by decide +kernel
theorem dX11_init_182 : decode cX11_init 182 = .ok (.sipush 256, 3) := by decide +kernel
theorem dX11_init_185 : decode cX11_init 185 = .ok (.imul, 1) := by decide +kernel
theorem dX11_init_186 : decode cX11_init 186 = .ok (.newarray .int, 2) := by decide +kernel
theorem dX11_init_188 : decode cX11_init 188 = .ok (.putfield 88, 3) := by decide +kernel
theorem dX11_init_191 : decode cX11_init 191 = .ok (.aload_n 0, 1) := by decide +kernel
theorem dX11_init_192 : decode cX11_init 192 = .ok (.iload_n 1, 1) := by decide +kernel
theorem dX11_init_193 : decode cX11_init 193 = .ok (.sipush 4000, 3) := by decide +kernel
theorem dX11_init_196 : decode cX11_init 196 = .ok (.imul, 1) := by decide +kernel
theorem dX11_init_197 : decode cX11_init 197 = .ok (.bipush 8, 2) := by decide +kernel
theorem dX11_init_199 : decode cX11_init 199 = .ok (.idiv, 1) := by decide +kernel
theorem dX11_init_200 : decode cX11_init 200 = .ok (.newarray .int, 2) := by decide +kernel
theorem dX11_init_202 : decode cX11_init 202 = .ok (.putfield 91, 3) := by decide +kernel
theorem dX11_init_205 : decode cX11_init 205 = .ok (.aload_n 0, 1) := by decide +kernel
theorem dX11_init_206 : decode cX11_init 206 = .ok (.iload_n 1, 1) := by decide +kernel
theorem dX11_init_207 : decode cX11_init 207 = .ok (.newarray .int, 2) := by decide +kernel
theorem dX11_init_209 : decode cX11_init 209 = .ok (.putfield 94, 3) := by decide +kernel
theorem dX11_init_212 : decode cX11_init 212 = .ok (.aload_n 0, 1) := by decide +kernel
theorem dX11_init_213 : decode cX11_init 213 = .ok (.iload_n 1, 1) := by decide +kernel
theorem dX11_init_214 : decode cX11_init 214 = .ok (.newarray .int, 2) := by decide +kernel
theorem dX11_init_216 : decode cX11_init 216 = .ok (.putfield 97, 3) := by decide +kernel
theorem dX11_init_219 : decode cX11_init 219 = .ok (.aload_n 0, 1) := by decide +kernel
theorem dX11_init_220 : decode cX11_init 220 = .ok (.iload_n 1, 1) := by decide +kernel
theorem dX11_init_221 : decode cX11_init 221 = .ok (.newarray .int, 2) := by decide +kernel
theorem dX11_init_223 : decode cX11_init 223 = .ok (.putfield 100, 3) := by decide +kernel
theorem dX11_init_226 : decode cX11_init 226 = .ok (.iconst 0, 1) := by decide +kernel
theorem dX11_init_227 : decode cX11_init 227 = .ok (.istore 5, 2) := by decide +kernel
theorem dX11_init_229 : decode cX11_init 229 = .ok (.iload 5, 2) := by decide +kernel
theorem dX11_init_231 : decode cX11_init 231 = .ok (.iload_n 1, 1) := by decide +kernel
theorem dX11_init_232 : decode cX11_init 232 = .ok (.if_icmp .ge 18, 3) := by decide +kernel
theorem dX11_init_235 : decode cX11_init 235 = .ok (.aload_n 0, 1) := by decide +kernel
theorem dX11_init_236 : decode cX11_init 236 = .ok (.getfield 97, 3) := by decide +kernel
theorem dX11_init_239 : decode cX11_init 239 = .ok (.iload 5, 2) := by decide +kernel
theorem dX11_init_241 : decode cX11_init 241 = .ok (.bipush (-2), 2) := by decide +kernel
theorem dX11_init_243 : decode cX11_init 243 = .ok (.iastore, 1) := by decide +kernel
theorem dX11_init_244 : decode cX11_init 244 = .ok (.iinc 5 1, 3) := by decide +kernel
theorem dX11_init_247 : decode cX11_init 247 = .ok (.goto (-18), 3) := by decide +kernel
theorem dX11_init_250 : decode cX11_init 250 = .ok (.return_, 1) := by decide +kernel
theorem dX11_build_0 : decode cX11_build 0 = .ok (.aload_n 0, 1) := by decide +kernel
theorem dX11_build_1 : decode cX11_build 1 = .ok (.getfield 72, 3) := by decide +kernel
theorem dX11_build_4 : decode cX11_build 4 = .ok (.iload_n 1, 1) := by decide +kernel
theorem dX11_build_5 : decode cX11_build 5 = .ok (.invokevirtual 105, 3) := by decide +kernel
theorem dX11_build_8 : decode cX11_build 8 = .ok (.aload_n 0, 1) := by decide +kernel
theorem dX11_build_9 : decode cX11_build 9 = .ok (.iconst 0, 1) := by decide +kernel
theorem dX11_build_10 : decode cX11_build 10 = .ok (.putfield 109, 3) := by decide +kernel
theorem dX11_build_13 : decode cX11_build 13 = .ok (.aload_n 0, 1) := by decide +kernel
theorem dX11_build_14 : decode cX11_build 14 = .ok (.iconst 0, 1) := by decide +kernel
theorem dX11_build_15 : decode cX11_build 15 = .ok (.putfield 112, 3) := by decide +kernel
theorem dX11_build_18 : decode cX11_build 18 = .ok (.aload_n 0, 1) := by decide +kernel
theorem dX11_build_19 : decode cX11_build 19 = .ok (.iconst 0, 1) := by decide +kernel
theorem dX11_build_20 : decode cX11_build 20 = .ok (.putfield 115, 3) := by decide +kernel
theorem dX11_build_23 : decode cX11_build 23 = .ok (.aload_n 0, 1) := by decide +kernel
theorem dX11_build_24 : decode cX11_build 24 = .ok (.iconst 0, 1) := by decide +kernel
theorem dX11_build_25 : decode cX11_build 25 = .ok (.putfield 118, 3) := by decide +kernel
theorem dX11_build_28 : decode cX11_build 28 = .ok (.aload_n 0, 1) := by decide +kernel
theorem dX11_build_29 : decode cX11_build 29 = .ok (.iconst 0, 1) := by decide +kernel
theorem dX11_build_30 : decode cX11_build 30 = .ok (.putfield 121, 3) := by decide +kernel
theorem dX11_build_33 : decode cX11_build 33 = .ok (.aload_n 0, 1) := by decide +kernel
theorem dX11_build_34 : decode cX11_build 34 = .ok (.iconst 0, 1) := by decide +kernel
theorem dX11_build_35 : decode cX11_build 35 = .ok (.putfield 124, 3) := by decide +kernel
theorem dX11_build_38 : decode cX11_build 38 = .ok (.aload_n 0, 1) := by decide +kernel
theorem dX11_build_39 : decode cX11_build 39 = .ok (.iconst 0, 1) := by decide +kernel
theorem dX11_build_40 : decode cX11_build 40 = .ok (.putfield 127, 3) := by decide +kernel
theorem dX11_build_43 : decode cX11_build 43 = .ok (.aload_n 0, 1) := by decide +kernel
theorem dX11_build_44 : decode cX11_build 44 = .ok (.iconst 0, 1) := by decide +kernel
theorem dX11_build_45 : decode cX11_build 45 = .ok (.putfield 130, 3) := by decide +kernel
theorem dX11_build_48 : decode cX11_build 48 = .ok (.aload_n 0, 1) := by decide +kernel
theorem dX11_build_49 : decode cX11_build 49 = .ok (.iconst 0, 1) := by decide +kernel
theorem dX11_build_50 : decode cX11_build 50 = .ok (.putfield 133, 3) := by decide +kernel
theorem dX11_build_53 : decode cX11_build 53 = .ok (.aload_n 0, 1) := by decide +kernel
theorem dX11_build_54 : decode cX11_build 54 = .ok (.iconst 0, 1) := by decide +kernel
theorem dX11_build_55 : decode cX11_build 55 = .ok (.putfield 136, 3) := by decide +kernel
theorem dX11_build_58 : decode cX11_build 58 = .ok (.aload_n 0, 1) := by decide +kernel
theorem dX11_build_59 : decode cX11_build 59 = .ok (.getfield 136, 3) := by decide +kernel
theorem dX11_build_62 : decode cX11_build 62 = .ok (.aload_n 0, 1) := by decide +kernel
theorem dX11_build_63 : decode cX11_build 63 = .ok (.getfield 64, 3) := by decide +kernel
theorem dX11_build_66 : decode cX11_build 66 = .ok (.getfield 139, 3) := by decide +kernel
theorem dX11_build_69 : decode cX11_build 69 = .ok (.if_icmp .ge 59, 3) := by decide +kernel
theorem dX11_build_72 : decode cX11_build 72 = .ok (.aload_n 0, 1) := by decide +kernel
theorem dX11_build_73 : decode cX11_build 73 = .ok (.getfield 68, 3) := by decide +kernel
theorem dX11_build_76 : decode cX11_build 76 = .ok (.invokevirtual 144, 3) := by decide +kernel
theorem dX11_build_79 : decode cX11_build 79 = .ok (.ifCond .ne 49, 3) := by decide +kernel
theorem dX11_build_82 : decode cX11_build 82 = .ok (.aload_n 0, 1) := by decide +kernel
theorem dX11_build_83 : decode cX11_build 83 = .ok (.getfield 136, 3) := by decide +kernel
theorem dX11_build_86 : decode cX11_build 86 = .ok (.istore_n 2, 1) := by decide +kernel
theorem dX11_build_87 : decode cX11_build 87 = .ok (.aload_n 0, 1) := by decide +kernel
theorem dX11_build_88 : decode cX11_build 88 = .ok (.dup, 1) := by decide +kernel
theorem dX11_build_89 : decode cX11_build 89 = .ok (.getfield 136, 3) := by decide +kernel
theorem dX11_build_92 : decode cX11_build 92 = .ok (.iconst 1, 1) := by decide +kernel
theorem dX11_build_93 : decode cX11_build 93 = .ok (.iadd, 1) := by decide +kernel
theorem dX11_build_94 : decode cX11_build 94 = .ok (.putfield 136, 3) := by decide +kernel
theorem dX11_build_97 : decode cX11_build 97 = .ok (.aload_n 0, 1) := by decide +kernel
theorem dX11_build_98 : decode cX11_build 98 = .ok (.iload_n 2, 1) := by decide +kernel
theorem dX11_build_99 : decode cX11_build 99 = .ok (.invokevirtual 150, 3) := by decide +kernel
theorem dX11_build_102 : decode cX11_build 102 = .ok (.aload_n 0, 1) := by decide +kernel
theorem dX11_build_103 : decode cX11_build 103 = .ok (.getfield 72, 3) := by decide +kernel
theorem dX11_build_106 : decode cX11_build 106 = .ok (.getfield 153, 3) := by decide +kernel
theorem dX11_build_109 : decode cX11_build 109 = .ok (.ifCond .eq 16, 3) := by decide +kernel
theorem dX11_build_112 : decode cX11_build 112 = .ok (.aload_n 0, 1) := by decide +kernel
theorem dX11_build_113 : decode cX11_build 113 = .ok (.getfield 68, 3) := by decide +kernel
theorem dX11_build_116 : decode cX11_build 116 = .ok (.bipush 8, 2) := by decide +kernel
theorem dX11_build_118 : decode cX11_build 118 = .ok (.aload_n 0, 1) := by decide +kernel
theorem dX11_build_119 : decode cX11_build 119 = .ok (.getfield 115, 3) := by decide +kernel
theorem dX11_build_122 : decode cX11_build 122 = .ok (.invokevirtual 157, 3) := by decide +kernel
theorem dX11_build_125 : decode cX11_build 125 = .ok (.goto (-67), 3) := by decide +kernel
theorem dX11_build_128 : decode cX11_build 128 = .ok (.return_, 1) := by decide +kernel
theorem dX11_step_0 : decode cX11_step 0 = .ok (.aload_n 0, 1) := by decide +kernel
theorem dX11_step_1 : decode cX11_step 1 = .ok (.getfield 64, 3) := by decide +kernel
theorem dX11_step_4 : decode cX11_step 4 = .ok (.getfield 172, 3) := by decide +kernel
theorem dX11_step_7 : decode cX11_step 7 = .ok (.iload_n 1, 1) := by decide +kernel
theorem dX11_step_8 : decode cX11_step 8 = .ok (.aaload, 1) := by decide +kernel
theorem dX11_step_9 : decode cX11_step 9 = .ok (.astore_n 2, 1) := by decide +kernel
theorem dX11_step_10 : decode cX11_step 10 = .ok (.aload_n 2, 1) := by decide +kernel
theorem dX11_step_11 : decode cX11_step 11 = .ok (.invokevirtual 176, 3) := by decide +kernel
theorem dX11_step_14 : decode cX11_step 14 = .ok (.getstatic 182, 3) := by decide +kernel
theorem dX11_step_17 : decode cX11_step 17 = .ok (.invokevirtual 176, 3) := by decide +kernel
theorem dX11_step_20 : decode cX11_step 20 = .ok (.if_icmp .lt 11, 3) := by decide +kernel
theorem dX11_step_23 : decode cX11_step 23 = .ok (.aload_n 0, 1) := by decide +kernel
theorem dX11_step_24 : decode cX11_step 24 = .ok (.iload_n 1, 1) := by decide +kernel
theorem dX11_step_25 : decode cX11_step 25 = .ok (.invokevirtual 186, 3) := by decide +kernel
theorem dX11_step_28 : decode cX11_step 28 = .ok (.goto 29, 3) := by decide +kernel
theorem dX11_step_31 : decode cX11_step 31 = .ok (.aload_n 2, 1) := by decide +kernel
theorem dX11_step_32 : decode cX11_step 32 = .ok (.invokevirtual 176, 3) := by decide +kernel
theorem dX11_step_35 : decode cX11_step 35 = .ok (.getstatic 189, 3) := by decide +kernel
theorem dX11_step_38 : decode cX11_step 38 = .ok (.invokevirtual 176, 3) := by decide +kernel
theorem dX11_step_41 : decode cX11_step 41 = .ok (.if_icmp .lt 11, 3) := by decide +kernel
theorem dX11_step_44 : decode cX11_step 44 = .ok (.aload_n 0, 1) := by decide +kernel
theorem dX11_step_45 : decode cX11_step 45 = .ok (.iload_n 1, 1) := by decide +kernel
theorem dX11_step_46 : decode cX11_step 46 = .ok (.invokevirtual 192, 3) := by decide +kernel
theorem dX11_step_49 : decode cX11_step 49 = .ok (.goto 8, 3) := by decide +kernel
theorem dX11_step_52 : decode cX11_step 52 = .ok (.aload_n 0, 1) := by decide +kernel
theorem dX11_step_53 : decode cX11_step 53 = .ok (.iload_n 1, 1) := by decide +kernel
theorem dX11_step_54 : decode cX11_step 54 = .ok (.invokevirtual 195, 3) := by decide +kernel
theorem dX11_step_57 : decode cX11_step 57 = .ok (.return_, 1) := by decide +kernel
theorem dX11_operator_0 : decode cX11_operator 0 = .ok (.aload_n 0, 1) := by decide +kernel
theorem dX11_operator_1 : decode cX11_operator 1 = .ok (.iconst 2, 1) := by decide +kernel
theorem dX11_operator_2 : decode cX11_operator 2 = .ok (.invokevirtual 218, 3) := by decide +kernel
theorem dX11_operator_5 : decode cX11_operator 5 = .ok (.istore_n 2, 1) := by decide +kernel
theorem dX11_operator_6 : decode cX11_operator 6 = .ok (.aload_n 0, 1) := by decide +kernel
theorem dX11_operator_7 : decode cX11_operator 7 = .ok (.iconst 1, 1) := by decide +kernel
theorem dX11_operator_8 : decode cX11_operator 8 = .ok (.invokevirtual 218, 3) := by decide +kernel
theorem dX11_operator_11 : decode cX11_operator 11 = .ok (.istore_n 3, 1) := by decide +kernel
theorem dX11_operator_12 : decode cX11_operator 12 = .ok (.aload_n 0, 1) := by decide +kernel
theorem dX11_operator_13 : decode cX11_operator 13 = .ok (.getfield 64, 3) := by decide +kernel
theorem dX11_operator_16 : decode cX11_operator 16 = .ok (.getfield 172, 3) := by decide +kernel
theorem dX11_operator_19 : decode cX11_operator 19 = .ok (.iload_n 1, 1) := by decide +kernel
theorem dX11_operator_20 : decode cX11_operator 20 = .ok (.aaload, 1) := by decide +kernel
theorem dX11_operator_21 : decode cX11_operator 21 = .ok (.invokevirtual 176, 3) := by decide +kernel
theorem dX11_operator_24 : decode cX11_operator 24 = .ok (.tableswitch 407 49 60 #[395, 395, 234, 234, 307, 341, 341, 64, 104, 138, 151, 404], 64) := by decide +kernel
theorem dX11_operator_88 : decode cX11_operator 88 = .ok (.aload_n 0, 1) := by decide +kernel
theorem dX11_operator_89 : decode cX11_operator 89 = .ok (.getfield 81, 3) := by decide +kernel
theorem dX11_operator_92 : decode cX11_operator 92 = .ok (.aload_n 0, 1) := by decide +kernel
theorem dX11_operator_93 : decode cX11_operator 93 = .ok (.getfield 97, 3) := by decide +kernel
theorem dX11_operator_96 : decode cX11_operator 96 = .ok (.iconst 0, 1) := by decide +kernel
theorem dX11_operator_97 : decode cX11_operator 97 = .ok (.aload_n 0, 1) := by decide +kernel
theorem dX11_operator_98 : decode cX11_operator 98 = .ok (.getfield 85, 3) := by decide +kernel
theorem dX11_operator_101 : decode cX11_operator 101 = .ok (.iload_n 3, 1) := by decide +kernel
theorem dX11_operator_102 : decode cX11_operator 102 = .ok (.iconst 1, 1) := by decide +kernel
theorem dX11_operator_103 : decode cX11_operator 103 = .ok (.iconst (-1), 1) := by decide +kernel
theorem dX11_operator_104 : decode cX11_operator 104 = .ok (.aload_n 0, 1) := by decide +kernel
theorem dX11_operator_105 : decode cX11_operator 105 = .ok (.getfield 60, 3) := by decide +kernel
theorem dX11_operator_108 : decode cX11_operator 108 = .ok (.aload_n 0, 1) := by decide +kernel
theorem dX11_operator_109 : decode cX11_operator 109 = .ok (.getfield 100, 3) := by decide +kernel
theorem dX11_operator_112 : decode cX11_operator 112 = .ok (.iconst 0, 1) := by decide +kernel
theorem dX11_operator_113 : decode cX11_operator 113 = .ok (.invokevirtual 306, 3) := by decide +kernel
theorem dX11_operator_116 : decode cX11_operator 116 = .ok (.aload_n 0, 1) := by decide +kernel
theorem dX11_operator_117 : decode cX11_operator 117 = .ok (.iconst 1, 1) := by decide +kernel
theorem dX11_operator_118 : decode cX11_operator 118 = .ok (.aload_n 0, 1) := by decide +kernel
theorem dX11_operator_119 : decode cX11_operator 119 = .ok (.getfield 60, 3) := by decide +kernel
theorem dX11_operator_122 : decode cX11_operator 122 = .ok (.invokevirtual 303, 3) := by decide +kernel
theorem dX11_operator_125 : decode cX11_operator 125 = .ok (.goto 313, 3) := by decide +kernel
theorem dX11_operator_128 : decode cX11_operator 128 = .ok (.iconst 0, 1) := by decide +kernel
theorem dX11_operator_129 : decode cX11_operator 129 = .ok (.istore 4, 2) := by decide +kernel
theorem dX11_operator_131 : decode cX11_operator 131 = .ok (.iload 4, 2) := by decide +kernel
theorem dX11_operator_133 : decode cX11_operator 133 = .ok (.aload_n 0, 1) := by decide +kernel
theorem dX11_operator_134 : decode cX11_operator 134 = .ok (.getfield 60, 3) := by decide +kernel
theorem dX11_operator_137 : decode cX11_operator 137 = .ok (.if_icmp .ge 22, 3) := by decide +kernel
theorem dX11_operator_140 : decode cX11_operator 140 = .ok (.aload_n 0, 1) := by decide +kernel
theorem dX11_operator_141 : decode cX11_operator 141 = .ok (.getfield 85, 3) := by decide +kernel
theorem dX11_operator_144 : decode cX11_operator 144 = .ok (.iload_n 3, 1) := by decide +kernel
theorem dX11_operator_145 : decode cX11_operator 145 = .ok (.iload 4, 2) := by decide +kernel
theorem dX11_operator_147 : decode cX11_operator 147 = .ok (.iadd, 1) := by decide +kernel
theorem dX11_operator_148 : decode cX11_operator 148 = .ok (.dup2, 1) := by decide +kernel
theorem dX11_operator_149 : decode cX11_operator 149 = .ok (.iaload, 1) := by decide +kernel
theorem dX11_operator_150 : decode cX11_operator 150 = .ok (.iconst 1, 1) := by decide +kernel
theorem dX11_operator_151 : decode cX11_operator 151 = .ok (.ixor, 1) := by decide +kernel
theorem dX11_operator_152 : decode cX11_operator 152 = .ok (.iastore, 1) := by decide +kernel
theorem dX11_operator_153 : decode cX11_operator 153 = .ok (.iinc 4 1, 3) := by decide +kernel
theorem dX11_operator_156 : decode cX11_operator 156 = .ok (.goto (-25), 3) := by decide +kernel
theorem dX11_operator_159 : decode cX11_operator 159 = .ok (.goto 279, 3) := by decide +kernel
theorem dX11_operator_162 : decode cX11_operator 162 = .ok (.aload_n 0, 1) := by decide +kernel
theorem dX11_operator_163 : decode cX11_operator 163 = .ok (.getfield 85, 3) := by decide +kernel
theorem dX11_operator_166 : decode cX11_operator 166 = .ok (.iload_n 3, 1) := by decide +kernel
theorem dX11_operator_167 : decode cX11_operator 167 = .ok (.dup2, 1) := by decide +kernel
theorem dX11_operator_168 : decode cX11_operator 168 = .ok (.iaload, 1) := by decide +kernel
theorem dX11_operator_169 : decode cX11_operator 169 = .ok (.iconst 1, 1) := by decide +kernel
theorem dX11_operator_170 : decode cX11_operator 170 = .ok (.ixor, 1) := by decide +kernel
theorem dX11_operator_171 : decode cX11_operator 171 = .ok (.iastore, 1) := by decide +kernel
theorem dX11_operator_172 : decode cX11_operator 172 = .ok (.goto 266, 3) := by decide +kernel
theorem dX11_operator_175 : decode cX11_operator 175 = .ok (.aload_n 0, 1) := by decide +kernel
theorem dX11_operator_176 : decode cX11_operator 176 = .ok (.aload_n 0, 1) := by decide +kernel
theorem dX11_operator_177 : decode cX11_operator 177 = .ok (.getfield 64, 3) := by decide +kernel
theorem dX11_operator_180 : decode cX11_operator 180 = .ok (.getfield 200, 3) := by decide +kernel
theorem dX11_operator_183 : decode cX11_operator 183 = .ok (.iload_n 1, 1) := by decide +kernel
theorem dX11_operator_184 : decode cX11_operator 184 = .ok (.iaload, 1) := by decide +kernel
theorem dX11_operator_185 : decode cX11_operator 185 = .ok (.invokevirtual 248, 3) := by decide +kernel
theorem dX11_operator_188 : decode cX11_operator 188 = .ok (.istore 4, 2) := by decide +kernel
theorem dX11_operator_190 : decode cX11_operator 190 = .ok (.iconst 0, 1) := by decide +kernel
theorem dX11_operator_191 : decode cX11_operator 191 = .ok (.istore 5, 2) := by decide +kernel
theorem dX11_operator_193 : decode cX11_operator 193 = .ok (.iload 5, 2) := by decide +kernel
theorem dX11_operator_195 : decode cX11_operator 195 = .ok (.iload 4, 2) := by decide +kernel
theorem dX11_operator_197 : decode cX11_operator 197 = .ok (.if_icmp .ge 51, 3) := by decide +kernel
theorem dX11_operator_200 : decode cX11_operator 200 = .ok (.aload_n 0, 1) := by decide +kernel
theorem dX11_operator_201 : decode cX11_operator 201 = .ok (.getfield 100, 3) := by decide +kernel
theorem dX11_operator_204 : decode cX11_operator 204 = .ok (.iload 5, 2) := by decide +kernel
theorem dX11_operator_206 : decode cX11_operator 206 = .ok (.aload_n 0, 1) := by decide +kernel
theorem dX11_operator_207 : decode cX11_operator 207 = .ok (.getfield 72, 3) := by decide +kernel
theorem dX11_operator_210 : decode cX11_operator 210 = .ok (.aload_n 0, 1) := by decide +kernel
theorem dX11_operator_211 : decode cX11_operator 211 = .ok (.getfield 85, 3) := by decide +kernel
theorem dX11_operator_214 : decode cX11_operator 214 = .ok (.aload_n 0, 1) := by decide +kernel
theorem dX11_operator_215 : decode cX11_operator 215 = .ok (.iconst 3, 1) := by decide +kernel
theorem dX11_operator_216 : decode cX11_operator 216 = .ok (.invokevirtual 218, 3) := by decide +kernel
theorem dX11_operator_219 : decode cX11_operator 219 = .ok (.iaload, 1) := by decide +kernel
theorem dX11_operator_220 : decode cX11_operator 220 = .ok (.aload_n 0, 1) := by decide +kernel
theorem dX11_operator_221 : decode cX11_operator 221 = .ok (.getfield 85, 3) := by decide +kernel
theorem dX11_operator_224 : decode cX11_operator 224 = .ok (.iload_n 2, 1) := by decide +kernel
theorem dX11_operator_225 : decode cX11_operator 225 = .ok (.iload 5, 2) := by decide +kernel
theorem dX11_operator_227 : decode cX11_operator 227 = .ok (.iadd, 1) := by decide +kernel
theorem dX11_operator_228 : decode cX11_operator 228 = .ok (.iaload, 1) := by decide +kernel
theorem dX11_operator_229 : decode cX11_operator 229 = .ok (.aload_n 0, 1) := by decide +kernel
theorem dX11_operator_230 : decode cX11_operator 230 = .ok (.getfield 85, 3) := by decide +kernel
theorem dX11_operator_233 : decode cX11_operator 233 = .ok (.iload_n 3, 1) := by decide +kernel
theorem dX11_operator_234 : decode cX11_operator 234 = .ok (.iload 5, 2) := by decide +kernel
theorem dX11_operator_236 : decode cX11_operator 236 = .ok (.iadd, 1) := by decide +kernel
theorem dX11_operator_237 : decode cX11_operator 237 = .ok (.iaload, 1) := by decide +kernel
theorem dX11_operator_238 : decode cX11_operator 238 = .ok (.invokevirtual 260, 3) := by decide +kernel
theorem dX11_operator_241 : decode cX11_operator 241 = .ok (.iastore, 1) := by decide +kernel
theorem dX11_operator_242 : decode cX11_operator 242 = .ok (.iinc 5 1, 3) := by decide +kernel
theorem dX11_operator_245 : decode cX11_operator 245 = .ok (.goto (-52), 3) := by decide +kernel
theorem dX11_operator_248 : decode cX11_operator 248 = .ok (.aload_n 0, 1) := by decide +kernel
theorem dX11_operator_249 : decode cX11_operator 249 = .ok (.iconst 3, 1) := by decide +kernel
theorem dX11_operator_250 : decode cX11_operator 250 = .ok (.iload 4, 2) := by decide +kernel
theorem dX11_operator_252 : decode cX11_operator 252 = .ok (.invokevirtual 303, 3) := by decide +kernel
theorem dX11_operator_255 : decode cX11_operator 255 = .ok (.goto 183, 3) := by decide +kernel
theorem dX11_operator_258 : decode cX11_operator 258 = .ok (.aload_n 0, 1) := by decide +kernel
theorem dX11_operator_259 : decode cX11_operator 259 = .ok (.getfield 64, 3) := by decide +kernel
theorem dX11_operator_262 : decode cX11_operator 262 = .ok (.getfield 172, 3) := by decide +kernel
theorem dX11_operator_265 : decode cX11_operator 265 = .ok (.iload_n 1, 1) := by decide +kernel
theorem dX11_operator_266 : decode cX11_operator 266 = .ok (.aaload, 1) := by decide +kernel
theorem dX11_operator_267 : decode cX11_operator 267 = .ok (.getstatic 310, 3) := by decide +kernel
theorem dX11_operator_270 : decode cX11_operator 270 = .ok (.if_acmp .ne 7, 3) := by decide +kernel
theorem dX11_operator_273 : decode cX11_operator 273 = .ok (.iconst 1, 1) := by decide +kernel
theorem dX11_operator_274 : decode cX11_operator 274 = .ok (.goto 4, 3) := by decide +kernel
theorem dX11_operator_277 : decode cX11_operator 277 = .ok (.iconst 0, 1) := by decide +kernel
theorem dX11_operator_278 : decode cX11_operator 278 = .ok (.istore 5, 2) := by decide +kernel
theorem dX11_operator_280 : decode cX11_operator 280 = .ok (.aload_n 0, 1) := by decide +kernel
theorem dX11_operator_281 : decode cX11_operator 281 = .ok (.getfield 81, 3) := by decide +kernel
theorem dX11_operator_284 : decode cX11_operator 284 = .ok (.aload_n 0, 1) := by decide +kernel
theorem dX11_operator_285 : decode cX11_operator 285 = .ok (.getfield 85, 3) := by decide +kernel
theorem dX11_operator_288 : decode cX11_operator 288 = .ok (.iload_n 2, 1) := by decide +kernel
theorem dX11_operator_289 : decode cX11_operator 289 = .ok (.aload_n 0, 1) := by decide +kernel
theorem dX11_operator_290 : decode cX11_operator 290 = .ok (.getfield 85, 3) := by decide +kernel
theorem dX11_operator_293 : decode cX11_operator 293 = .ok (.iload_n 3, 1) := by decide +kernel
theorem dX11_operator_294 : decode cX11_operator 294 = .ok (.iload 5, 2) := by decide +kernel
theorem dX11_operator_296 : decode cX11_operator 296 = .ok (.iload 5, 2) := by decide +kernel
theorem dX11_operator_298 : decode cX11_operator 298 = .ok (.ifCond .eq 7, 3) := by decide +kernel
theorem dX11_operator_301 : decode cX11_operator 301 = .ok (.iconst (-1), 1) := by decide +kernel
theorem dX11_operator_302 : decode cX11_operator 302 = .ok (.goto 5, 3) := by decide +kernel
theorem dX11_operator_305 : decode cX11_operator 305 = .ok (.bipush (-2), 2) := by decide +kernel
theorem dX11_operator_307 : decode cX11_operator 307 = .ok (.aload_n 0, 1) := by decide +kernel
theorem dX11_operator_308 : decode cX11_operator 308 = .ok (.getfield 60, 3) := by decide +kernel
theorem dX11_operator_311 : decode cX11_operator 311 = .ok (.aload_n 0, 1) := by decide +kernel
theorem dX11_operator_312 : decode cX11_operator 312 = .ok (.getfield 100, 3) := by decide +kernel
theorem dX11_operator_315 : decode cX11_operator 315 = .ok (.iconst 0, 1) := by decide +kernel
theorem dX11_operator_316 : decode cX11_operator 316 = .ok (.invokevirtual 306, 3) := by decide +kernel
theorem dX11_operator_319 : decode cX11_operator 319 = .ok (.aload_n 0, 1) := by decide +kernel
theorem dX11_operator_320 : decode cX11_operator 320 = .ok (.iconst 2, 1) := by decide +kernel
theorem dX11_operator_321 : decode cX11_operator 321 = .ok (.aload_n 0, 1) := by decide +kernel
theorem dX11_operator_322 : decode cX11_operator 322 = .ok (.getfield 60, 3) := by decide +kernel
theorem dX11_operator_325 : decode cX11_operator 325 = .ok (.invokevirtual 303, 3) := by decide +kernel
theorem dX11_operator_328 : decode cX11_operator 328 = .ok (.goto 110, 3) := by decide +kernel
theorem dX11_operator_331 : decode cX11_operator 331 = .ok (.aload_n 0, 1) := by decide +kernel
theorem dX11_operator_332 : decode cX11_operator 332 = .ok (.getfield 81, 3) := by decide +kernel
theorem dX11_operator_335 : decode cX11_operator 335 = .ok (.aload_n 0, 1) := by decide +kernel
theorem dX11_operator_336 : decode cX11_operator 336 = .ok (.getfield 85, 3) := by decide +kernel
theorem dX11_operator_339 : decode cX11_operator 339 = .ok (.iload_n 2, 1) := by decide +kernel
theorem dX11_operator_340 : decode cX11_operator 340 = .ok (.aload_n 0, 1) := by decide +kernel
theorem dX11_operator_341 : decode cX11_operator 341 = .ok (.getfield 85, 3) := by decide +kernel
theorem dX11_operator_344 : decode cX11_operator 344 = .ok (.iload_n 3, 1) := by decide +kernel
theorem dX11_operator_345 : decode cX11_operator 345 = .ok (.aload_n 0, 1) := by decide +kernel
theorem dX11_operator_346 : decode cX11_operator 346 = .ok (.getfield 100, 3) := by decide +kernel
theorem dX11_operator_349 : decode cX11_operator 349 = .ok (.iconst 0, 1) := by decide +kernel
theorem dX11_operator_350 : decode cX11_operator 350 = .ok (.invokevirtual 313, 3) := by decide +kernel
theorem dX11_operator_353 : decode cX11_operator 353 = .ok (.aload_n 0, 1) := by decide +kernel
theorem dX11_operator_354 : decode cX11_operator 354 = .ok (.iconst 2, 1) := by decide +kernel
theorem dX11_operator_355 : decode cX11_operator 355 = .ok (.aload_n 0, 1) := by decide +kernel
theorem dX11_operator_356 : decode cX11_operator 356 = .ok (.getfield 60, 3) := by decide +kernel
theorem dX11_operator_359 : decode cX11_operator 359 = .ok (.invokevirtual 303, 3) := by decide +kernel
theorem dX11_operator_362 : decode cX11_operator 362 = .ok (.goto 76, 3) := by decide +kernel
theorem dX11_operator_365 : decode cX11_operator 365 = .ok (.aload_n 0, 1) := by decide +kernel
theorem dX11_operator_366 : decode cX11_operator 366 = .ok (.getfield 81, 3) := by decide +kernel
theorem dX11_operator_369 : decode cX11_operator 369 = .ok (.aload_n 0, 1) := by decide +kernel
theorem dX11_operator_370 : decode cX11_operator 370 = .ok (.getfield 85, 3) := by decide +kernel
theorem dX11_operator_373 : decode cX11_operator 373 = .ok (.iload_n 2, 1) := by decide +kernel
theorem dX11_operator_374 : decode cX11_operator 374 = .ok (.aload_n 0, 1) := by decide +kernel
theorem dX11_operator_375 : decode cX11_operator 375 = .ok (.getfield 85, 3) := by decide +kernel
theorem dX11_operator_378 : decode cX11_operator 378 = .ok (.iload_n 3, 1) := by decide +kernel
theorem dX11_operator_379 : decode cX11_operator 379 = .ok (.aload_n 0, 1) := by decide +kernel
theorem dX11_operator_380 : decode cX11_operator 380 = .ok (.getfield 64, 3) := by decide +kernel
theorem dX11_operator_383 : decode cX11_operator 383 = .ok (.getfield 172, 3) := by decide +kernel
theorem dX11_operator_386 : decode cX11_operator 386 = .ok (.iload_n 1, 1) := by decide +kernel
theorem dX11_operator_387 : decode cX11_operator 387 = .ok (.aaload, 1) := by decide +kernel
theorem dX11_operator_388 : decode cX11_operator 388 = .ok (.getstatic 317, 3) := by decide +kernel
theorem dX11_operator_391 : decode cX11_operator 391 = .ok (.if_acmp .ne 7, 3) := by decide +kernel
theorem dX11_operator_394 : decode cX11_operator 394 = .ok (.iconst 1, 1) := by decide +kernel
theorem dX11_operator_395 : decode cX11_operator 395 = .ok (.goto 4, 3) := by decide +kernel
theorem dX11_operator_398 : decode cX11_operator 398 = .ok (.iconst 0, 1) := by decide +kernel
theorem dX11_operator_399 : decode cX11_operator 399 = .ok (.aload_n 0, 1) := by decide +kernel
theorem dX11_operator_400 : decode cX11_operator 400 = .ok (.getfield 100, 3) := by decide +kernel
theorem dX11_operator_403 : decode cX11_operator 403 = .ok (.iconst 0, 1) := by decide +kernel
theorem dX11_operator_404 : decode cX11_operator 404 = .ok (.invokevirtual 320, 3) := by decide +kernel
theorem dX11_operator_407 : decode cX11_operator 407 = .ok (.aload_n 0, 1) := by decide +kernel
theorem dX11_operator_408 : decode cX11_operator 408 = .ok (.iconst 2, 1) := by decide +kernel
theorem dX11_operator_409 : decode cX11_operator 409 = .ok (.aload_n 0, 1) := by decide +kernel
theorem dX11_operator_410 : decode cX11_operator 410 = .ok (.getfield 60, 3) := by decide +kernel
theorem dX11_operator_413 : decode cX11_operator 413 = .ok (.invokevirtual 303, 3) := by decide +kernel
theorem dX11_operator_416 : decode cX11_operator 416 = .ok (.goto 22, 3) := by decide +kernel
theorem dX11_operator_419 : decode cX11_operator 419 = .ok (.aload_n 0, 1) := by decide +kernel
theorem dX11_operator_420 : decode cX11_operator 420 = .ok (.iload_n 1, 1) := by decide +kernel
theorem dX11_operator_421 : decode cX11_operator 421 = .ok (.iload_n 2, 1) := by decide +kernel
theorem dX11_operator_422 : decode cX11_operator 422 = .ok (.invokevirtual 324, 3) := by decide +kernel
theorem dX11_operator_425 : decode cX11_operator 425 = .ok (.goto 13, 3) := by decide +kernel
theorem dX11_operator_428 : decode cX11_operator 428 = .ok (.goto 10, 3) := by decide +kernel
theorem dX11_operator_431 : decode cX11_operator 431 = .ok (.aload_n 0, 1) := by decide +kernel
theorem dX11_operator_432 : decode cX11_operator 432 = .ok (.iload_n 1, 1) := by decide +kernel
theorem dX11_operator_433 : decode cX11_operator 433 = .ok (.iload_n 2, 1) := by decide +kernel
theorem dX11_operator_434 : decode cX11_operator 434 = .ok (.iload_n 3, 1) := by decide +kernel
theorem dX11_operator_435 : decode cX11_operator 435 = .ok (.invokevirtual 327, 3) := by decide +kernel
theorem dX11_operator_438 : decode cX11_operator 438 = .ok (.return_, 1) := by decide +kernel
theorem dX11_place_0 : decode cX11_place 0 = .ok (.aload_n 0, 1) := by decide +kernel
theorem dX11_place_1 : decode cX11_place 1 = .ok (.getfield 60, 3) := by decide +kernel
theorem dX11_place_4 : decode cX11_place 4 = .ok (.aload_n 0, 1) := by decide +kernel
theorem dX11_place_5 : decode cX11_place 5 = .ok (.getfield 109, 3) := by decide +kernel
theorem dX11_place_8 : decode cX11_place 8 = .ok (.iload_n 1, 1) := by decide +kernel
theorem dX11_place_9 : decode cX11_place 9 = .ok (.isub, 1) := by decide +kernel
theorem dX11_place_10 : decode cX11_place 10 = .ok (.imul, 1) := by decide +kernel
theorem dX11_place_11 : decode cX11_place 11 = .ok (.ireturn, 1) := by decide +kernel
theorem dX11_settle_0 : decode cX11_settle 0 = .ok (.aload_n 0, 1) := by decide +kernel
theorem dX11_settle_1 : decode cX11_settle 1 = .ok (.dup, 1) := by decide +kernel
theorem dX11_settle_2 : decode cX11_settle 2 = .ok (.getfield 109, 3) := by decide +kernel
theorem dX11_settle_5 : decode cX11_settle 5 = .ok (.iload_n 1, 1) := by decide +kernel
theorem dX11_settle_6 : decode cX11_settle 6 = .ok (.isub, 1) := by decide +kernel
theorem dX11_settle_7 : decode cX11_settle 7 = .ok (.putfield 109, 3) := by decide +kernel
theorem dX11_settle_10 : decode cX11_settle 10 = .ok (.aload_n 0, 1) := by decide +kernel
theorem dX11_settle_11 : decode cX11_settle 11 = .ok (.aload_n 0, 1) := by decide +kernel
theorem dX11_settle_12 : decode cX11_settle 12 = .ok (.getfield 100, 3) := by decide +kernel
theorem dX11_settle_15 : decode cX11_settle 15 = .ok (.iconst 0, 1) := by decide +kernel
theorem dX11_settle_16 : decode cX11_settle 16 = .ok (.iload_n 2, 1) := by decide +kernel
theorem dX11_settle_17 : decode cX11_settle 17 = .ok (.invokevirtual 168, 3) := by decide +kernel
theorem dX11_settle_20 : decode cX11_settle 20 = .ok (.return_, 1) := by decide +kernel
theorem dX11_push_0 : decode cX11_push 0 = .ok (.aload_n 1, 1) := by decide +kernel
theorem dX11_push_1 : decode cX11_push 1 = .ok (.iload_n 2, 1) := by decide +kernel
theorem dX11_push_2 : decode cX11_push 2 = .ok (.aload_n 0, 1) := by decide +kernel
theorem dX11_push_3 : decode cX11_push 3 = .ok (.getfield 85, 3) := by decide +kernel
theorem dX11_push_6 : decode cX11_push 6 = .ok (.aload_n 0, 1) := by decide +kernel
theorem dX11_push_7 : decode cX11_push 7 = .ok (.getfield 60, 3) := by decide +kernel
theorem dX11_push_10 : decode cX11_push 10 = .ok (.aload_n 0, 1) := by decide +kernel
theorem dX11_push_11 : decode cX11_push 11 = .ok (.getfield 109, 3) := by decide +kernel
theorem dX11_push_14 : decode cX11_push 14 = .ok (.imul, 1) := by decide +kernel
theorem dX11_push_15 : decode cX11_push 15 = .ok (.iload_n 3, 1) := by decide +kernel
theorem dX11_push_16 : decode cX11_push 16 = .ok (.invokestatic 162, 3) := by decide +kernel
theorem dX11_push_19 : decode cX11_push 19 = .ok (.aload_n 0, 1) := by decide +kernel
theorem dX11_push_20 : decode cX11_push 20 = .ok (.dup, 1) := by decide +kernel
theorem dX11_push_21 : decode cX11_push 21 = .ok (.getfield 109, 3) := by decide +kernel
theorem dX11_push_24 : decode cX11_push 24 = .ok (.iconst 1, 1) := by decide +kernel
theorem dX11_push_25 : decode cX11_push 25 = .ok (.iadd, 1) := by decide +kernel
theorem dX11_push_26 : decode cX11_push 26 = .ok (.putfield 109, 3) := by decide +kernel
theorem dX11_push_29 : decode cX11_push 29 = .ok (.return_, 1) := by decide +kernel
theorem dX11_bits_0 : decode cX11_bits 0 = .ok (.iload_n 1, 1) := by decide +kernel
theorem dX11_bits_1 : decode cX11_bits 1 = .ok (.iconst 1, 1) := by decide +kernel
theorem dX11_bits_2 : decode cX11_bits 2 = .ok (.if_icmp .ne 7, 3) := by decide +kernel
theorem dX11_bits_5 : decode cX11_bits 5 = .ok (.iconst 1, 1) := by decide +kernel
theorem dX11_bits_6 : decode cX11_bits 6 = .ok (.goto 7, 3) := by decide +kernel
theorem dX11_bits_9 : decode cX11_bits 9 = .ok (.aload_n 0, 1) := by decide +kernel
theorem dX11_bits_10 : decode cX11_bits 10 = .ok (.getfield 60, 3) := by decide +kernel
theorem dX11_bits_13 : decode cX11_bits 13 = .ok (.ireturn, 1) := by decide +kernel
theorem dX11_shift_0 : decode cX11_shift 0 = .ok (.aload_n 0, 1) := by decide +kernel
theorem dX11_shift_1 : decode cX11_shift 1 = .ok (.aload_n 0, 1) := by decide +kernel
theorem dX11_shift_2 : decode cX11_shift 2 = .ok (.iconst 1, 1) := by decide +kernel
theorem dX11_shift_3 : decode cX11_shift 3 = .ok (.invokevirtual 218, 3) := by decide +kernel
theorem dX11_shift_6 : decode cX11_shift 6 = .ok (.invokevirtual 222, 3) := by decide +kernel
theorem dX11_shift_9 : decode cX11_shift 9 = .ok (.lstore_n 3, 1) := by decide +kernel
theorem dX11_shift_10 : decode cX11_shift 10 = .ok (.aload_n 0, 1) := by decide +kernel
theorem dX11_shift_11 : decode cX11_shift 11 = .ok (.lload_n 3, 1) := by decide +kernel
theorem dX11_shift_12 : decode cX11_shift 12 = .ok (.aload_n 0, 1) := by decide +kernel
theorem dX11_shift_13 : decode cX11_shift 13 = .ok (.getfield 60, 3) := by decide +kernel
theorem dX11_shift_16 : decode cX11_shift 16 = .ok (.aload_n 0, 1) := by decide +kernel
theorem dX11_shift_17 : decode cX11_shift 17 = .ok (.getfield 64, 3) := by decide +kernel
theorem dX11_shift_20 : decode cX11_shift 20 = .ok (.getfield 200, 3) := by decide +kernel
theorem dX11_shift_23 : decode cX11_shift 23 = .ok (.iload_n 1, 1) := by decide +kernel
theorem dX11_shift_24 : decode cX11_shift 24 = .ok (.iaload, 1) := by decide +kernel
theorem dX11_shift_25 : decode cX11_shift 25 = .ok (.invokevirtual 226, 3) := by decide +kernel
theorem dX11_shift_28 : decode cX11_shift 28 = .ok (.aload_n 0, 1) := by decide +kernel
theorem dX11_shift_29 : decode cX11_shift 29 = .ok (.getfield 68, 3) := by decide +kernel
theorem dX11_shift_32 : decode cX11_shift 32 = .ok (.invokevirtual 144, 3) := by decide +kernel
theorem dX11_shift_35 : decode cX11_shift 35 = .ok (.ifCond .eq 4, 3) := by decide +kernel
theorem dX11_shift_38 : decode cX11_shift 38 = .ok (.return_, 1) := by decide +kernel
theorem dX11_shift_39 : decode cX11_shift 39 = .ok (.aload_n 0, 1) := by decide +kernel
theorem dX11_shift_40 : decode cX11_shift 40 = .ok (.getfield 64, 3) := by decide +kernel
theorem dX11_shift_43 : decode cX11_shift 43 = .ok (.getfield 172, 3) := by decide +kernel
theorem dX11_shift_46 : decode cX11_shift 46 = .ok (.iload_n 1, 1) := by decide +kernel
theorem dX11_shift_47 : decode cX11_shift 47 = .ok (.aaload, 1) := by decide +kernel
theorem dX11_shift_48 : decode cX11_shift 48 = .ok (.getstatic 331, 3) := by decide +kernel
theorem dX11_shift_51 : decode cX11_shift 51 = .ok (.if_acmp .ne 9, 3) := by decide +kernel
theorem dX11_shift_54 : decode cX11_shift 54 = .ok (.lload_n 3, 1) := by decide +kernel
theorem dX11_shift_55 : decode cX11_shift 55 = .ok (.lneg, 1) := by decide +kernel
theorem dX11_shift_56 : decode cX11_shift 56 = .ok (.l2i, 1) := by decide +kernel
theorem dX11_shift_57 : decode cX11_shift 57 = .ok (.goto 5, 3) := by decide +kernel
theorem dX11_shift_60 : decode cX11_shift 60 = .ok (.lload_n 3, 1) := by decide +kernel
theorem dX11_shift_61 : decode cX11_shift 61 = .ok (.l2i, 1) := by decide +kernel
theorem dX11_shift_62 : decode cX11_shift 62 = .ok (.istore 5, 2) := by decide +kernel
theorem dX11_shift_64 : decode cX11_shift 64 = .ok (.iconst 0, 1) := by decide +kernel
theorem dX11_shift_65 : decode cX11_shift 65 = .ok (.istore 6, 2) := by decide +kernel
theorem dX11_shift_67 : decode cX11_shift 67 = .ok (.iload 6, 2) := by decide +kernel
theorem dX11_shift_69 : decode cX11_shift 69 = .ok (.aload_n 0, 1) := by decide +kernel
theorem dX11_shift_70 : decode cX11_shift 70 = .ok (.getfield 60, 3) := by decide +kernel
theorem dX11_shift_73 : decode cX11_shift 73 = .ok (.if_icmp .ge 53, 3) := by decide +kernel
theorem dX11_shift_76 : decode cX11_shift 76 = .ok (.aload_n 0, 1) := by decide +kernel
theorem dX11_shift_77 : decode cX11_shift 77 = .ok (.getfield 100, 3) := by decide +kernel
theorem dX11_shift_80 : decode cX11_shift 80 = .ok (.iload 6, 2) := by decide +kernel
theorem dX11_shift_82 : decode cX11_shift 82 = .ok (.iload 6, 2) := by decide +kernel
theorem dX11_shift_84 : decode cX11_shift 84 = .ok (.iload 5, 2) := by decide +kernel
theorem dX11_shift_86 : decode cX11_shift 86 = .ok (.iadd, 1) := by decide +kernel
theorem dX11_shift_87 : decode cX11_shift 87 = .ok (.ifCond .lt 30, 3) := by decide +kernel
theorem dX11_shift_90 : decode cX11_shift 90 = .ok (.iload 6, 2) := by decide +kernel
theorem dX11_shift_92 : decode cX11_shift 92 = .ok (.iload 5, 2) := by decide +kernel
theorem dX11_shift_94 : decode cX11_shift 94 = .ok (.iadd, 1) := by decide +kernel
theorem dX11_shift_95 : decode cX11_shift 95 = .ok (.aload_n 0, 1) := by decide +kernel
theorem dX11_shift_96 : decode cX11_shift 96 = .ok (.getfield 60, 3) := by decide +kernel
theorem dX11_shift_99 : decode cX11_shift 99 = .ok (.if_icmp .ge 18, 3) := by decide +kernel
theorem dX11_shift_102 : decode cX11_shift 102 = .ok (.aload_n 0, 1) := by decide +kernel
theorem dX11_shift_103 : decode cX11_shift 103 = .ok (.getfield 85, 3) := by decide +kernel
theorem dX11_shift_106 : decode cX11_shift 106 = .ok (.iload_n 2, 1) := by decide +kernel
theorem dX11_shift_107 : decode cX11_shift 107 = .ok (.iload 6, 2) := by decide +kernel
theorem dX11_shift_109 : decode cX11_shift 109 = .ok (.iadd, 1) := by decide +kernel
theorem dX11_shift_110 : decode cX11_shift 110 = .ok (.iload 5, 2) := by decide +kernel
theorem dX11_shift_112 : decode cX11_shift 112 = .ok (.iadd, 1) := by decide +kernel
theorem dX11_shift_113 : decode cX11_shift 113 = .ok (.iaload, 1) := by decide +kernel
theorem dX11_shift_114 : decode cX11_shift 114 = .ok (.goto 5, 3) := by decide +kernel
theorem dX11_shift_117 : decode cX11_shift 117 = .ok (.bipush (-2), 2) := by decide +kernel
theorem dX11_shift_119 : decode cX11_shift 119 = .ok (.iastore, 1) := by decide +kernel
theorem dX11_shift_120 : decode cX11_shift 120 = .ok (.iinc 6 1, 3) := by decide +kernel
theorem dX11_shift_123 : decode cX11_shift 123 = .ok (.goto (-56), 3) := by decide +kernel
theorem dX11_shift_126 : decode cX11_shift 126 = .ok (.aload_n 0, 1) := by decide +kernel
theorem dX11_shift_127 : decode cX11_shift 127 = .ok (.iconst 2, 1) := by decide +kernel
theorem dX11_shift_128 : decode cX11_shift 128 = .ok (.aload_n 0, 1) := by decide +kernel
theorem dX11_shift_129 : decode cX11_shift 129 = .ok (.getfield 60, 3) := by decide +kernel
theorem dX11_shift_132 : decode cX11_shift 132 = .ok (.invokevirtual 303, 3) := by decide +kernel
theorem dX11_shift_135 : decode cX11_shift 135 = .ok (.return_, 1) := by decide +kernel
theorem dX11_valueOf_0 : decode cX11_valueOf 0 = .ok (.lconst 0, 1) := by decide +kernel
theorem dX11_valueOf_1 : decode cX11_valueOf 1 = .ok (.lstore_n 2, 1) := by decide +kernel
theorem dX11_valueOf_2 : decode cX11_valueOf 2 = .ok (.iconst 0, 1) := by decide +kernel
theorem dX11_valueOf_3 : decode cX11_valueOf 3 = .ok (.istore 4, 2) := by decide +kernel
theorem dX11_valueOf_5 : decode cX11_valueOf 5 = .ok (.iload 4, 2) := by decide +kernel
theorem dX11_valueOf_7 : decode cX11_valueOf 7 = .ok (.aload_n 0, 1) := by decide +kernel
theorem dX11_valueOf_8 : decode cX11_valueOf 8 = .ok (.getfield 60, 3) := by decide +kernel
theorem dX11_valueOf_11 : decode cX11_valueOf 11 = .ok (.if_icmp .ge 33, 3) := by decide +kernel
theorem dX11_valueOf_14 : decode cX11_valueOf 14 = .ok (.lload_n 2, 1) := by decide +kernel
theorem dX11_valueOf_15 : decode cX11_valueOf 15 = .ok (.aload_n 0, 1) := by decide +kernel
theorem dX11_valueOf_16 : decode cX11_valueOf 16 = .ok (.getfield 85, 3) := by decide +kernel
theorem dX11_valueOf_19 : decode cX11_valueOf 19 = .ok (.iload_n 1, 1) := by decide +kernel
theorem dX11_valueOf_20 : decode cX11_valueOf 20 = .ok (.iload 4, 2) := by decide +kernel
theorem dX11_valueOf_22 : decode cX11_valueOf 22 = .ok (.iadd, 1) := by decide +kernel
theorem dX11_valueOf_23 : decode cX11_valueOf 23 = .ok (.iaload, 1) := by decide +kernel
theorem dX11_valueOf_24 : decode cX11_valueOf 24 = .ok (.iconst (-1), 1) := by decide +kernel
theorem dX11_valueOf_25 : decode cX11_valueOf 25 = .ok (.if_icmp .ne 10, 3) := by decide +kernel
theorem dX11_valueOf_28 : decode cX11_valueOf 28 = .ok (.lconst 1, 1) := by decide +kernel
theorem dX11_valueOf_29 : decode cX11_valueOf 29 = .ok (.iload 4, 2) := by decide +kernel
theorem dX11_valueOf_31 : decode cX11_valueOf 31 = .ok (.lshl, 1) := by decide +kernel
theorem dX11_valueOf_32 : decode cX11_valueOf 32 = .ok (.goto 4, 3) := by decide +kernel
theorem dX11_valueOf_35 : decode cX11_valueOf 35 = .ok (.lconst 0, 1) := by decide +kernel
theorem dX11_valueOf_36 : decode cX11_valueOf 36 = .ok (.lor, 1) := by decide +kernel
theorem dX11_valueOf_37 : decode cX11_valueOf 37 = .ok (.lstore_n 2, 1) := by decide +kernel
theorem dX11_valueOf_38 : decode cX11_valueOf 38 = .ok (.iinc 4 1, 3) := by decide +kernel
theorem dX11_valueOf_41 : decode cX11_valueOf 41 = .ok (.goto (-36), 3) := by decide +kernel
theorem dX11_valueOf_44 : decode cX11_valueOf 44 = .ok (.lload_n 2, 1) := by decide +kernel
theorem dX11_valueOf_45 : decode cX11_valueOf 45 = .ok (.lreturn, 1) := by decide +kernel
theorem dX11_needBelow_0 : decode cX11_needBelow 0 = .ok (.lload_n 1, 1) := by decide +kernel
theorem dX11_needBelow_1 : decode cX11_needBelow 1 = .ok (.iload_n 3, 1) := by decide +kernel
theorem dX11_needBelow_2 : decode cX11_needBelow 2 = .ok (.i2l, 1) := by decide +kernel
theorem dX11_needBelow_3 : decode cX11_needBelow 3 = .ok (.lcmp, 1) := by decide +kernel
theorem dX11_needBelow_4 : decode cX11_needBelow 4 = .ok (.ifCond .lt 14, 3) := by decide +kernel
theorem dX11_needBelow_7 : decode cX11_needBelow 7 = .ok (.aload_n 0, 1) := by decide +kernel
theorem dX11_needBelow_8 : decode cX11_needBelow 8 = .ok (.getfield 68, 3) := by decide +kernel
theorem dX11_needBelow_11 : decode cX11_needBelow 11 = .ok (.bipush 7, 2) := by decide +kernel
theorem dX11_needBelow_13 : decode cX11_needBelow 13 = .ok (.iload 4, 2) := by decide +kernel
theorem dX11_needBelow_15 : decode cX11_needBelow 15 = .ok (.invokevirtual 157, 3) := by decide +kernel
theorem dX11_needBelow_18 : decode cX11_needBelow 18 = .ok (.return_, 1) := by decide +kernel
theorem dX11_bitwise_0 : decode cX11_bitwise 0 = .ok (.aload_n 0, 1) := by decide +kernel
theorem dX11_bitwise_1 : decode cX11_bitwise 1 = .ok (.aload_n 0, 1) := by decide +kernel
theorem dX11_bitwise_2 : decode cX11_bitwise 2 = .ok (.getfield 64, 3) := by decide +kernel
theorem dX11_bitwise_5 : decode cX11_bitwise 5 = .ok (.getfield 200, 3) := by decide +kernel
theorem dX11_bitwise_8 : decode cX11_bitwise 8 = .ok (.iload_n 1, 1) := by decide +kernel
theorem dX11_bitwise_9 : decode cX11_bitwise 9 = .ok (.iaload, 1) := by decide +kernel
theorem dX11_bitwise_10 : decode cX11_bitwise 10 = .ok (.invokevirtual 248, 3) := by decide +kernel
theorem dX11_bitwise_13 : decode cX11_bitwise 13 = .ok (.istore 4, 2) := by decide +kernel
theorem dX11_bitwise_15 : decode cX11_bitwise 15 = .ok (.aload_n 0, 1) := by decide +kernel
theorem dX11_bitwise_16 : decode cX11_bitwise 16 = .ok (.getfield 64, 3) := by decide +kernel
theorem dX11_bitwise_19 : decode cX11_bitwise 19 = .ok (.getfield 172, 3) := by decide +kernel
theorem dX11_bitwise_22 : decode cX11_bitwise 22 = .ok (.iload_n 1, 1) := by decide +kernel
theorem dX11_bitwise_23 : decode cX11_bitwise 23 = .ok (.aaload, 1) := by decide +kernel
theorem dX11_bitwise_24 : decode cX11_bitwise 24 = .ok (.invokevirtual 176, 3) := by decide +kernel
theorem dX11_bitwise_27 : decode cX11_bitwise 27 = .ok (.tableswitch 207 38 42 #[33, 91, 33, 149, 91], 33) := by decide +kernel
theorem dX11_bitwise_60 : decode cX11_bitwise 60 = .ok (.iconst 0, 1) := by decide +kernel
theorem dX11_bitwise_61 : decode cX11_bitwise 61 = .ok (.istore 5, 2) := by decide +kernel
theorem dX11_bitwise_63 : decode cX11_bitwise 63 = .ok (.iload 5, 2) := by decide +kernel
theorem dX11_bitwise_65 : decode cX11_bitwise 65 = .ok (.iload 4, 2) := by decide +kernel
theorem dX11_bitwise_67 : decode cX11_bitwise 67 = .ok (.if_icmp .ge 41, 3) := by decide +kernel
theorem dX11_bitwise_70 : decode cX11_bitwise 70 = .ok (.aload_n 0, 1) := by decide +kernel
theorem dX11_bitwise_71 : decode cX11_bitwise 71 = .ok (.getfield 100, 3) := by decide +kernel
theorem dX11_bitwise_74 : decode cX11_bitwise 74 = .ok (.iload 5, 2) := by decide +kernel
theorem dX11_bitwise_76 : decode cX11_bitwise 76 = .ok (.aload_n 0, 1) := by decide +kernel
theorem dX11_bitwise_77 : decode cX11_bitwise 77 = .ok (.getfield 72, 3) := by decide +kernel
theorem dX11_bitwise_80 : decode cX11_bitwise 80 = .ok (.aload_n 0, 1) := by decide +kernel
theorem dX11_bitwise_81 : decode cX11_bitwise 81 = .ok (.getfield 85, 3) := by decide +kernel
theorem dX11_bitwise_84 : decode cX11_bitwise 84 = .ok (.iload_n 2, 1) := by decide +kernel
theorem dX11_bitwise_85 : decode cX11_bitwise 85 = .ok (.iload 5, 2) := by decide +kernel
theorem dX11_bitwise_87 : decode cX11_bitwise 87 = .ok (.iadd, 1) := by decide +kernel
theorem dX11_bitwise_88 : decode cX11_bitwise 88 = .ok (.iaload, 1) := by decide +kernel
theorem dX11_bitwise_89 : decode cX11_bitwise 89 = .ok (.aload_n 0, 1) := by decide +kernel
theorem dX11_bitwise_90 : decode cX11_bitwise 90 = .ok (.getfield 85, 3) := by decide +kernel
theorem dX11_bitwise_93 : decode cX11_bitwise 93 = .ok (.iload_n 3, 1) := by decide +kernel
theorem dX11_bitwise_94 : decode cX11_bitwise 94 = .ok (.iload 5, 2) := by decide +kernel
theorem dX11_bitwise_96 : decode cX11_bitwise 96 = .ok (.iadd, 1) := by decide +kernel
theorem dX11_bitwise_97 : decode cX11_bitwise 97 = .ok (.iaload, 1) := by decide +kernel
theorem dX11_bitwise_98 : decode cX11_bitwise 98 = .ok (.invokevirtual 334, 3) := by decide +kernel
theorem dX11_bitwise_101 : decode cX11_bitwise 101 = .ok (.iastore, 1) := by decide +kernel
theorem dX11_bitwise_102 : decode cX11_bitwise 102 = .ok (.iinc 5 1, 3) := by decide +kernel
theorem dX11_bitwise_105 : decode cX11_bitwise 105 = .ok (.goto (-42), 3) := by decide +kernel
theorem dX11_bitwise_108 : decode cX11_bitwise 108 = .ok (.aload_n 0, 1) := by decide +kernel
theorem dX11_bitwise_109 : decode cX11_bitwise 109 = .ok (.iconst 2, 1) := by decide +kernel
theorem dX11_bitwise_110 : decode cX11_bitwise 110 = .ok (.iload 4, 2) := by decide +kernel
theorem dX11_bitwise_112 : decode cX11_bitwise 112 = .ok (.invokevirtual 303, 3) := by decide +kernel
theorem dX11_bitwise_115 : decode cX11_bitwise 115 = .ok (.goto 148, 3) := by decide +kernel
theorem dX11_bitwise_118 : decode cX11_bitwise 118 = .ok (.iconst 0, 1) := by decide +kernel
theorem dX11_bitwise_119 : decode cX11_bitwise 119 = .ok (.istore 5, 2) := by decide +kernel
theorem dX11_bitwise_121 : decode cX11_bitwise 121 = .ok (.iload 5, 2) := by decide +kernel
theorem dX11_bitwise_123 : decode cX11_bitwise 123 = .ok (.iload 4, 2) := by decide +kernel
theorem dX11_bitwise_125 : decode cX11_bitwise 125 = .ok (.if_icmp .ge 41, 3) := by decide +kernel
theorem dX11_bitwise_128 : decode cX11_bitwise 128 = .ok (.aload_n 0, 1) := by decide +kernel
theorem dX11_bitwise_129 : decode cX11_bitwise 129 = .ok (.getfield 100, 3) := by decide +kernel
theorem dX11_bitwise_132 : decode cX11_bitwise 132 = .ok (.iload 5, 2) := by decide +kernel
theorem dX11_bitwise_134 : decode cX11_bitwise 134 = .ok (.aload_n 0, 1) := by decide +kernel
theorem dX11_bitwise_135 : decode cX11_bitwise 135 = .ok (.getfield 72, 3) := by decide +kernel
theorem dX11_bitwise_138 : decode cX11_bitwise 138 = .ok (.aload_n 0, 1) := by decide +kernel
theorem dX11_bitwise_139 : decode cX11_bitwise 139 = .ok (.getfield 85, 3) := by decide +kernel
theorem dX11_bitwise_142 : decode cX11_bitwise 142 = .ok (.iload_n 2, 1) := by decide +kernel
theorem dX11_bitwise_143 : decode cX11_bitwise 143 = .ok (.iload 5, 2) := by decide +kernel
theorem dX11_bitwise_145 : decode cX11_bitwise 145 = .ok (.iadd, 1) := by decide +kernel
theorem dX11_bitwise_146 : decode cX11_bitwise 146 = .ok (.iaload, 1) := by decide +kernel
theorem dX11_bitwise_147 : decode cX11_bitwise 147 = .ok (.aload_n 0, 1) := by decide +kernel
theorem dX11_bitwise_148 : decode cX11_bitwise 148 = .ok (.getfield 85, 3) := by decide +kernel
theorem dX11_bitwise_151 : decode cX11_bitwise 151 = .ok (.iload_n 3, 1) := by decide +kernel
theorem dX11_bitwise_152 : decode cX11_bitwise 152 = .ok (.iload 5, 2) := by decide +kernel
theorem dX11_bitwise_154 : decode cX11_bitwise 154 = .ok (.iadd, 1) := by decide +kernel
theorem dX11_bitwise_155 : decode cX11_bitwise 155 = .ok (.iaload, 1) := by decide +kernel
theorem dX11_bitwise_156 : decode cX11_bitwise 156 = .ok (.invokevirtual 297, 3) := by decide +kernel
theorem dX11_bitwise_159 : decode cX11_bitwise 159 = .ok (.iastore, 1) := by decide +kernel
theorem dX11_bitwise_160 : decode cX11_bitwise 160 = .ok (.iinc 5 1, 3) := by decide +kernel
theorem dX11_bitwise_163 : decode cX11_bitwise 163 = .ok (.goto (-42), 3) := by decide +kernel
theorem dX11_bitwise_166 : decode cX11_bitwise 166 = .ok (.aload_n 0, 1) := by decide +kernel
theorem dX11_bitwise_167 : decode cX11_bitwise 167 = .ok (.iconst 2, 1) := by decide +kernel
theorem dX11_bitwise_168 : decode cX11_bitwise 168 = .ok (.iload 4, 2) := by decide +kernel
theorem dX11_bitwise_170 : decode cX11_bitwise 170 = .ok (.invokevirtual 303, 3) := by decide +kernel
theorem dX11_bitwise_173 : decode cX11_bitwise 173 = .ok (.goto 90, 3) := by decide +kernel
theorem dX11_bitwise_176 : decode cX11_bitwise 176 = .ok (.iconst 0, 1) := by decide +kernel
theorem dX11_bitwise_177 : decode cX11_bitwise 177 = .ok (.istore 5, 2) := by decide +kernel
theorem dX11_bitwise_179 : decode cX11_bitwise 179 = .ok (.iload 5, 2) := by decide +kernel
theorem dX11_bitwise_181 : decode cX11_bitwise 181 = .ok (.iload 4, 2) := by decide +kernel
theorem dX11_bitwise_183 : decode cX11_bitwise 183 = .ok (.if_icmp .ge 41, 3) := by decide +kernel
theorem dX11_bitwise_186 : decode cX11_bitwise 186 = .ok (.aload_n 0, 1) := by decide +kernel
theorem dX11_bitwise_187 : decode cX11_bitwise 187 = .ok (.getfield 100, 3) := by decide +kernel
theorem dX11_bitwise_190 : decode cX11_bitwise 190 = .ok (.iload 5, 2) := by decide +kernel
theorem dX11_bitwise_192 : decode cX11_bitwise 192 = .ok (.aload_n 0, 1) := by decide +kernel
theorem dX11_bitwise_193 : decode cX11_bitwise 193 = .ok (.getfield 72, 3) := by decide +kernel
theorem dX11_bitwise_196 : decode cX11_bitwise 196 = .ok (.aload_n 0, 1) := by decide +kernel
theorem dX11_bitwise_197 : decode cX11_bitwise 197 = .ok (.getfield 85, 3) := by decide +kernel
theorem dX11_bitwise_200 : decode cX11_bitwise 200 = .ok (.iload_n 2, 1) := by decide +kernel
theorem dX11_bitwise_201 : decode cX11_bitwise 201 = .ok (.iload 5, 2) := by decide +kernel
theorem dX11_bitwise_203 : decode cX11_bitwise 203 = .ok (.iadd, 1) := by decide +kernel
theorem dX11_bitwise_204 : decode cX11_bitwise 204 = .ok (.iaload, 1) := by decide +kernel
theorem dX11_bitwise_205 : decode cX11_bitwise 205 = .ok (.aload_n 0, 1) := by decide +kernel
theorem dX11_bitwise_206 : decode cX11_bitwise 206 = .ok (.getfield 85, 3) := by decide +kernel
theorem dX11_bitwise_209 : decode cX11_bitwise 209 = .ok (.iload_n 3, 1) := by decide +kernel
theorem dX11_bitwise_210 : decode cX11_bitwise 210 = .ok (.iload 5, 2) := by decide +kernel
theorem dX11_bitwise_212 : decode cX11_bitwise 212 = .ok (.iadd, 1) := by decide +kernel
theorem dX11_bitwise_213 : decode cX11_bitwise 213 = .ok (.iaload, 1) := by decide +kernel
theorem dX11_bitwise_214 : decode cX11_bitwise 214 = .ok (.invokevirtual 300, 3) := by decide +kernel
theorem dX11_bitwise_217 : decode cX11_bitwise 217 = .ok (.iastore, 1) := by decide +kernel
theorem dX11_bitwise_218 : decode cX11_bitwise 218 = .ok (.iinc 5 1, 3) := by decide +kernel
theorem dX11_bitwise_221 : decode cX11_bitwise 221 = .ok (.goto (-42), 3) := by decide +kernel
theorem dX11_bitwise_224 : decode cX11_bitwise 224 = .ok (.aload_n 0, 1) := by decide +kernel
theorem dX11_bitwise_225 : decode cX11_bitwise 225 = .ok (.iconst 2, 1) := by decide +kernel
theorem dX11_bitwise_226 : decode cX11_bitwise 226 = .ok (.iload 4, 2) := by decide +kernel
theorem dX11_bitwise_228 : decode cX11_bitwise 228 = .ok (.invokevirtual 303, 3) := by decide +kernel
theorem dX11_bitwise_231 : decode cX11_bitwise 231 = .ok (.goto 32, 3) := by decide +kernel
theorem dX11_bitwise_234 : decode cX11_bitwise 234 = .ok (.aload_n 0, 1) := by decide +kernel
theorem dX11_bitwise_235 : decode cX11_bitwise 235 = .ok (.getfield 100, 3) := by decide +kernel
theorem dX11_bitwise_238 : decode cX11_bitwise 238 = .ok (.iconst 0, 1) := by decide +kernel
theorem dX11_bitwise_239 : decode cX11_bitwise 239 = .ok (.aload_n 0, 1) := by decide +kernel
theorem dX11_bitwise_240 : decode cX11_bitwise 240 = .ok (.aload_n 0, 1) := by decide +kernel
theorem dX11_bitwise_241 : decode cX11_bitwise 241 = .ok (.getfield 64, 3) := by decide +kernel
theorem dX11_bitwise_244 : decode cX11_bitwise 244 = .ok (.getfield 172, 3) := by decide +kernel
theorem dX11_bitwise_247 : decode cX11_bitwise 247 = .ok (.iload_n 1, 1) := by decide +kernel
theorem dX11_bitwise_248 : decode cX11_bitwise 248 = .ok (.aaload, 1) := by decide +kernel
theorem dX11_bitwise_249 : decode cX11_bitwise 249 = .ok (.iload_n 2, 1) := by decide +kernel
theorem dX11_bitwise_250 : decode cX11_bitwise 250 = .ok (.iload_n 3, 1) := by decide +kernel
theorem dX11_bitwise_251 : decode cX11_bitwise 251 = .ok (.iload 4, 2) := by decide +kernel
theorem dX11_bitwise_253 : decode cX11_bitwise 253 = .ok (.invokevirtual 337, 3) := by decide +kernel
theorem dX11_bitwise_256 : decode cX11_bitwise 256 = .ok (.iastore, 1) := by decide +kernel
theorem dX11_bitwise_257 : decode cX11_bitwise 257 = .ok (.aload_n 0, 1) := by decide +kernel
theorem dX11_bitwise_258 : decode cX11_bitwise 258 = .ok (.iconst 2, 1) := by decide +kernel
theorem dX11_bitwise_259 : decode cX11_bitwise 259 = .ok (.iconst 1, 1) := by decide +kernel
theorem dX11_bitwise_260 : decode cX11_bitwise 260 = .ok (.invokevirtual 303, 3) := by decide +kernel
theorem dX11_bitwise_263 : decode cX11_bitwise 263 = .ok (.return_, 1) := by decide +kernel
theorem dX11_compared_0 : decode cX11_compared 0 = .ok (.aload_n 1, 1) := by decide +kernel
theorem dX11_compared_1 : decode cX11_compared 1 = .ok (.invokevirtual 176, 3) := by decide +kernel
theorem dX11_compared_4 : decode cX11_compared 4 = .ok (.tableswitch 134 43 47 #[36, 56, 78, 96, 116], 36) := by decide +kernel
theorem dX11_compared_40 : decode cX11_compared 40 = .ok (.aload_n 0, 1) := by decide +kernel
theorem dX11_compared_41 : decode cX11_compared 41 = .ok (.getfield 81, 3) := by decide +kernel
theorem dX11_compared_44 : decode cX11_compared 44 = .ok (.aload_n 0, 1) := by decide +kernel
theorem dX11_compared_45 : decode cX11_compared 45 = .ok (.getfield 85, 3) := by decide +kernel
theorem dX11_compared_48 : decode cX11_compared 48 = .ok (.iload_n 2, 1) := by decide +kernel
theorem dX11_compared_49 : decode cX11_compared 49 = .ok (.aload_n 0, 1) := by decide +kernel
theorem dX11_compared_50 : decode cX11_compared 50 = .ok (.getfield 85, 3) := by decide +kernel
theorem dX11_compared_53 : decode cX11_compared 53 = .ok (.iload_n 3, 1) := by decide +kernel
theorem dX11_compared_54 : decode cX11_compared 54 = .ok (.iload 4, 2) := by decide +kernel
theorem dX11_compared_56 : decode cX11_compared 56 = .ok (.invokevirtual 268, 3) := by decide +kernel
theorem dX11_compared_59 : decode cX11_compared 59 = .ok (.ireturn, 1) := by decide +kernel
theorem dX11_compared_60 : decode cX11_compared 60 = .ok (.aload_n 0, 1) := by decide +kernel
theorem dX11_compared_61 : decode cX11_compared 61 = .ok (.getfield 81, 3) := by decide +kernel
theorem dX11_compared_64 : decode cX11_compared 64 = .ok (.aload_n 0, 1) := by decide +kernel
theorem dX11_compared_65 : decode cX11_compared 65 = .ok (.getfield 85, 3) := by decide +kernel
theorem dX11_compared_68 : decode cX11_compared 68 = .ok (.iload_n 2, 1) := by decide +kernel
theorem dX11_compared_69 : decode cX11_compared 69 = .ok (.aload_n 0, 1) := by decide +kernel
theorem dX11_compared_70 : decode cX11_compared 70 = .ok (.getfield 85, 3) := by decide +kernel
theorem dX11_compared_73 : decode cX11_compared 73 = .ok (.iload_n 3, 1) := by decide +kernel
theorem dX11_compared_74 : decode cX11_compared 74 = .ok (.iload 4, 2) := by decide +kernel
theorem dX11_compared_76 : decode cX11_compared 76 = .ok (.invokevirtual 268, 3) := by decide +kernel
theorem dX11_compared_79 : decode cX11_compared 79 = .ok (.iconst 1, 1) := by decide +kernel
theorem dX11_compared_80 : decode cX11_compared 80 = .ok (.ixor, 1) := by decide +kernel
theorem dX11_compared_81 : decode cX11_compared 81 = .ok (.ireturn, 1) := by decide +kernel
theorem dX11_compared_82 : decode cX11_compared 82 = .ok (.aload_n 0, 1) := by decide +kernel
theorem dX11_compared_83 : decode cX11_compared 83 = .ok (.getfield 81, 3) := by decide +kernel
theorem dX11_compared_86 : decode cX11_compared 86 = .ok (.aload_n 0, 1) := by decide +kernel
theorem dX11_compared_87 : decode cX11_compared 87 = .ok (.getfield 85, 3) := by decide +kernel
theorem dX11_compared_90 : decode cX11_compared 90 = .ok (.iload_n 2, 1) := by decide +kernel
theorem dX11_compared_91 : decode cX11_compared 91 = .ok (.aload_n 0, 1) := by decide +kernel
theorem dX11_compared_92 : decode cX11_compared 92 = .ok (.getfield 85, 3) := by decide +kernel
theorem dX11_compared_95 : decode cX11_compared 95 = .ok (.iload_n 3, 1) := by decide +kernel
theorem dX11_compared_96 : decode cX11_compared 96 = .ok (.invokevirtual 341, 3) := by decide +kernel
theorem dX11_compared_99 : decode cX11_compared 99 = .ok (.ireturn, 1) := by decide +kernel
theorem dX11_compared_100 : decode cX11_compared 100 = .ok (.aload_n 0, 1) := by decide +kernel
theorem dX11_compared_101 : decode cX11_compared 101 = .ok (.getfield 81, 3) := by decide +kernel
theorem dX11_compared_104 : decode cX11_compared 104 = .ok (.aload_n 0, 1) := by decide +kernel
theorem dX11_compared_105 : decode cX11_compared 105 = .ok (.getfield 85, 3) := by decide +kernel
theorem dX11_compared_108 : decode cX11_compared 108 = .ok (.iload_n 3, 1) := by decide +kernel
theorem dX11_compared_109 : decode cX11_compared 109 = .ok (.aload_n 0, 1) := by decide +kernel
theorem dX11_compared_110 : decode cX11_compared 110 = .ok (.getfield 85, 3) := by decide +kernel
theorem dX11_compared_113 : decode cX11_compared 113 = .ok (.iload_n 2, 1) := by decide +kernel
theorem dX11_compared_114 : decode cX11_compared 114 = .ok (.invokevirtual 341, 3) := by decide +kernel
theorem dX11_compared_117 : decode cX11_compared 117 = .ok (.iconst 1, 1) := by decide +kernel
theorem dX11_compared_118 : decode cX11_compared 118 = .ok (.ixor, 1) := by decide +kernel
theorem dX11_compared_119 : decode cX11_compared 119 = .ok (.ireturn, 1) := by decide +kernel
theorem dX11_compared_120 : decode cX11_compared 120 = .ok (.aload_n 0, 1) := by decide +kernel
theorem dX11_compared_121 : decode cX11_compared 121 = .ok (.getfield 81, 3) := by decide +kernel
theorem dX11_compared_124 : decode cX11_compared 124 = .ok (.aload_n 0, 1) := by decide +kernel
theorem dX11_compared_125 : decode cX11_compared 125 = .ok (.getfield 85, 3) := by decide +kernel
theorem dX11_compared_128 : decode cX11_compared 128 = .ok (.iload_n 3, 1) := by decide +kernel
theorem dX11_compared_129 : decode cX11_compared 129 = .ok (.aload_n 0, 1) := by decide +kernel
theorem dX11_compared_130 : decode cX11_compared 130 = .ok (.getfield 85, 3) := by decide +kernel
theorem dX11_compared_133 : decode cX11_compared 133 = .ok (.iload_n 2, 1) := by decide +kernel
theorem dX11_compared_134 : decode cX11_compared 134 = .ok (.invokevirtual 341, 3) := by decide +kernel
theorem dX11_compared_137 : decode cX11_compared 137 = .ok (.ireturn, 1) := by decide +kernel
theorem dX11_compared_138 : decode cX11_compared 138 = .ok (.aload_n 0, 1) := by decide +kernel
theorem dX11_compared_139 : decode cX11_compared 139 = .ok (.getfield 81, 3) := by decide +kernel
theorem dX11_compared_142 : decode cX11_compared 142 = .ok (.aload_n 0, 1) := by decide +kernel
theorem dX11_compared_143 : decode cX11_compared 143 = .ok (.getfield 85, 3) := by decide +kernel
theorem dX11_compared_146 : decode cX11_compared 146 = .ok (.iload_n 2, 1) := by decide +kernel
theorem dX11_compared_147 : decode cX11_compared 147 = .ok (.aload_n 0, 1) := by decide +kernel
theorem dX11_compared_148 : decode cX11_compared 148 = .ok (.getfield 85, 3) := by decide +kernel
theorem dX11_compared_151 : decode cX11_compared 151 = .ok (.iload_n 3, 1) := by decide +kernel
theorem dX11_compared_152 : decode cX11_compared 152 = .ok (.invokevirtual 341, 3) := by decide +kernel
theorem dX11_compared_155 : decode cX11_compared 155 = .ok (.iconst 1, 1) := by decide +kernel
theorem dX11_compared_156 : decode cX11_compared 156 = .ok (.ixor, 1) := by decide +kernel
theorem dX11_compared_157 : decode cX11_compared 157 = .ok (.ireturn, 1) := by decide +kernel
theorem dX11_factor_0 : decode cX11_factor 0 = .ok (.aload_n 0, 1) := by decide +kernel
theorem dX11_factor_1 : decode cX11_factor 1 = .ok (.getfield 64, 3) := by decide +kernel
theorem dX11_factor_4 : decode cX11_factor 4 = .ok (.getfield 172, 3) := by decide +kernel
theorem dX11_factor_7 : decode cX11_factor 7 = .ok (.iload_n 1, 1) := by decide +kernel
theorem dX11_factor_8 : decode cX11_factor 8 = .ok (.aaload, 1) := by decide +kernel
theorem dX11_factor_9 : decode cX11_factor 9 = .ok (.astore_n 2, 1) := by decide +kernel
theorem dX11_factor_10 : decode cX11_factor 10 = .ok (.aload_n 2, 1) := by decide +kernel
theorem dX11_factor_11 : decode cX11_factor 11 = .ok (.invokevirtual 176, 3) := by decide +kernel
theorem dX11_factor_14 : decode cX11_factor 14 = .ok (.tableswitch 336 22 36 #[74, 116, 116, 140, 152, 159, 152, 336, 167, 152, 234, 152, 336, 262, 152], 74) := by decide +kernel
theorem dX11_factor_88 : decode cX11_factor 88 = .ok (.aload_n 0, 1) := by decide +kernel
theorem dX11_factor_89 : decode cX11_factor 89 = .ok (.invokevirtual 209, 3) := by decide +kernel
theorem dX11_factor_92 : decode cX11_factor 92 = .ok (.aload_n 0, 1) := by decide +kernel
theorem dX11_factor_93 : decode cX11_factor 93 = .ok (.aload_n 0, 1) := by decide +kernel
theorem dX11_factor_94 : decode cX11_factor 94 = .ok (.getfield 94, 3) := by decide +kernel
theorem dX11_factor_97 : decode cX11_factor 97 = .ok (.aload_n 0, 1) := by decide +kernel
theorem dX11_factor_98 : decode cX11_factor 98 = .ok (.getfield 64, 3) := by decide +kernel
theorem dX11_factor_101 : decode cX11_factor 101 = .ok (.getfield 245, 3) := by decide +kernel
theorem dX11_factor_104 : decode cX11_factor 104 = .ok (.iload_n 1, 1) := by decide +kernel
theorem dX11_factor_105 : decode cX11_factor 105 = .ok (.iaload, 1) := by decide +kernel
theorem dX11_factor_106 : decode cX11_factor 106 = .ok (.i2l, 1) := by decide +kernel
theorem dX11_factor_107 : decode cX11_factor 107 = .ok (.ldc2_w 274, 3) := by decide +kernel
theorem dX11_factor_110 : decode cX11_factor 110 = .ok (.land, 1) := by decide +kernel
theorem dX11_factor_111 : decode cX11_factor 111 = .ok (.invokevirtual 264, 3) := by decide +kernel
theorem dX11_factor_114 : decode cX11_factor 114 = .ok (.aload_n 0, 1) := by decide +kernel
theorem dX11_factor_115 : decode cX11_factor 115 = .ok (.aload_n 0, 1) := by decide +kernel
theorem dX11_factor_116 : decode cX11_factor 116 = .ok (.getfield 94, 3) := by decide +kernel
theorem dX11_factor_119 : decode cX11_factor 119 = .ok (.iconst 0, 1) := by decide +kernel
theorem dX11_factor_120 : decode cX11_factor 120 = .ok (.aload_n 0, 1) := by decide +kernel
theorem dX11_factor_121 : decode cX11_factor 121 = .ok (.getfield 60, 3) := by decide +kernel
theorem dX11_factor_124 : decode cX11_factor 124 = .ok (.invokevirtual 168, 3) := by decide +kernel
theorem dX11_factor_127 : decode cX11_factor 127 = .ok (.goto 223, 3) := by decide +kernel
theorem dX11_factor_130 : decode cX11_factor 130 = .ok (.aload_n 0, 1) := by decide +kernel
theorem dX11_factor_131 : decode cX11_factor 131 = .ok (.invokevirtual 209, 3) := by decide +kernel
theorem dX11_factor_134 : decode cX11_factor 134 = .ok (.aload_n 0, 1) := by decide +kernel
theorem dX11_factor_135 : decode cX11_factor 135 = .ok (.aload_n 2, 1) := by decide +kernel
theorem dX11_factor_136 : decode cX11_factor 136 = .ok (.getstatic 276, 3) := by decide +kernel
theorem dX11_factor_139 : decode cX11_factor 139 = .ok (.if_acmp .ne 7, 3) := by decide +kernel
theorem dX11_factor_142 : decode cX11_factor 142 = .ok (.iconst (-1), 1) := by decide +kernel
theorem dX11_factor_143 : decode cX11_factor 143 = .ok (.goto 5, 3) := by decide +kernel
theorem dX11_factor_146 : decode cX11_factor 146 = .ok (.bipush (-2), 2) := by decide +kernel
theorem dX11_factor_148 : decode cX11_factor 148 = .ok (.invokevirtual 279, 3) := by decide +kernel
theorem dX11_factor_151 : decode cX11_factor 151 = .ok (.goto 199, 3) := by decide +kernel
theorem dX11_factor_154 : decode cX11_factor 154 = .ok (.aload_n 0, 1) := by decide +kernel
theorem dX11_factor_155 : decode cX11_factor 155 = .ok (.invokevirtual 209, 3) := by decide +kernel
theorem dX11_factor_158 : decode cX11_factor 158 = .ok (.aload_n 0, 1) := by decide +kernel
theorem dX11_factor_159 : decode cX11_factor 159 = .ok (.iload_n 1, 1) := by decide +kernel
theorem dX11_factor_160 : decode cX11_factor 160 = .ok (.invokevirtual 282, 3) := by decide +kernel
theorem dX11_factor_163 : decode cX11_factor 163 = .ok (.goto 187, 3) := by decide +kernel
theorem dX11_factor_166 : decode cX11_factor 166 = .ok (.aload_n 0, 1) := by decide +kernel
theorem dX11_factor_167 : decode cX11_factor 167 = .ok (.invokevirtual 209, 3) := by decide +kernel
theorem dX11_factor_170 : decode cX11_factor 170 = .ok (.goto 180, 3) := by decide +kernel
theorem dX11_factor_173 : decode cX11_factor 173 = .ok (.aload_n 0, 1) := by decide +kernel
theorem dX11_factor_174 : decode cX11_factor 174 = .ok (.iload_n 1, 1) := by decide +kernel
theorem dX11_factor_175 : decode cX11_factor 175 = .ok (.invokevirtual 285, 3) := by decide +kernel
theorem dX11_factor_178 : decode cX11_factor 178 = .ok (.goto 172, 3) := by decide +kernel
theorem dX11_factor_181 : decode cX11_factor 181 = .ok (.aload_n 0, 1) := by decide +kernel
theorem dX11_factor_182 : decode cX11_factor 182 = .ok (.getfield 51, 3) := by decide +kernel
theorem dX11_factor_185 : decode cX11_factor 185 = .ok (.aload_n 0, 1) := by decide +kernel
theorem dX11_factor_186 : decode cX11_factor 186 = .ok (.getfield 130, 3) := by decide +kernel
theorem dX11_factor_189 : decode cX11_factor 189 = .ok (.aload_n 0, 1) := by decide +kernel
theorem dX11_factor_190 : decode cX11_factor 190 = .ok (.getfield 136, 3) := by decide +kernel
theorem dX11_factor_193 : decode cX11_factor 193 = .ok (.iastore, 1) := by decide +kernel
theorem dX11_factor_194 : decode cX11_factor 194 = .ok (.aload_n 0, 1) := by decide +kernel
theorem dX11_factor_195 : decode cX11_factor 195 = .ok (.getfield 54, 3) := by decide +kernel
theorem dX11_factor_198 : decode cX11_factor 198 = .ok (.aload_n 0, 1) := by decide +kernel
theorem dX11_factor_199 : decode cX11_factor 199 = .ok (.getfield 130, 3) := by decide +kernel
theorem dX11_factor_202 : decode cX11_factor 202 = .ok (.aload_n 0, 1) := by decide +kernel
theorem dX11_factor_203 : decode cX11_factor 203 = .ok (.getfield 109, 3) := by decide +kernel
theorem dX11_factor_206 : decode cX11_factor 206 = .ok (.aload_n 0, 1) := by decide +kernel
theorem dX11_factor_207 : decode cX11_factor 207 = .ok (.getfield 64, 3) := by decide +kernel
theorem dX11_factor_210 : decode cX11_factor 210 = .ok (.getfield 200, 3) := by decide +kernel
theorem dX11_factor_213 : decode cX11_factor 213 = .ok (.iload_n 1, 1) := by decide +kernel
theorem dX11_factor_214 : decode cX11_factor 214 = .ok (.iaload, 1) := by decide +kernel
theorem dX11_factor_215 : decode cX11_factor 215 = .ok (.isub, 1) := by decide +kernel
theorem dX11_factor_216 : decode cX11_factor 216 = .ok (.iastore, 1) := by decide +kernel
theorem dX11_factor_217 : decode cX11_factor 217 = .ok (.aload_n 0, 1) := by decide +kernel
theorem dX11_factor_218 : decode cX11_factor 218 = .ok (.dup, 1) := by decide +kernel
theorem dX11_factor_219 : decode cX11_factor 219 = .ok (.getfield 130, 3) := by decide +kernel
theorem dX11_factor_222 : decode cX11_factor 222 = .ok (.iconst 1, 1) := by decide +kernel
theorem dX11_factor_223 : decode cX11_factor 223 = .ok (.iadd, 1) := by decide +kernel
theorem dX11_factor_224 : decode cX11_factor 224 = .ok (.putfield 130, 3) := by decide +kernel
theorem dX11_factor_227 : decode cX11_factor 227 = .ok (.aload_n 0, 1) := by decide +kernel
theorem dX11_factor_228 : decode cX11_factor 228 = .ok (.aload_n 0, 1) := by decide +kernel
theorem dX11_factor_229 : decode cX11_factor 229 = .ok (.getfield 48, 3) := by decide +kernel
theorem dX11_factor_232 : decode cX11_factor 232 = .ok (.aload_n 0, 1) := by decide +kernel
theorem dX11_factor_233 : decode cX11_factor 233 = .ok (.getfield 64, 3) := by decide +kernel
theorem dX11_factor_236 : decode cX11_factor 236 = .ok (.getfield 245, 3) := by decide +kernel
theorem dX11_factor_239 : decode cX11_factor 239 = .ok (.iload_n 1, 1) := by decide +kernel
theorem dX11_factor_240 : decode cX11_factor 240 = .ok (.iaload, 1) := by decide +kernel
theorem dX11_factor_241 : decode cX11_factor 241 = .ok (.iaload, 1) := by decide +kernel
theorem dX11_factor_242 : decode cX11_factor 242 = .ok (.putfield 136, 3) := by decide +kernel
theorem dX11_factor_245 : decode cX11_factor 245 = .ok (.goto 105, 3) := by decide +kernel
theorem dX11_factor_248 : decode cX11_factor 248 = .ok (.aload_n 0, 1) := by decide +kernel
theorem dX11_factor_249 : decode cX11_factor 249 = .ok (.getfield 97, 3) := by decide +kernel
theorem dX11_factor_252 : decode cX11_factor 252 = .ok (.iconst 0, 1) := by decide +kernel
theorem dX11_factor_253 : decode cX11_factor 253 = .ok (.aload_n 0, 1) := by decide +kernel
theorem dX11_factor_254 : decode cX11_factor 254 = .ok (.getfield 85, 3) := by decide +kernel
theorem dX11_factor_257 : decode cX11_factor 257 = .ok (.aload_n 0, 1) := by decide +kernel
theorem dX11_factor_258 : decode cX11_factor 258 = .ok (.iconst 1, 1) := by decide +kernel
theorem dX11_factor_259 : decode cX11_factor 259 = .ok (.invokevirtual 218, 3) := by decide +kernel
theorem dX11_factor_262 : decode cX11_factor 262 = .ok (.iconst 1, 1) := by decide +kernel
theorem dX11_factor_263 : decode cX11_factor 263 = .ok (.iadd, 1) := by decide +kernel
theorem dX11_factor_264 : decode cX11_factor 264 = .ok (.aload_n 0, 1) := by decide +kernel
theorem dX11_factor_265 : decode cX11_factor 265 = .ok (.getfield 60, 3) := by decide +kernel
theorem dX11_factor_268 : decode cX11_factor 268 = .ok (.iconst 1, 1) := by decide +kernel
theorem dX11_factor_269 : decode cX11_factor 269 = .ok (.isub, 1) := by decide +kernel
theorem dX11_factor_270 : decode cX11_factor 270 = .ok (.invokestatic 162, 3) := by decide +kernel
theorem dX11_factor_273 : decode cX11_factor 273 = .ok (.goto 77, 3) := by decide +kernel
theorem dX11_factor_276 : decode cX11_factor 276 = .ok (.aload_n 0, 1) := by decide +kernel
theorem dX11_factor_277 : decode cX11_factor 277 = .ok (.aload_n 0, 1) := by decide +kernel
theorem dX11_factor_278 : decode cX11_factor 278 = .ok (.iconst 1, 1) := by decide +kernel
theorem dX11_factor_279 : decode cX11_factor 279 = .ok (.invokevirtual 218, 3) := by decide +kernel
theorem dX11_factor_282 : decode cX11_factor 282 = .ok (.invokevirtual 222, 3) := by decide +kernel
theorem dX11_factor_285 : decode cX11_factor 285 = .ok (.lstore_n 3, 1) := by decide +kernel
theorem dX11_factor_286 : decode cX11_factor 286 = .ok (.aload_n 0, 1) := by decide +kernel
theorem dX11_factor_287 : decode cX11_factor 287 = .ok (.lload_n 3, 1) := by decide +kernel
theorem dX11_factor_288 : decode cX11_factor 288 = .ok (.aload_n 0, 1) := by decide +kernel
theorem dX11_factor_289 : decode cX11_factor 289 = .ok (.getfield 60, 3) := by decide +kernel
theorem dX11_factor_292 : decode cX11_factor 292 = .ok (.aload_n 0, 1) := by decide +kernel
theorem dX11_factor_293 : decode cX11_factor 293 = .ok (.getfield 64, 3) := by decide +kernel
theorem dX11_factor_296 : decode cX11_factor 296 = .ok (.getfield 200, 3) := by decide +kernel
theorem dX11_factor_299 : decode cX11_factor 299 = .ok (.iload_n 1, 1) := by decide +kernel
theorem dX11_factor_300 : decode cX11_factor 300 = .ok (.iaload, 1) := by decide +kernel
theorem dX11_factor_301 : decode cX11_factor 301 = .ok (.invokevirtual 226, 3) := by decide +kernel
theorem dX11_factor_304 : decode cX11_factor 304 = .ok (.aload_n 0, 1) := by decide +kernel
theorem dX11_factor_305 : decode cX11_factor 305 = .ok (.dup, 1) := by decide +kernel
theorem dX11_factor_306 : decode cX11_factor 306 = .ok (.getfield 109, 3) := by decide +kernel
theorem dX11_factor_309 : decode cX11_factor 309 = .ok (.iconst 1, 1) := by decide +kernel
theorem dX11_factor_310 : decode cX11_factor 310 = .ok (.isub, 1) := by decide +kernel
theorem dX11_factor_311 : decode cX11_factor 311 = .ok (.putfield 109, 3) := by decide +kernel
theorem dX11_factor_314 : decode cX11_factor 314 = .ok (.aload_n 0, 1) := by decide +kernel
theorem dX11_factor_315 : decode cX11_factor 315 = .ok (.getfield 68, 3) := by decide +kernel
theorem dX11_factor_318 : decode cX11_factor 318 = .ok (.invokevirtual 144, 3) := by decide +kernel
theorem dX11_factor_321 : decode cX11_factor 321 = .ok (.ifCond .ne 29, 3) := by decide +kernel
theorem dX11_factor_324 : decode cX11_factor 324 = .ok (.aload_n 0, 1) := by decide +kernel
theorem dX11_factor_325 : decode cX11_factor 325 = .ok (.getfield 85, 3) := by decide +kernel
theorem dX11_factor_328 : decode cX11_factor 328 = .ok (.aload_n 0, 1) := by decide +kernel
theorem dX11_factor_329 : decode cX11_factor 329 = .ok (.iconst 1, 1) := by decide +kernel
theorem dX11_factor_330 : decode cX11_factor 330 = .ok (.invokevirtual 218, 3) := by decide +kernel
theorem dX11_factor_333 : decode cX11_factor 333 = .ok (.aload_n 0, 1) := by decide +kernel
theorem dX11_factor_334 : decode cX11_factor 334 = .ok (.getfield 85, 3) := by decide +kernel
theorem dX11_factor_337 : decode cX11_factor 337 = .ok (.aload_n 0, 1) := by decide +kernel
theorem dX11_factor_338 : decode cX11_factor 338 = .ok (.iconst 1, 1) := by decide +kernel
theorem dX11_factor_339 : decode cX11_factor 339 = .ok (.invokevirtual 218, 3) := by decide +kernel
theorem dX11_factor_342 : decode cX11_factor 342 = .ok (.lload_n 3, 1) := by decide +kernel
theorem dX11_factor_343 : decode cX11_factor 343 = .ok (.l2i, 1) := by decide +kernel
theorem dX11_factor_344 : decode cX11_factor 344 = .ok (.iadd, 1) := by decide +kernel
theorem dX11_factor_345 : decode cX11_factor 345 = .ok (.iaload, 1) := by decide +kernel
theorem dX11_factor_346 : decode cX11_factor 346 = .ok (.iastore, 1) := by decide +kernel
theorem dX11_factor_347 : decode cX11_factor 347 = .ok (.goto 3, 3) := by decide +kernel
theorem dX11_factor_350 : decode cX11_factor 350 = .ok (.return_, 1) := by decide +kernel
theorem dX11_count_0 : decode cX11_count 0 = .ok (.aload_n 0, 1) := by decide +kernel
theorem dX11_count_1 : decode cX11_count 1 = .ok (.getfield 112, 3) := by decide +kernel
theorem dX11_count_4 : decode cX11_count 4 = .ok (.ldc 161, 2) := by decide +kernel
theorem dX11_count_6 : decode cX11_count 6 = .ok (.if_icmp .ne 16, 3) := by decide +kernel
theorem dX11_count_9 : decode cX11_count 9 = .ok (.aload_n 0, 1) := by decide +kernel
theorem dX11_count_10 : decode cX11_count 10 = .ok (.getfield 68, 3) := by decide +kernel
theorem dX11_count_13 : decode cX11_count 13 = .ok (.bipush 8, 2) := by decide +kernel
theorem dX11_count_15 : decode cX11_count 15 = .ok (.aload_n 0, 1) := by decide +kernel
theorem dX11_count_16 : decode cX11_count 16 = .ok (.getfield 115, 3) := by decide +kernel
theorem dX11_count_19 : decode cX11_count 19 = .ok (.invokevirtual 157, 3) := by decide +kernel
theorem dX11_count_22 : decode cX11_count 22 = .ok (.aload_n 0, 1) := by decide +kernel
theorem dX11_count_23 : decode cX11_count 23 = .ok (.dup, 1) := by decide +kernel
theorem dX11_count_24 : decode cX11_count 24 = .ok (.getfield 112, 3) := by decide +kernel
theorem dX11_count_27 : decode cX11_count 27 = .ok (.iconst 1, 1) := by decide +kernel
theorem dX11_count_28 : decode cX11_count 28 = .ok (.iadd, 1) := by decide +kernel
theorem dX11_count_29 : decode cX11_count 29 = .ok (.putfield 112, 3) := by decide +kernel
theorem dX11_count_32 : decode cX11_count 32 = .ok (.return_, 1) := by decide +kernel
theorem dX11_constant_0 : decode cX11_constant 0 = .ok (.iconst 0, 1) := by decide +kernel
theorem dX11_constant_1 : decode cX11_constant 1 = .ok (.istore 4, 2) := by decide +kernel
theorem dX11_constant_3 : decode cX11_constant 3 = .ok (.iload 4, 2) := by decide +kernel
theorem dX11_constant_5 : decode cX11_constant 5 = .ok (.aload_n 0, 1) := by decide +kernel
theorem dX11_constant_6 : decode cX11_constant 6 = .ok (.getfield 60, 3) := by decide +kernel
theorem dX11_constant_9 : decode cX11_constant 9 = .ok (.if_icmp .ge 30, 3) := by decide +kernel
theorem dX11_constant_12 : decode cX11_constant 12 = .ok (.aload_n 1, 1) := by decide +kernel
theorem dX11_constant_13 : decode cX11_constant 13 = .ok (.iload 4, 2) := by decide +kernel
theorem dX11_constant_15 : decode cX11_constant 15 = .ok (.lload_n 2, 1) := by decide +kernel
theorem dX11_constant_16 : decode cX11_constant 16 = .ok (.iload 4, 2) := by decide +kernel
theorem dX11_constant_18 : decode cX11_constant 18 = .ok (.lshr, 1) := by decide +kernel
theorem dX11_constant_19 : decode cX11_constant 19 = .ok (.lconst 1, 1) := by decide +kernel
theorem dX11_constant_20 : decode cX11_constant 20 = .ok (.land, 1) := by decide +kernel
theorem dX11_constant_21 : decode cX11_constant 21 = .ok (.lconst 1, 1) := by decide +kernel
theorem dX11_constant_22 : decode cX11_constant 22 = .ok (.lcmp, 1) := by decide +kernel
theorem dX11_constant_23 : decode cX11_constant 23 = .ok (.ifCond .ne 7, 3) := by decide +kernel
theorem dX11_constant_26 : decode cX11_constant 26 = .ok (.iconst (-1), 1) := by decide +kernel
theorem dX11_constant_27 : decode cX11_constant 27 = .ok (.goto 5, 3) := by decide +kernel
theorem dX11_constant_30 : decode cX11_constant 30 = .ok (.bipush (-2), 2) := by decide +kernel
theorem dX11_constant_32 : decode cX11_constant 32 = .ok (.iastore, 1) := by decide +kernel
theorem dX11_constant_33 : decode cX11_constant 33 = .ok (.iinc 4 1, 3) := by decide +kernel
theorem dX11_constant_36 : decode cX11_constant 36 = .ok (.goto (-33), 3) := by decide +kernel
theorem dX11_constant_39 : decode cX11_constant 39 = .ok (.return_, 1) := by decide +kernel
theorem dX11_pushBit_0 : decode cX11_pushBit 0 = .ok (.aload_n 0, 1) := by decide +kernel
theorem dX11_pushBit_1 : decode cX11_pushBit 1 = .ok (.getfield 85, 3) := by decide +kernel
theorem dX11_pushBit_4 : decode cX11_pushBit 4 = .ok (.aload_n 0, 1) := by decide +kernel
theorem dX11_pushBit_5 : decode cX11_pushBit 5 = .ok (.getfield 60, 3) := by decide +kernel
theorem dX11_pushBit_8 : decode cX11_pushBit 8 = .ok (.aload_n 0, 1) := by decide +kernel
theorem dX11_pushBit_9 : decode cX11_pushBit 9 = .ok (.getfield 109, 3) := by decide +kernel
theorem dX11_pushBit_12 : decode cX11_pushBit 12 = .ok (.imul, 1) := by decide +kernel
theorem dX11_pushBit_13 : decode cX11_pushBit 13 = .ok (.iload_n 1, 1) := by decide +kernel
theorem dX11_pushBit_14 : decode cX11_pushBit 14 = .ok (.iastore, 1) := by decide +kernel
theorem dX11_pushBit_15 : decode cX11_pushBit 15 = .ok (.aload_n 0, 1) := by decide +kernel
theorem dX11_pushBit_16 : decode cX11_pushBit 16 = .ok (.dup, 1) := by decide +kernel
theorem dX11_pushBit_17 : decode cX11_pushBit 17 = .ok (.getfield 109, 3) := by decide +kernel
theorem dX11_pushBit_20 : decode cX11_pushBit 20 = .ok (.iconst 1, 1) := by decide +kernel
theorem dX11_pushBit_21 : decode cX11_pushBit 21 = .ok (.iadd, 1) := by decide +kernel
theorem dX11_pushBit_22 : decode cX11_pushBit 22 = .ok (.putfield 109, 3) := by decide +kernel
theorem dX11_pushBit_25 : decode cX11_pushBit 25 = .ok (.return_, 1) := by decide +kernel
theorem dX11_read_0 : decode cX11_read 0 = .ok (.aload_n 0, 1) := by decide +kernel
theorem dX11_read_1 : decode cX11_read 1 = .ok (.getfield 64, 3) := by decide +kernel
theorem dX11_read_4 : decode cX11_read 4 = .ok (.getfield 200, 3) := by decide +kernel
theorem dX11_read_7 : decode cX11_read 7 = .ok (.iload_n 1, 1) := by decide +kernel
theorem dX11_read_8 : decode cX11_read 8 = .ok (.iaload, 1) := by decide +kernel
theorem dX11_read_9 : decode cX11_read 9 = .ok (.iconst 2, 1) := by decide +kernel
theorem dX11_read_10 : decode cX11_read 10 = .ok (.idiv, 1) := by decide +kernel
theorem dX11_read_11 : decode cX11_read 11 = .ok (.istore_n 2, 1) := by decide +kernel
theorem dX11_read_12 : decode cX11_read 12 = .ok (.aload_n 0, 1) := by decide +kernel
theorem dX11_read_13 : decode cX11_read 13 = .ok (.getfield 64, 3) := by decide +kernel
theorem dX11_read_16 : decode cX11_read 16 = .ok (.getfield 245, 3) := by decide +kernel
theorem dX11_read_19 : decode cX11_read 19 = .ok (.iload_n 1, 1) := by decide +kernel
theorem dX11_read_20 : decode cX11_read 20 = .ok (.iaload, 1) := by decide +kernel
theorem dX11_read_21 : decode cX11_read 21 = .ok (.istore_n 3, 1) := by decide +kernel
theorem dX11_read_22 : decode cX11_read 22 = .ok (.aload_n 0, 1) := by decide +kernel
theorem dX11_read_23 : decode cX11_read 23 = .ok (.aload_n 0, 1) := by decide +kernel
theorem dX11_read_24 : decode cX11_read 24 = .ok (.getfield 64, 3) := by decide +kernel
theorem dX11_read_27 : decode cX11_read 27 = .ok (.getfield 200, 3) := by decide +kernel
theorem dX11_read_30 : decode cX11_read 30 = .ok (.iload_n 1, 1) := by decide +kernel
theorem dX11_read_31 : decode cX11_read 31 = .ok (.iaload, 1) := by decide +kernel
theorem dX11_read_32 : decode cX11_read 32 = .ok (.iconst 1, 1) := by decide +kernel
theorem dX11_read_33 : decode cX11_read 33 = .ok (.iand, 1) := by decide +kernel
theorem dX11_read_34 : decode cX11_read 34 = .ok (.invokevirtual 248, 3) := by decide +kernel
theorem dX11_read_37 : decode cX11_read 37 = .ok (.istore 4, 2) := by decide +kernel
theorem dX11_read_39 : decode cX11_read 39 = .ok (.iload_n 2, 1) := by decide +kernel
theorem dX11_read_40 : decode cX11_read 40 = .ok (.iconst 1, 1) := by decide +kernel
theorem dX11_read_41 : decode cX11_read 41 = .ok (.if_icmp .ne 22, 3) := by decide +kernel
theorem dX11_read_44 : decode cX11_read 44 = .ok (.aload_n 0, 1) := by decide +kernel
theorem dX11_read_45 : decode cX11_read 45 = .ok (.aload_n 0, 1) := by decide +kernel
theorem dX11_read_46 : decode cX11_read 46 = .ok (.getfield 88, 3) := by decide +kernel
theorem dX11_read_49 : decode cX11_read 49 = .ok (.aload_n 0, 1) := by decide +kernel
theorem dX11_read_50 : decode cX11_read 50 = .ok (.getfield 60, 3) := by decide +kernel
theorem dX11_read_53 : decode cX11_read 53 = .ok (.iload_n 3, 1) := by decide +kernel
theorem dX11_read_54 : decode cX11_read 54 = .ok (.imul, 1) := by decide +kernel
theorem dX11_read_55 : decode cX11_read 55 = .ok (.iload 4, 2) := by decide +kernel
theorem dX11_read_57 : decode cX11_read 57 = .ok (.invokevirtual 168, 3) := by decide +kernel
theorem dX11_read_60 : decode cX11_read 60 = .ok (.goto 91, 3) := by decide +kernel
theorem dX11_read_63 : decode cX11_read 63 = .ok (.iload_n 2, 1) := by decide +kernel
theorem dX11_read_64 : decode cX11_read 64 = .ok (.ifCond .ne 24, 3) := by decide +kernel
theorem dX11_read_67 : decode cX11_read 67 = .ok (.aload_n 0, 1) := by decide +kernel
theorem dX11_read_68 : decode cX11_read 68 = .ok (.iload_n 3, 1) := by decide +kernel
theorem dX11_read_69 : decode cX11_read 69 = .ok (.iload 4, 2) := by decide +kernel
theorem dX11_read_71 : decode cX11_read 71 = .ok (.invokevirtual 290, 3) := by decide +kernel
theorem dX11_read_74 : decode cX11_read 74 = .ok (.aload_n 0, 1) := by decide +kernel
theorem dX11_read_75 : decode cX11_read 75 = .ok (.aload_n 0, 1) := by decide +kernel
theorem dX11_read_76 : decode cX11_read 76 = .ok (.getfield 94, 3) := by decide +kernel
theorem dX11_read_79 : decode cX11_read 79 = .ok (.iconst 0, 1) := by decide +kernel
theorem dX11_read_80 : decode cX11_read 80 = .ok (.iload 4, 2) := by decide +kernel
theorem dX11_read_82 : decode cX11_read 82 = .ok (.invokevirtual 168, 3) := by decide +kernel
theorem dX11_read_85 : decode cX11_read 85 = .ok (.goto 66, 3) := by decide +kernel
theorem dX11_read_88 : decode cX11_read 88 = .ok (.iload_n 2, 1) := by decide +kernel
theorem dX11_read_89 : decode cX11_read 89 = .ok (.iconst 2, 1) := by decide +kernel
theorem dX11_read_90 : decode cX11_read 90 = .ok (.if_icmp .ne 33, 3) := by decide +kernel
theorem dX11_read_93 : decode cX11_read 93 = .ok (.aload_n 0, 1) := by decide +kernel
theorem dX11_read_94 : decode cX11_read 94 = .ok (.aload_n 0, 1) := by decide +kernel
theorem dX11_read_95 : decode cX11_read 95 = .ok (.getfield 94, 3) := by decide +kernel
theorem dX11_read_98 : decode cX11_read 98 = .ok (.aload_n 0, 1) := by decide +kernel
theorem dX11_read_99 : decode cX11_read 99 = .ok (.getfield 41, 3) := by decide +kernel
theorem dX11_read_102 : decode cX11_read 102 = .ok (.iload_n 3, 1) := by decide +kernel
theorem dX11_read_103 : decode cX11_read 103 = .ok (.laload, 1) := by decide +kernel
theorem dX11_read_104 : decode cX11_read 104 = .ok (.invokevirtual 264, 3) := by decide +kernel
theorem dX11_read_107 : decode cX11_read 107 = .ok (.aload_n 0, 1) := by decide +kernel
theorem dX11_read_108 : decode cX11_read 108 = .ok (.aload_n 0, 1) := by decide +kernel
theorem dX11_read_109 : decode cX11_read 109 = .ok (.getfield 94, 3) := by decide +kernel
theorem dX11_read_112 : decode cX11_read 112 = .ok (.iconst 0, 1) := by decide +kernel
theorem dX11_read_113 : decode cX11_read 113 = .ok (.aload_n 0, 1) := by decide +kernel
theorem dX11_read_114 : decode cX11_read 114 = .ok (.getfield 60, 3) := by decide +kernel
theorem dX11_read_117 : decode cX11_read 117 = .ok (.invokevirtual 168, 3) := by decide +kernel
theorem dX11_read_120 : decode cX11_read 120 = .ok (.goto 31, 3) := by decide +kernel
theorem dX11_read_123 : decode cX11_read 123 = .ok (.aload_n 0, 1) := by decide +kernel
theorem dX11_read_124 : decode cX11_read 124 = .ok (.aload_n 0, 1) := by decide +kernel
theorem dX11_read_125 : decode cX11_read 125 = .ok (.getfield 85, 3) := by decide +kernel
theorem dX11_read_128 : decode cX11_read 128 = .ok (.aload_n 0, 1) := by decide +kernel
theorem dX11_read_129 : decode cX11_read 129 = .ok (.getfield 60, 3) := by decide +kernel
theorem dX11_read_132 : decode cX11_read 132 = .ok (.aload_n 0, 1) := by decide +kernel
theorem dX11_read_133 : decode cX11_read 133 = .ok (.getfield 54, 3) := by decide +kernel
theorem dX11_read_136 : decode cX11_read 136 = .ok (.aload_n 0, 1) := by decide +kernel
theorem dX11_read_137 : decode cX11_read 137 = .ok (.getfield 130, 3) := by decide +kernel
theorem dX11_read_140 : decode cX11_read 140 = .ok (.iconst 1, 1) := by decide +kernel
theorem dX11_read_141 : decode cX11_read 141 = .ok (.isub, 1) := by decide +kernel
theorem dX11_read_142 : decode cX11_read 142 = .ok (.iaload, 1) := by decide +kernel
theorem dX11_read_143 : decode cX11_read 143 = .ok (.iload_n 3, 1) := by decide +kernel
theorem dX11_read_144 : decode cX11_read 144 = .ok (.iadd, 1) := by decide +kernel
theorem dX11_read_145 : decode cX11_read 145 = .ok (.imul, 1) := by decide +kernel
theorem dX11_read_146 : decode cX11_read 146 = .ok (.iload 4, 2) := by decide +kernel
theorem dX11_read_148 : decode cX11_read 148 = .ok (.invokevirtual 168, 3) := by decide +kernel
theorem dX11_read_151 : decode cX11_read 151 = .ok (.return_, 1) := by decide +kernel
theorem dX11_inputWord_0 : decode cX11_inputWord 0 = .ok (.iconst 0, 1) := by decide +kernel
theorem dX11_inputWord_1 : decode cX11_inputWord 1 = .ok (.istore_n 3, 1) := by decide +kernel
theorem dX11_inputWord_2 : decode cX11_inputWord 2 = .ok (.iload_n 3, 1) := by decide +kernel
theorem dX11_inputWord_3 : decode cX11_inputWord 3 = .ok (.iload_n 2, 1) := by decide +kernel
theorem dX11_inputWord_4 : decode cX11_inputWord 4 = .ok (.if_icmp .ge 25, 3) := by decide +kernel
theorem dX11_inputWord_7 : decode cX11_inputWord 7 = .ok (.aload_n 0, 1) := by decide +kernel
theorem dX11_inputWord_8 : decode cX11_inputWord 8 = .ok (.getfield 94, 3) := by decide +kernel
theorem dX11_inputWord_11 : decode cX11_inputWord 11 = .ok (.iload_n 3, 1) := by decide +kernel
theorem dX11_inputWord_12 : decode cX11_inputWord 12 = .ok (.iconst 2, 1) := by decide +kernel
theorem dX11_inputWord_13 : decode cX11_inputWord 13 = .ok (.aload_n 0, 1) := by decide +kernel
theorem dX11_inputWord_14 : decode cX11_inputWord 14 = .ok (.getfield 9, 3) := by decide +kernel
theorem dX11_inputWord_17 : decode cX11_inputWord 17 = .ok (.iload_n 1, 1) := by decide +kernel
theorem dX11_inputWord_18 : decode cX11_inputWord 18 = .ok (.iaload, 1) := by decide +kernel
theorem dX11_inputWord_19 : decode cX11_inputWord 19 = .ok (.iload_n 3, 1) := by decide +kernel
theorem dX11_inputWord_20 : decode cX11_inputWord 20 = .ok (.iadd, 1) := by decide +kernel
theorem dX11_inputWord_21 : decode cX11_inputWord 21 = .ok (.imul, 1) := by decide +kernel
theorem dX11_inputWord_22 : decode cX11_inputWord 22 = .ok (.iastore, 1) := by decide +kernel
theorem dX11_inputWord_23 : decode cX11_inputWord 23 = .ok (.iinc 3 1, 3) := by decide +kernel
theorem dX11_inputWord_26 : decode cX11_inputWord 26 = .ok (.goto (-24), 3) := by decide +kernel
theorem dX11_inputWord_29 : decode cX11_inputWord 29 = .ok (.return_, 1) := by decide +kernel
theorem dX11_element_0 : decode cX11_element 0 = .ok (.aload_n 0, 1) := by decide +kernel
theorem dX11_element_1 : decode cX11_element 1 = .ok (.aload_n 0, 1) := by decide +kernel
theorem dX11_element_2 : decode cX11_element 2 = .ok (.getfield 64, 3) := by decide +kernel
theorem dX11_element_5 : decode cX11_element 5 = .ok (.getfield 200, 3) := by decide +kernel
theorem dX11_element_8 : decode cX11_element 8 = .ok (.iload_n 1, 1) := by decide +kernel
theorem dX11_element_9 : decode cX11_element 9 = .ok (.iaload, 1) := by decide +kernel
theorem dX11_element_10 : decode cX11_element 10 = .ok (.iconst 1, 1) := by decide +kernel
theorem dX11_element_11 : decode cX11_element 11 = .ok (.iand, 1) := by decide +kernel
theorem dX11_element_12 : decode cX11_element 12 = .ok (.invokevirtual 248, 3) := by decide +kernel
theorem dX11_element_15 : decode cX11_element 15 = .ok (.istore_n 2, 1) := by decide +kernel
theorem dX11_element_16 : decode cX11_element 16 = .ok (.aload_n 0, 1) := by decide +kernel
theorem dX11_element_17 : decode cX11_element 17 = .ok (.getfield 64, 3) := by decide +kernel
theorem dX11_element_20 : decode cX11_element 20 = .ok (.getfield 200, 3) := by decide +kernel
theorem dX11_element_23 : decode cX11_element 23 = .ok (.iload_n 1, 1) := by decide +kernel
theorem dX11_element_24 : decode cX11_element 24 = .ok (.iaload, 1) := by decide +kernel
theorem dX11_element_25 : decode cX11_element 25 = .ok (.sipush 512, 3) := by decide +kernel
theorem dX11_element_28 : decode cX11_element 28 = .ok (.idiv, 1) := by decide +kernel
theorem dX11_element_29 : decode cX11_element 29 = .ok (.istore_n 3, 1) := by decide +kernel
theorem dX11_element_30 : decode cX11_element 30 = .ok (.aload_n 0, 1) := by decide +kernel
theorem dX11_element_31 : decode cX11_element 31 = .ok (.getfield 64, 3) := by decide +kernel
theorem dX11_element_34 : decode cX11_element 34 = .ok (.getfield 200, 3) := by decide +kernel
theorem dX11_element_37 : decode cX11_element 37 = .ok (.iload_n 1, 1) := by decide +kernel
theorem dX11_element_38 : decode cX11_element 38 = .ok (.iaload, 1) := by decide +kernel
theorem dX11_element_39 : decode cX11_element 39 = .ok (.iconst 4, 1) := by decide +kernel
theorem dX11_element_40 : decode cX11_element 40 = .ok (.iand, 1) := by decide +kernel
theorem dX11_element_41 : decode cX11_element 41 = .ok (.ifCond .eq 7, 3) := by decide +kernel
theorem dX11_element_44 : decode cX11_element 44 = .ok (.iconst 1, 1) := by decide +kernel
theorem dX11_element_45 : decode cX11_element 45 = .ok (.goto 4, 3) := by decide +kernel
theorem dX11_element_48 : decode cX11_element 48 = .ok (.iconst 0, 1) := by decide +kernel
theorem dX11_element_49 : decode cX11_element 49 = .ok (.istore 4, 2) := by decide +kernel
theorem dX11_element_51 : decode cX11_element 51 = .ok (.aload_n 0, 1) := by decide +kernel
theorem dX11_element_52 : decode cX11_element 52 = .ok (.iconst 1, 1) := by decide +kernel
theorem dX11_element_53 : decode cX11_element 53 = .ok (.invokevirtual 218, 3) := by decide +kernel
theorem dX11_element_56 : decode cX11_element 56 = .ok (.istore 5, 2) := by decide +kernel
theorem dX11_element_58 : decode cX11_element 58 = .ok (.aload_n 0, 1) := by decide +kernel
theorem dX11_element_59 : decode cX11_element 59 = .ok (.getfield 64, 3) := by decide +kernel
theorem dX11_element_62 : decode cX11_element 62 = .ok (.getfield 200, 3) := by decide +kernel
theorem dX11_element_65 : decode cX11_element 65 = .ok (.iload_n 1, 1) := by decide +kernel
theorem dX11_element_66 : decode cX11_element 66 = .ok (.iaload, 1) := by decide +kernel
theorem dX11_element_67 : decode cX11_element 67 = .ok (.iconst 2, 1) := by decide +kernel
theorem dX11_element_68 : decode cX11_element 68 = .ok (.iand, 1) := by decide +kernel
theorem dX11_element_69 : decode cX11_element 69 = .ok (.ifCond .eq 75, 3) := by decide +kernel
theorem dX11_element_72 : decode cX11_element 72 = .ok (.aload_n 0, 1) := by decide +kernel
theorem dX11_element_73 : decode cX11_element 73 = .ok (.iload 5, 2) := by decide +kernel
theorem dX11_element_75 : decode cX11_element 75 = .ok (.invokevirtual 222, 3) := by decide +kernel
theorem dX11_element_78 : decode cX11_element 78 = .ok (.lstore 6, 2) := by decide +kernel
theorem dX11_element_80 : decode cX11_element 80 = .ok (.aload_n 0, 1) := by decide +kernel
theorem dX11_element_81 : decode cX11_element 81 = .ok (.lload 6, 2) := by decide +kernel
theorem dX11_element_83 : decode cX11_element 83 = .ok (.iload_n 3, 1) := by decide +kernel
theorem dX11_element_84 : decode cX11_element 84 = .ok (.aload_n 0, 1) := by decide +kernel
theorem dX11_element_85 : decode cX11_element 85 = .ok (.getfield 64, 3) := by decide +kernel
theorem dX11_element_88 : decode cX11_element 88 = .ok (.getfield 206, 3) := by decide +kernel
theorem dX11_element_91 : decode cX11_element 91 = .ok (.iload_n 1, 1) := by decide +kernel
theorem dX11_element_92 : decode cX11_element 92 = .ok (.iaload, 1) := by decide +kernel
theorem dX11_element_93 : decode cX11_element 93 = .ok (.invokevirtual 226, 3) := by decide +kernel
theorem dX11_element_96 : decode cX11_element 96 = .ok (.aload_n 0, 1) := by decide +kernel
theorem dX11_element_97 : decode cX11_element 97 = .ok (.getfield 68, 3) := by decide +kernel
theorem dX11_element_100 : decode cX11_element 100 = .ok (.invokevirtual 144, 3) := by decide +kernel
theorem dX11_element_103 : decode cX11_element 103 = .ok (.ifCond .eq 4, 3) := by decide +kernel
theorem dX11_element_106 : decode cX11_element 106 = .ok (.return_, 1) := by decide +kernel
theorem dX11_element_107 : decode cX11_element 107 = .ok (.aload_n 0, 1) := by decide +kernel
theorem dX11_element_108 : decode cX11_element 108 = .ok (.iload 4, 2) := by decide +kernel
theorem dX11_element_110 : decode cX11_element 110 = .ok (.aload_n 0, 1) := by decide +kernel
theorem dX11_element_111 : decode cX11_element 111 = .ok (.getfield 64, 3) := by decide +kernel
theorem dX11_element_114 : decode cX11_element 114 = .ok (.getfield 245, 3) := by decide +kernel
theorem dX11_element_117 : decode cX11_element 117 = .ok (.iload_n 1, 1) := by decide +kernel
theorem dX11_element_118 : decode cX11_element 118 = .ok (.iaload, 1) := by decide +kernel
theorem dX11_element_119 : decode cX11_element 119 = .ok (.lload 6, 2) := by decide +kernel
theorem dX11_element_121 : decode cX11_element 121 = .ok (.l2i, 1) := by decide +kernel
theorem dX11_element_122 : decode cX11_element 122 = .ok (.iadd, 1) := by decide +kernel
theorem dX11_element_123 : decode cX11_element 123 = .ok (.iload_n 2, 1) := by decide +kernel
theorem dX11_element_124 : decode cX11_element 124 = .ok (.invokevirtual 293, 3) := by decide +kernel
theorem dX11_element_127 : decode cX11_element 127 = .ok (.aload_n 0, 1) := by decide +kernel
theorem dX11_element_128 : decode cX11_element 128 = .ok (.getfield 94, 3) := by decide +kernel
theorem dX11_element_131 : decode cX11_element 131 = .ok (.iconst 0, 1) := by decide +kernel
theorem dX11_element_132 : decode cX11_element 132 = .ok (.aload_n 0, 1) := by decide +kernel
theorem dX11_element_133 : decode cX11_element 133 = .ok (.getfield 100, 3) := by decide +kernel
theorem dX11_element_136 : decode cX11_element 136 = .ok (.iconst 0, 1) := by decide +kernel
theorem dX11_element_137 : decode cX11_element 137 = .ok (.iload_n 2, 1) := by decide +kernel
theorem dX11_element_138 : decode cX11_element 138 = .ok (.invokestatic 162, 3) := by decide +kernel
theorem dX11_element_141 : decode cX11_element 141 = .ok (.goto 123, 3) := by decide +kernel
theorem dX11_element_144 : decode cX11_element 144 = .ok (.iconst 0, 1) := by decide +kernel
theorem dX11_element_145 : decode cX11_element 145 = .ok (.istore 6, 2) := by decide +kernel
theorem dX11_element_147 : decode cX11_element 147 = .ok (.iload 6, 2) := by decide +kernel
theorem dX11_element_149 : decode cX11_element 149 = .ok (.iload_n 2, 1) := by decide +kernel
theorem dX11_element_150 : decode cX11_element 150 = .ok (.if_icmp .ge 18, 3) := by decide +kernel
theorem dX11_element_153 : decode cX11_element 153 = .ok (.aload_n 0, 1) := by decide +kernel
theorem dX11_element_154 : decode cX11_element 154 = .ok (.getfield 100, 3) := by decide +kernel
theorem dX11_element_157 : decode cX11_element 157 = .ok (.iload 6, 2) := by decide +kernel
theorem dX11_element_159 : decode cX11_element 159 = .ok (.bipush (-2), 2) := by decide +kernel
theorem dX11_element_161 : decode cX11_element 161 = .ok (.iastore, 1) := by decide +kernel
theorem dX11_element_162 : decode cX11_element 162 = .ok (.iinc 6 1, 3) := by decide +kernel
theorem dX11_element_165 : decode cX11_element 165 = .ok (.goto (-18), 3) := by decide +kernel
theorem dX11_element_168 : decode cX11_element 168 = .ok (.iconst 0, 1) := by decide +kernel
theorem dX11_element_169 : decode cX11_element 169 = .ok (.istore 6, 2) := by decide +kernel
theorem dX11_element_171 : decode cX11_element 171 = .ok (.iload 6, 2) := by decide +kernel
theorem dX11_element_173 : decode cX11_element 173 = .ok (.iload_n 3, 1) := by decide +kernel
theorem dX11_element_174 : decode cX11_element 174 = .ok (.if_icmp .ge 90, 3) := by decide +kernel
theorem dX11_element_177 : decode cX11_element 177 = .ok (.aload_n 0, 1) := by decide +kernel
theorem dX11_element_178 : decode cX11_element 178 = .ok (.iload 5, 2) := by decide +kernel
theorem dX11_element_180 : decode cX11_element 180 = .ok (.iload 6, 2) := by decide +kernel
theorem dX11_element_182 : decode cX11_element 182 = .ok (.invokevirtual 257, 3) := by decide +kernel
theorem dX11_element_185 : decode cX11_element 185 = .ok (.istore 7, 2) := by decide +kernel
theorem dX11_element_187 : decode cX11_element 187 = .ok (.aload_n 0, 1) := by decide +kernel
theorem dX11_element_188 : decode cX11_element 188 = .ok (.iload 4, 2) := by decide +kernel
theorem dX11_element_190 : decode cX11_element 190 = .ok (.aload_n 0, 1) := by decide +kernel
theorem dX11_element_191 : decode cX11_element 191 = .ok (.getfield 64, 3) := by decide +kernel
theorem dX11_element_194 : decode cX11_element 194 = .ok (.getfield 245, 3) := by decide +kernel
theorem dX11_element_197 : decode cX11_element 197 = .ok (.iload_n 1, 1) := by decide +kernel
theorem dX11_element_198 : decode cX11_element 198 = .ok (.iaload, 1) := by decide +kernel
theorem dX11_element_199 : decode cX11_element 199 = .ok (.iload 6, 2) := by decide +kernel
theorem dX11_element_201 : decode cX11_element 201 = .ok (.iadd, 1) := by decide +kernel
theorem dX11_element_202 : decode cX11_element 202 = .ok (.iload_n 2, 1) := by decide +kernel
theorem dX11_element_203 : decode cX11_element 203 = .ok (.invokevirtual 293, 3) := by decide +kernel
theorem dX11_element_206 : decode cX11_element 206 = .ok (.iconst 0, 1) := by decide +kernel
theorem dX11_element_207 : decode cX11_element 207 = .ok (.istore 8, 2) := by decide +kernel
theorem dX11_element_209 : decode cX11_element 209 = .ok (.iload 8, 2) := by decide +kernel
theorem dX11_element_211 : decode cX11_element 211 = .ok (.iload_n 2, 1) := by decide +kernel
theorem dX11_element_212 : decode cX11_element 212 = .ok (.if_icmp .ge 46, 3) := by decide +kernel
theorem dX11_element_215 : decode cX11_element 215 = .ok (.aload_n 0, 1) := by decide +kernel
theorem dX11_element_216 : decode cX11_element 216 = .ok (.getfield 100, 3) := by decide +kernel
theorem dX11_element_219 : decode cX11_element 219 = .ok (.iload 8, 2) := by decide +kernel
theorem dX11_element_221 : decode cX11_element 221 = .ok (.aload_n 0, 1) := by decide +kernel
theorem dX11_element_222 : decode cX11_element 222 = .ok (.getfield 72, 3) := by decide +kernel
theorem dX11_element_225 : decode cX11_element 225 = .ok (.aload_n 0, 1) := by decide +kernel
theorem dX11_element_226 : decode cX11_element 226 = .ok (.getfield 100, 3) := by decide +kernel
theorem dX11_element_229 : decode cX11_element 229 = .ok (.iload 8, 2) := by decide +kernel
theorem dX11_element_231 : decode cX11_element 231 = .ok (.iaload, 1) := by decide +kernel
theorem dX11_element_232 : decode cX11_element 232 = .ok (.aload_n 0, 1) := by decide +kernel
theorem dX11_element_233 : decode cX11_element 233 = .ok (.getfield 72, 3) := by decide +kernel
theorem dX11_element_236 : decode cX11_element 236 = .ok (.iload 7, 2) := by decide +kernel
theorem dX11_element_238 : decode cX11_element 238 = .ok (.aload_n 0, 1) := by decide +kernel
theorem dX11_element_239 : decode cX11_element 239 = .ok (.getfield 94, 3) := by decide +kernel
theorem dX11_element_242 : decode cX11_element 242 = .ok (.iload 8, 2) := by decide +kernel
theorem dX11_element_244 : decode cX11_element 244 = .ok (.iaload, 1) := by decide +kernel
theorem dX11_element_245 : decode cX11_element 245 = .ok (.invokevirtual 297, 3) := by decide +kernel
theorem dX11_element_248 : decode cX11_element 248 = .ok (.invokevirtual 300, 3) := by decide +kernel
theorem dX11_element_251 : decode cX11_element 251 = .ok (.iastore, 1) := by decide +kernel
theorem dX11_element_252 : decode cX11_element 252 = .ok (.iinc 8 1, 3) := by decide +kernel
theorem dX11_element_255 : decode cX11_element 255 = .ok (.goto (-46), 3) := by decide +kernel
theorem dX11_element_258 : decode cX11_element 258 = .ok (.iinc 6 1, 3) := by decide +kernel
theorem dX11_element_261 : decode cX11_element 261 = .ok (.goto (-90), 3) := by decide +kernel
theorem dX11_element_264 : decode cX11_element 264 = .ok (.aload_n 0, 1) := by decide +kernel
theorem dX11_element_265 : decode cX11_element 265 = .ok (.iconst 1, 1) := by decide +kernel
theorem dX11_element_266 : decode cX11_element 266 = .ok (.iload_n 2, 1) := by decide +kernel
theorem dX11_element_267 : decode cX11_element 267 = .ok (.invokevirtual 303, 3) := by decide +kernel
theorem dX11_element_270 : decode cX11_element 270 = .ok (.return_, 1) := by decide +kernel
theorem dX11_fetch_0 : decode cX11_fetch 0 = .ok (.iload_n 1, 1) := by decide +kernel
theorem dX11_fetch_1 : decode cX11_fetch 1 = .ok (.ifCond .eq 12, 3) := by decide +kernel
theorem dX11_fetch_4 : decode cX11_fetch 4 = .ok (.aload_n 0, 1) := by decide +kernel
theorem dX11_fetch_5 : decode cX11_fetch 5 = .ok (.iload_n 2, 1) := by decide +kernel
theorem dX11_fetch_6 : decode cX11_fetch 6 = .ok (.iload_n 3, 1) := by decide +kernel
theorem dX11_fetch_7 : decode cX11_fetch 7 = .ok (.invokevirtual 290, 3) := by decide +kernel
theorem dX11_fetch_10 : decode cX11_fetch 10 = .ok (.goto 22, 3) := by decide +kernel
theorem dX11_fetch_13 : decode cX11_fetch 13 = .ok (.aload_n 0, 1) := by decide +kernel
theorem dX11_fetch_14 : decode cX11_fetch 14 = .ok (.getfield 88, 3) := by decide +kernel
theorem dX11_fetch_17 : decode cX11_fetch 17 = .ok (.aload_n 0, 1) := by decide +kernel
theorem dX11_fetch_18 : decode cX11_fetch 18 = .ok (.getfield 60, 3) := by decide +kernel
theorem dX11_fetch_21 : decode cX11_fetch 21 = .ok (.iload_n 2, 1) := by decide +kernel
theorem dX11_fetch_22 : decode cX11_fetch 22 = .ok (.imul, 1) := by decide +kernel
theorem dX11_fetch_23 : decode cX11_fetch 23 = .ok (.aload_n 0, 1) := by decide +kernel
theorem dX11_fetch_24 : decode cX11_fetch 24 = .ok (.getfield 94, 3) := by decide +kernel
theorem dX11_fetch_27 : decode cX11_fetch 27 = .ok (.iconst 0, 1) := by decide +kernel
theorem dX11_fetch_28 : decode cX11_fetch 28 = .ok (.iload_n 3, 1) := by decide +kernel
theorem dX11_fetch_29 : decode cX11_fetch 29 = .ok (.invokestatic 162, 3) := by decide +kernel
theorem dX11_fetch_32 : decode cX11_fetch 32 = .ok (.return_, 1) := by decide +kernel
theorem dX11_isElement_0 : decode cX11_isElement 0 = .ok (.aload_n 0, 1) := by decide +kernel
theorem dX11_isElement_1 : decode cX11_isElement 1 = .ok (.getfield 60, 3) := by decide +kernel
theorem dX11_isElement_4 : decode cX11_isElement 4 = .ok (.bipush 7, 2) := by decide +kernel
theorem dX11_isElement_6 : decode cX11_isElement 6 = .ok (.if_icmp .ge 16, 3) := by decide +kernel
theorem dX11_isElement_9 : decode cX11_isElement 9 = .ok (.iload_n 2, 1) := by decide +kernel
theorem dX11_isElement_10 : decode cX11_isElement 10 = .ok (.iconst 1, 1) := by decide +kernel
theorem dX11_isElement_11 : decode cX11_isElement 11 = .ok (.aload_n 0, 1) := by decide +kernel
theorem dX11_isElement_12 : decode cX11_isElement 12 = .ok (.getfield 60, 3) := by decide +kernel
theorem dX11_isElement_15 : decode cX11_isElement 15 = .ok (.ishl, 1) := by decide +kernel
theorem dX11_isElement_16 : decode cX11_isElement 16 = .ok (.if_icmp .lt 6, 3) := by decide +kernel
theorem dX11_isElement_19 : decode cX11_isElement 19 = .ok (.bipush (-2), 2) := by decide +kernel
theorem dX11_isElement_21 : decode cX11_isElement 21 = .ok (.ireturn, 1) := by decide +kernel
theorem dX11_isElement_22 : decode cX11_isElement 22 = .ok (.aload_n 0, 1) := by decide +kernel
theorem dX11_isElement_23 : decode cX11_isElement 23 = .ok (.aload_n 0, 1) := by decide +kernel
theorem dX11_isElement_24 : decode cX11_isElement 24 = .ok (.getfield 94, 3) := by decide +kernel
theorem dX11_isElement_27 : decode cX11_isElement 27 = .ok (.iload_n 2, 1) := by decide +kernel
theorem dX11_isElement_28 : decode cX11_isElement 28 = .ok (.i2l, 1) := by decide +kernel
theorem dX11_isElement_29 : decode cX11_isElement 29 = .ok (.invokevirtual 264, 3) := by decide +kernel
theorem dX11_isElement_32 : decode cX11_isElement 32 = .ok (.aload_n 0, 1) := by decide +kernel
theorem dX11_isElement_33 : decode cX11_isElement 33 = .ok (.getfield 81, 3) := by decide +kernel
theorem dX11_isElement_36 : decode cX11_isElement 36 = .ok (.aload_n 0, 1) := by decide +kernel
theorem dX11_isElement_37 : decode cX11_isElement 37 = .ok (.getfield 85, 3) := by decide +kernel
theorem dX11_isElement_40 : decode cX11_isElement 40 = .ok (.iload_n 1, 1) := by decide +kernel
theorem dX11_isElement_41 : decode cX11_isElement 41 = .ok (.aload_n 0, 1) := by decide +kernel
theorem dX11_isElement_42 : decode cX11_isElement 42 = .ok (.getfield 94, 3) := by decide +kernel
theorem dX11_isElement_45 : decode cX11_isElement 45 = .ok (.iconst 0, 1) := by decide +kernel
theorem dX11_isElement_46 : decode cX11_isElement 46 = .ok (.aload_n 0, 1) := by decide +kernel
theorem dX11_isElement_47 : decode cX11_isElement 47 = .ok (.getfield 60, 3) := by decide +kernel
theorem dX11_isElement_50 : decode cX11_isElement 50 = .ok (.invokevirtual 268, 3) := by decide +kernel
theorem dX11_isElement_53 : decode cX11_isElement 53 = .ok (.ireturn, 1) := by decide +kernel
theorem dX11_statement_0 : decode cX11_statement 0 = .ok (.aload_n 0, 1) := by decide +kernel
theorem dX11_statement_1 : decode cX11_statement 1 = .ok (.getfield 64, 3) := by decide +kernel
theorem dX11_statement_4 : decode cX11_statement 4 = .ok (.getfield 172, 3) := by decide +kernel
theorem dX11_statement_7 : decode cX11_statement 7 = .ok (.iload_n 1, 1) := by decide +kernel
theorem dX11_statement_8 : decode cX11_statement 8 = .ok (.aaload, 1) := by decide +kernel
theorem dX11_statement_9 : decode cX11_statement 9 = .ok (.invokevirtual 176, 3) := by decide +kernel
theorem dX11_statement_12 : decode cX11_statement 12 = .ok (.tableswitch 340 0 19 #[96, 104, 340, 145, 152, 172, 152, 340, 188, 340, 340, 196, 248, 256, 264, 271, 340, 340, 278, 286], 96) := by decide +kernel
theorem dX11_statement_108 : decode cX11_statement 108 = .ok (.aload_n 0, 1) := by decide +kernel
theorem dX11_statement_109 : decode cX11_statement 109 = .ok (.iload_n 1, 1) := by decide +kernel
theorem dX11_statement_110 : decode cX11_statement 110 = .ok (.invokevirtual 197, 3) := by decide +kernel
theorem dX11_statement_113 : decode cX11_statement 113 = .ok (.goto 239, 3) := by decide +kernel
theorem dX11_statement_116 : decode cX11_statement 116 = .ok (.aload_n 0, 1) := by decide +kernel
theorem dX11_statement_117 : decode cX11_statement 117 = .ok (.getfield 48, 3) := by decide +kernel
theorem dX11_statement_120 : decode cX11_statement 120 = .ok (.aload_n 0, 1) := by decide +kernel
theorem dX11_statement_121 : decode cX11_statement 121 = .ok (.getfield 127, 3) := by decide +kernel
theorem dX11_statement_124 : decode cX11_statement 124 = .ok (.aload_n 0, 1) := by decide +kernel
theorem dX11_statement_125 : decode cX11_statement 125 = .ok (.getfield 136, 3) := by decide +kernel
theorem dX11_statement_128 : decode cX11_statement 128 = .ok (.iastore, 1) := by decide +kernel
theorem dX11_statement_129 : decode cX11_statement 129 = .ok (.aload_n 0, 1) := by decide +kernel
theorem dX11_statement_130 : decode cX11_statement 130 = .ok (.dup, 1) := by decide +kernel
theorem dX11_statement_131 : decode cX11_statement 131 = .ok (.getfield 127, 3) := by decide +kernel
theorem dX11_statement_134 : decode cX11_statement 134 = .ok (.iconst 1, 1) := by decide +kernel
theorem dX11_statement_135 : decode cX11_statement 135 = .ok (.iadd, 1) := by decide +kernel
theorem dX11_statement_136 : decode cX11_statement 136 = .ok (.putfield 127, 3) := by decide +kernel
theorem dX11_statement_139 : decode cX11_statement 139 = .ok (.aload_n 0, 1) := by decide +kernel
theorem dX11_statement_140 : decode cX11_statement 140 = .ok (.aload_n 0, 1) := by decide +kernel
theorem dX11_statement_141 : decode cX11_statement 141 = .ok (.getfield 64, 3) := by decide +kernel
theorem dX11_statement_144 : decode cX11_statement 144 = .ok (.getfield 200, 3) := by decide +kernel
theorem dX11_statement_147 : decode cX11_statement 147 = .ok (.iload_n 1, 1) := by decide +kernel
theorem dX11_statement_148 : decode cX11_statement 148 = .ok (.iaload, 1) := by decide +kernel
theorem dX11_statement_149 : decode cX11_statement 149 = .ok (.iconst 1, 1) := by decide +kernel
theorem dX11_statement_150 : decode cX11_statement 150 = .ok (.iadd, 1) := by decide +kernel
theorem dX11_statement_151 : decode cX11_statement 151 = .ok (.putfield 136, 3) := by decide +kernel
theorem dX11_statement_154 : decode cX11_statement 154 = .ok (.goto 198, 3) := by decide +kernel
theorem dX11_statement_157 : decode cX11_statement 157 = .ok (.aload_n 0, 1) := by decide +kernel
theorem dX11_statement_158 : decode cX11_statement 158 = .ok (.invokevirtual 203, 3) := by decide +kernel
theorem dX11_statement_161 : decode cX11_statement 161 = .ok (.goto 191, 3) := by decide +kernel
theorem dX11_statement_164 : decode cX11_statement 164 = .ok (.aload_n 0, 1) := by decide +kernel
theorem dX11_statement_165 : decode cX11_statement 165 = .ok (.aload_n 0, 1) := by decide +kernel
theorem dX11_statement_166 : decode cX11_statement 166 = .ok (.getfield 64, 3) := by decide +kernel
theorem dX11_statement_169 : decode cX11_statement 169 = .ok (.getfield 206, 3) := by decide +kernel
theorem dX11_statement_172 : decode cX11_statement 172 = .ok (.iload_n 1, 1) := by decide +kernel
theorem dX11_statement_173 : decode cX11_statement 173 = .ok (.iaload, 1) := by decide +kernel
theorem dX11_statement_174 : decode cX11_statement 174 = .ok (.putfield 115, 3) := by decide +kernel
theorem dX11_statement_177 : decode cX11_statement 177 = .ok (.aload_n 0, 1) := by decide +kernel
theorem dX11_statement_178 : decode cX11_statement 178 = .ok (.invokevirtual 209, 3) := by decide +kernel
theorem dX11_statement_181 : decode cX11_statement 181 = .ok (.goto 171, 3) := by decide +kernel
theorem dX11_statement_184 : decode cX11_statement 184 = .ok (.aload_n 0, 1) := by decide +kernel
theorem dX11_statement_185 : decode cX11_statement 185 = .ok (.aload_n 0, 1) := by decide +kernel
theorem dX11_statement_186 : decode cX11_statement 186 = .ok (.getfield 64, 3) := by decide +kernel
theorem dX11_statement_189 : decode cX11_statement 189 = .ok (.getfield 200, 3) := by decide +kernel
theorem dX11_statement_192 : decode cX11_statement 192 = .ok (.iload_n 1, 1) := by decide +kernel
theorem dX11_statement_193 : decode cX11_statement 193 = .ok (.iaload, 1) := by decide +kernel
theorem dX11_statement_194 : decode cX11_statement 194 = .ok (.invokevirtual 212, 3) := by decide +kernel
theorem dX11_statement_197 : decode cX11_statement 197 = .ok (.goto 155, 3) := by decide +kernel
theorem dX11_statement_200 : decode cX11_statement 200 = .ok (.aload_n 0, 1) := by decide +kernel
theorem dX11_statement_201 : decode cX11_statement 201 = .ok (.iload_n 1, 1) := by decide +kernel
theorem dX11_statement_202 : decode cX11_statement 202 = .ok (.invokevirtual 215, 3) := by decide +kernel
theorem dX11_statement_205 : decode cX11_statement 205 = .ok (.goto 147, 3) := by decide +kernel
theorem dX11_statement_208 : decode cX11_statement 208 = .ok (.aload_n 0, 1) := by decide +kernel
theorem dX11_statement_209 : decode cX11_statement 209 = .ok (.getfield 64, 3) := by decide +kernel
theorem dX11_statement_212 : decode cX11_statement 212 = .ok (.getfield 200, 3) := by decide +kernel
theorem dX11_statement_215 : decode cX11_statement 215 = .ok (.iload_n 1, 1) := by decide +kernel
theorem dX11_statement_216 : decode cX11_statement 216 = .ok (.iaload, 1) := by decide +kernel
theorem dX11_statement_217 : decode cX11_statement 217 = .ok (.iconst 2, 1) := by decide +kernel
theorem dX11_statement_218 : decode cX11_statement 218 = .ok (.iand, 1) := by decide +kernel
theorem dX11_statement_219 : decode cX11_statement 219 = .ok (.ifCond .eq 133, 3) := by decide +kernel
theorem dX11_statement_222 : decode cX11_statement 222 = .ok (.aload_n 0, 1) := by decide +kernel
theorem dX11_statement_223 : decode cX11_statement 223 = .ok (.aload_n 0, 1) := by decide +kernel
theorem dX11_statement_224 : decode cX11_statement 224 = .ok (.aload_n 0, 1) := by decide +kernel
theorem dX11_statement_225 : decode cX11_statement 225 = .ok (.iconst 1, 1) := by decide +kernel
theorem dX11_statement_226 : decode cX11_statement 226 = .ok (.invokevirtual 218, 3) := by decide +kernel
theorem dX11_statement_229 : decode cX11_statement 229 = .ok (.invokevirtual 222, 3) := by decide +kernel
theorem dX11_statement_232 : decode cX11_statement 232 = .ok (.aload_n 0, 1) := by decide +kernel
theorem dX11_statement_233 : decode cX11_statement 233 = .ok (.getfield 64, 3) := by decide +kernel
theorem dX11_statement_236 : decode cX11_statement 236 = .ok (.getfield 200, 3) := by decide +kernel
theorem dX11_statement_239 : decode cX11_statement 239 = .ok (.iload_n 1, 1) := by decide +kernel
theorem dX11_statement_240 : decode cX11_statement 240 = .ok (.iaload, 1) := by decide +kernel
theorem dX11_statement_241 : decode cX11_statement 241 = .ok (.sipush 512, 3) := by decide +kernel
theorem dX11_statement_244 : decode cX11_statement 244 = .ok (.idiv, 1) := by decide +kernel
theorem dX11_statement_245 : decode cX11_statement 245 = .ok (.aload_n 0, 1) := by decide +kernel
theorem dX11_statement_246 : decode cX11_statement 246 = .ok (.getfield 64, 3) := by decide +kernel
theorem dX11_statement_249 : decode cX11_statement 249 = .ok (.getfield 206, 3) := by decide +kernel
theorem dX11_statement_252 : decode cX11_statement 252 = .ok (.iload_n 1, 1) := by decide +kernel
theorem dX11_statement_253 : decode cX11_statement 253 = .ok (.iaload, 1) := by decide +kernel
theorem dX11_statement_254 : decode cX11_statement 254 = .ok (.invokevirtual 226, 3) := by decide +kernel
theorem dX11_statement_257 : decode cX11_statement 257 = .ok (.goto 95, 3) := by decide +kernel
theorem dX11_statement_260 : decode cX11_statement 260 = .ok (.aload_n 0, 1) := by decide +kernel
theorem dX11_statement_261 : decode cX11_statement 261 = .ok (.iload_n 1, 1) := by decide +kernel
theorem dX11_statement_262 : decode cX11_statement 262 = .ok (.invokevirtual 230, 3) := by decide +kernel
theorem dX11_statement_265 : decode cX11_statement 265 = .ok (.goto 87, 3) := by decide +kernel
theorem dX11_statement_268 : decode cX11_statement 268 = .ok (.aload_n 0, 1) := by decide +kernel
theorem dX11_statement_269 : decode cX11_statement 269 = .ok (.iload_n 1, 1) := by decide +kernel
theorem dX11_statement_270 : decode cX11_statement 270 = .ok (.invokevirtual 233, 3) := by decide +kernel
theorem dX11_statement_273 : decode cX11_statement 273 = .ok (.goto 79, 3) := by decide +kernel
theorem dX11_statement_276 : decode cX11_statement 276 = .ok (.aload_n 0, 1) := by decide +kernel
theorem dX11_statement_277 : decode cX11_statement 277 = .ok (.invokevirtual 236, 3) := by decide +kernel
theorem dX11_statement_280 : decode cX11_statement 280 = .ok (.goto 72, 3) := by decide +kernel
theorem dX11_statement_283 : decode cX11_statement 283 = .ok (.aload_n 0, 1) := by decide +kernel
theorem dX11_statement_284 : decode cX11_statement 284 = .ok (.invokevirtual 239, 3) := by decide +kernel
theorem dX11_statement_287 : decode cX11_statement 287 = .ok (.goto 65, 3) := by decide +kernel
theorem dX11_statement_290 : decode cX11_statement 290 = .ok (.aload_n 0, 1) := by decide +kernel
theorem dX11_statement_291 : decode cX11_statement 291 = .ok (.iload_n 1, 1) := by decide +kernel
theorem dX11_statement_292 : decode cX11_statement 292 = .ok (.invokevirtual 242, 3) := by decide +kernel
theorem dX11_statement_295 : decode cX11_statement 295 = .ok (.goto 57, 3) := by decide +kernel
theorem dX11_statement_298 : decode cX11_statement 298 = .ok (.aload_n 0, 1) := by decide +kernel
theorem dX11_statement_299 : decode cX11_statement 299 = .ok (.getfield 64, 3) := by decide +kernel
theorem dX11_statement_302 : decode cX11_statement 302 = .ok (.getfield 245, 3) := by decide +kernel
theorem dX11_statement_305 : decode cX11_statement 305 = .ok (.iload_n 1, 1) := by decide +kernel
theorem dX11_statement_306 : decode cX11_statement 306 = .ok (.iaload, 1) := by decide +kernel
theorem dX11_statement_307 : decode cX11_statement 307 = .ok (.istore_n 2, 1) := by decide +kernel
theorem dX11_statement_308 : decode cX11_statement 308 = .ok (.aload_n 0, 1) := by decide +kernel
theorem dX11_statement_309 : decode cX11_statement 309 = .ok (.getfield 41, 3) := by decide +kernel
theorem dX11_statement_312 : decode cX11_statement 312 = .ok (.iload_n 2, 1) := by decide +kernel
theorem dX11_statement_313 : decode cX11_statement 313 = .ok (.laload, 1) := by decide +kernel
theorem dX11_statement_314 : decode cX11_statement 314 = .ok (.aload_n 0, 1) := by decide +kernel
theorem dX11_statement_315 : decode cX11_statement 315 = .ok (.getfield 45, 3) := by decide +kernel
theorem dX11_statement_318 : decode cX11_statement 318 = .ok (.iload_n 2, 1) := by decide +kernel
theorem dX11_statement_319 : decode cX11_statement 319 = .ok (.laload, 1) := by decide +kernel
theorem dX11_statement_320 : decode cX11_statement 320 = .ok (.lcmp, 1) := by decide +kernel
theorem dX11_statement_321 : decode cX11_statement 321 = .ok (.ifCond .ge 31, 3) := by decide +kernel
theorem dX11_statement_324 : decode cX11_statement 324 = .ok (.aload_n 0, 1) := by decide +kernel
theorem dX11_statement_325 : decode cX11_statement 325 = .ok (.getfield 41, 3) := by decide +kernel
theorem dX11_statement_328 : decode cX11_statement 328 = .ok (.iload_n 2, 1) := by decide +kernel
theorem dX11_statement_329 : decode cX11_statement 329 = .ok (.dup2, 1) := by decide +kernel
theorem dX11_statement_330 : decode cX11_statement 330 = .ok (.laload, 1) := by decide +kernel
theorem dX11_statement_331 : decode cX11_statement 331 = .ok (.lconst 1, 1) := by decide +kernel
theorem dX11_statement_332 : decode cX11_statement 332 = .ok (.ladd, 1) := by decide +kernel
theorem dX11_statement_333 : decode cX11_statement 333 = .ok (.lastore, 1) := by decide +kernel
theorem dX11_statement_334 : decode cX11_statement 334 = .ok (.aload_n 0, 1) := by decide +kernel
theorem dX11_statement_335 : decode cX11_statement 335 = .ok (.aload_n 0, 1) := by decide +kernel
theorem dX11_statement_336 : decode cX11_statement 336 = .ok (.getfield 64, 3) := by decide +kernel
theorem dX11_statement_339 : decode cX11_statement 339 = .ok (.getfield 200, 3) := by decide +kernel
theorem dX11_statement_342 : decode cX11_statement 342 = .ok (.iload_n 1, 1) := by decide +kernel
theorem dX11_statement_343 : decode cX11_statement 343 = .ok (.iaload, 1) := by decide +kernel
theorem dX11_statement_344 : decode cX11_statement 344 = .ok (.iconst 1, 1) := by decide +kernel
theorem dX11_statement_345 : decode cX11_statement 345 = .ok (.iadd, 1) := by decide +kernel
theorem dX11_statement_346 : decode cX11_statement 346 = .ok (.putfield 136, 3) := by decide +kernel
theorem dX11_statement_349 : decode cX11_statement 349 = .ok (.goto 3, 3) := by decide +kernel
theorem dX11_statement_352 : decode cX11_statement 352 = .ok (.return_, 1) := by decide +kernel
theorem dX11_input_0 : decode cX11_input 0 = .ok (.aload_n 0, 1) := by decide +kernel
theorem dX11_input_1 : decode cX11_input 1 = .ok (.aload_n 0, 1) := by decide +kernel
theorem dX11_input_2 : decode cX11_input 2 = .ok (.getfield 64, 3) := by decide +kernel
theorem dX11_input_5 : decode cX11_input 5 = .ok (.getfield 200, 3) := by decide +kernel
theorem dX11_input_8 : decode cX11_input 8 = .ok (.iload_n 1, 1) := by decide +kernel
theorem dX11_input_9 : decode cX11_input 9 = .ok (.iaload, 1) := by decide +kernel
theorem dX11_input_10 : decode cX11_input 10 = .ok (.iconst 1, 1) := by decide +kernel
theorem dX11_input_11 : decode cX11_input 11 = .ok (.iand, 1) := by decide +kernel
theorem dX11_input_12 : decode cX11_input 12 = .ok (.invokevirtual 248, 3) := by decide +kernel
theorem dX11_input_15 : decode cX11_input 15 = .ok (.istore_n 2, 1) := by decide +kernel
theorem dX11_input_16 : decode cX11_input 16 = .ok (.iconst 1, 1) := by decide +kernel
theorem dX11_input_17 : decode cX11_input 17 = .ok (.aload_n 0, 1) := by decide +kernel
theorem dX11_input_18 : decode cX11_input 18 = .ok (.getfield 64, 3) := by decide +kernel
theorem dX11_input_21 : decode cX11_input 21 = .ok (.getfield 200, 3) := by decide +kernel
theorem dX11_input_24 : decode cX11_input 24 = .ok (.iload_n 1, 1) := by decide +kernel
theorem dX11_input_25 : decode cX11_input 25 = .ok (.iaload, 1) := by decide +kernel
theorem dX11_input_26 : decode cX11_input 26 = .ok (.sipush 256, 3) := by decide +kernel
theorem dX11_input_29 : decode cX11_input 29 = .ok (.irem, 1) := by decide +kernel
theorem dX11_input_30 : decode cX11_input 30 = .ok (.iconst 2, 1) := by decide +kernel
theorem dX11_input_31 : decode cX11_input 31 = .ok (.idiv, 1) := by decide +kernel
theorem dX11_input_32 : decode cX11_input 32 = .ok (.invokestatic 251, 3) := by decide +kernel
theorem dX11_input_35 : decode cX11_input 35 = .ok (.istore_n 3, 1) := by decide +kernel
theorem dX11_input_36 : decode cX11_input 36 = .ok (.iconst 0, 1) := by decide +kernel
theorem dX11_input_37 : decode cX11_input 37 = .ok (.istore 4, 2) := by decide +kernel
theorem dX11_input_39 : decode cX11_input 39 = .ok (.iload 4, 2) := by decide +kernel
theorem dX11_input_41 : decode cX11_input 41 = .ok (.iload_n 3, 1) := by decide +kernel
theorem dX11_input_42 : decode cX11_input 42 = .ok (.if_icmp .ge 74, 3) := by decide +kernel
theorem dX11_input_45 : decode cX11_input 45 = .ok (.aload_n 0, 1) := by decide +kernel
theorem dX11_input_46 : decode cX11_input 46 = .ok (.getfield 9, 3) := by decide +kernel
theorem dX11_input_49 : decode cX11_input 49 = .ok (.aload_n 0, 1) := by decide +kernel
theorem dX11_input_50 : decode cX11_input 50 = .ok (.getfield 118, 3) := by decide +kernel
theorem dX11_input_53 : decode cX11_input 53 = .ok (.aload_n 0, 1) := by decide +kernel
theorem dX11_input_54 : decode cX11_input 54 = .ok (.getfield 121, 3) := by decide +kernel
theorem dX11_input_57 : decode cX11_input 57 = .ok (.iastore, 1) := by decide +kernel
theorem dX11_input_58 : decode cX11_input 58 = .ok (.aload_n 0, 1) := by decide +kernel
theorem dX11_input_59 : decode cX11_input 59 = .ok (.getfield 15, 3) := by decide +kernel
theorem dX11_input_62 : decode cX11_input 62 = .ok (.aload_n 0, 1) := by decide +kernel
theorem dX11_input_63 : decode cX11_input 63 = .ok (.getfield 118, 3) := by decide +kernel
theorem dX11_input_66 : decode cX11_input 66 = .ok (.iload_n 2, 1) := by decide +kernel
theorem dX11_input_67 : decode cX11_input 67 = .ok (.iastore, 1) := by decide +kernel
theorem dX11_input_68 : decode cX11_input 68 = .ok (.aload_n 0, 1) := by decide +kernel
theorem dX11_input_69 : decode cX11_input 69 = .ok (.getfield 18, 3) := by decide +kernel
theorem dX11_input_72 : decode cX11_input 72 = .ok (.aload_n 0, 1) := by decide +kernel
theorem dX11_input_73 : decode cX11_input 73 = .ok (.getfield 118, 3) := by decide +kernel
theorem dX11_input_76 : decode cX11_input 76 = .ok (.aload_n 0, 1) := by decide +kernel
theorem dX11_input_77 : decode cX11_input 77 = .ok (.getfield 64, 3) := by decide +kernel
theorem dX11_input_80 : decode cX11_input 80 = .ok (.getfield 200, 3) := by decide +kernel
theorem dX11_input_83 : decode cX11_input 83 = .ok (.iload_n 1, 1) := by decide +kernel
theorem dX11_input_84 : decode cX11_input 84 = .ok (.iaload, 1) := by decide +kernel
theorem dX11_input_85 : decode cX11_input 85 = .ok (.sipush 256, 3) := by decide +kernel
theorem dX11_input_88 : decode cX11_input 88 = .ok (.idiv, 1) := by decide +kernel
theorem dX11_input_89 : decode cX11_input 89 = .ok (.iastore, 1) := by decide +kernel
theorem dX11_input_90 : decode cX11_input 90 = .ok (.aload_n 0, 1) := by decide +kernel
theorem dX11_input_91 : decode cX11_input 91 = .ok (.dup, 1) := by decide +kernel
theorem dX11_input_92 : decode cX11_input 92 = .ok (.getfield 118, 3) := by decide +kernel
theorem dX11_input_95 : decode cX11_input 95 = .ok (.iconst 1, 1) := by decide +kernel
theorem dX11_input_96 : decode cX11_input 96 = .ok (.iadd, 1) := by decide +kernel
theorem dX11_input_97 : decode cX11_input 97 = .ok (.putfield 118, 3) := by decide +kernel
theorem dX11_input_100 : decode cX11_input 100 = .ok (.aload_n 0, 1) := by decide +kernel
theorem dX11_input_101 : decode cX11_input 101 = .ok (.dup, 1) := by decide +kernel
theorem dX11_input_102 : decode cX11_input 102 = .ok (.getfield 121, 3) := by decide +kernel
theorem dX11_input_105 : decode cX11_input 105 = .ok (.iload_n 2, 1) := by decide +kernel
theorem dX11_input_106 : decode cX11_input 106 = .ok (.iadd, 1) := by decide +kernel
theorem dX11_input_107 : decode cX11_input 107 = .ok (.putfield 121, 3) := by decide +kernel
theorem dX11_input_110 : decode cX11_input 110 = .ok (.iinc 4 1, 3) := by decide +kernel
theorem dX11_input_113 : decode cX11_input 113 = .ok (.goto (-74), 3) := by decide +kernel
theorem dX11_input_116 : decode cX11_input 116 = .ok (.return_, 1) := by decide +kernel
theorem dX11_back_0 : decode cX11_back 0 = .ok (.aload_n 0, 1) := by decide +kernel
theorem dX11_back_1 : decode cX11_back 1 = .ok (.dup, 1) := by decide +kernel
theorem dX11_back_2 : decode cX11_back 2 = .ok (.getfield 130, 3) := by decide +kernel
theorem dX11_back_5 : decode cX11_back 5 = .ok (.iconst 1, 1) := by decide +kernel
theorem dX11_back_6 : decode cX11_back 6 = .ok (.isub, 1) := by decide +kernel
theorem dX11_back_7 : decode cX11_back 7 = .ok (.putfield 130, 3) := by decide +kernel
theorem dX11_back_10 : decode cX11_back 10 = .ok (.aload_n 0, 1) := by decide +kernel
theorem dX11_back_11 : decode cX11_back 11 = .ok (.getfield 60, 3) := by decide +kernel
theorem dX11_back_14 : decode cX11_back 14 = .ok (.aload_n 0, 1) := by decide +kernel
theorem dX11_back_15 : decode cX11_back 15 = .ok (.getfield 109, 3) := by decide +kernel
theorem dX11_back_18 : decode cX11_back 18 = .ok (.iconst 1, 1) := by decide +kernel
theorem dX11_back_19 : decode cX11_back 19 = .ok (.isub, 1) := by decide +kernel
theorem dX11_back_20 : decode cX11_back 20 = .ok (.imul, 1) := by decide +kernel
theorem dX11_back_21 : decode cX11_back 21 = .ok (.istore_n 1, 1) := by decide +kernel
theorem dX11_back_22 : decode cX11_back 22 = .ok (.aload_n 0, 1) := by decide +kernel
theorem dX11_back_23 : decode cX11_back 23 = .ok (.aload_n 0, 1) := by decide +kernel
theorem dX11_back_24 : decode cX11_back 24 = .ok (.getfield 54, 3) := by decide +kernel
theorem dX11_back_27 : decode cX11_back 27 = .ok (.aload_n 0, 1) := by decide +kernel
theorem dX11_back_28 : decode cX11_back 28 = .ok (.getfield 130, 3) := by decide +kernel
theorem dX11_back_31 : decode cX11_back 31 = .ok (.iaload, 1) := by decide +kernel
theorem dX11_back_32 : decode cX11_back 32 = .ok (.putfield 109, 3) := by decide +kernel
theorem dX11_back_35 : decode cX11_back 35 = .ok (.aload_n 0, 1) := by decide +kernel
theorem dX11_back_36 : decode cX11_back 36 = .ok (.getfield 85, 3) := by decide +kernel
theorem dX11_back_39 : decode cX11_back 39 = .ok (.iload_n 1, 1) := by decide +kernel
theorem dX11_back_40 : decode cX11_back 40 = .ok (.aload_n 0, 1) := by decide +kernel
theorem dX11_back_41 : decode cX11_back 41 = .ok (.getfield 85, 3) := by decide +kernel
theorem dX11_back_44 : decode cX11_back 44 = .ok (.aload_n 0, 1) := by decide +kernel
theorem dX11_back_45 : decode cX11_back 45 = .ok (.getfield 60, 3) := by decide +kernel
theorem dX11_back_48 : decode cX11_back 48 = .ok (.aload_n 0, 1) := by decide +kernel
theorem dX11_back_49 : decode cX11_back 49 = .ok (.getfield 109, 3) := by decide +kernel
theorem dX11_back_52 : decode cX11_back 52 = .ok (.imul, 1) := by decide +kernel
theorem dX11_back_53 : decode cX11_back 53 = .ok (.aload_n 0, 1) := by decide +kernel
theorem dX11_back_54 : decode cX11_back 54 = .ok (.getfield 60, 3) := by decide +kernel
theorem dX11_back_57 : decode cX11_back 57 = .ok (.invokestatic 162, 3) := by decide +kernel
theorem dX11_back_60 : decode cX11_back 60 = .ok (.aload_n 0, 1) := by decide +kernel
theorem dX11_back_61 : decode cX11_back 61 = .ok (.dup, 1) := by decide +kernel
theorem dX11_back_62 : decode cX11_back 62 = .ok (.getfield 109, 3) := by decide +kernel
theorem dX11_back_65 : decode cX11_back 65 = .ok (.iconst 1, 1) := by decide +kernel
theorem dX11_back_66 : decode cX11_back 66 = .ok (.iadd, 1) := by decide +kernel
theorem dX11_back_67 : decode cX11_back 67 = .ok (.putfield 109, 3) := by decide +kernel
theorem dX11_back_70 : decode cX11_back 70 = .ok (.aload_n 0, 1) := by decide +kernel
theorem dX11_back_71 : decode cX11_back 71 = .ok (.aload_n 0, 1) := by decide +kernel
theorem dX11_back_72 : decode cX11_back 72 = .ok (.getfield 51, 3) := by decide +kernel
theorem dX11_back_75 : decode cX11_back 75 = .ok (.aload_n 0, 1) := by decide +kernel
theorem dX11_back_76 : decode cX11_back 76 = .ok (.getfield 130, 3) := by decide +kernel
theorem dX11_back_79 : decode cX11_back 79 = .ok (.iaload, 1) := by decide +kernel
theorem dX11_back_80 : decode cX11_back 80 = .ok (.putfield 136, 3) := by decide +kernel
theorem dX11_back_83 : decode cX11_back 83 = .ok (.return_, 1) := by decide +kernel
theorem dX11_output_0 : decode cX11_output 0 = .ok (.aload_n 0, 1) := by decide +kernel
theorem dX11_output_1 : decode cX11_output 1 = .ok (.iload_n 1, 1) := by decide +kernel
theorem dX11_output_2 : decode cX11_output 2 = .ok (.invokevirtual 248, 3) := by decide +kernel
theorem dX11_output_5 : decode cX11_output 5 = .ok (.istore_n 2, 1) := by decide +kernel
theorem dX11_output_6 : decode cX11_output 6 = .ok (.aload_n 0, 1) := by decide +kernel
theorem dX11_output_7 : decode cX11_output 7 = .ok (.dup, 1) := by decide +kernel
theorem dX11_output_8 : decode cX11_output 8 = .ok (.getfield 109, 3) := by decide +kernel
theorem dX11_output_11 : decode cX11_output 11 = .ok (.iconst 1, 1) := by decide +kernel
theorem dX11_output_12 : decode cX11_output 12 = .ok (.isub, 1) := by decide +kernel
theorem dX11_output_13 : decode cX11_output 13 = .ok (.putfield 109, 3) := by decide +kernel
theorem dX11_output_16 : decode cX11_output 16 = .ok (.aload_n 0, 1) := by decide +kernel
theorem dX11_output_17 : decode cX11_output 17 = .ok (.getfield 85, 3) := by decide +kernel
theorem dX11_output_20 : decode cX11_output 20 = .ok (.aload_n 0, 1) := by decide +kernel
theorem dX11_output_21 : decode cX11_output 21 = .ok (.getfield 60, 3) := by decide +kernel
theorem dX11_output_24 : decode cX11_output 24 = .ok (.aload_n 0, 1) := by decide +kernel
theorem dX11_output_25 : decode cX11_output 25 = .ok (.getfield 109, 3) := by decide +kernel
theorem dX11_output_28 : decode cX11_output 28 = .ok (.imul, 1) := by decide +kernel
theorem dX11_output_29 : decode cX11_output 29 = .ok (.aload_n 0, 1) := by decide +kernel
theorem dX11_output_30 : decode cX11_output 30 = .ok (.getfield 91, 3) := by decide +kernel
theorem dX11_output_33 : decode cX11_output 33 = .ok (.aload_n 0, 1) := by decide +kernel
theorem dX11_output_34 : decode cX11_output 34 = .ok (.getfield 60, 3) := by decide +kernel
theorem dX11_output_37 : decode cX11_output 37 = .ok (.aload_n 0, 1) := by decide +kernel
theorem dX11_output_38 : decode cX11_output 38 = .ok (.getfield 133, 3) := by decide +kernel
theorem dX11_output_41 : decode cX11_output 41 = .ok (.imul, 1) := by decide +kernel
theorem dX11_output_42 : decode cX11_output 42 = .ok (.iload_n 2, 1) := by decide +kernel
theorem dX11_output_43 : decode cX11_output 43 = .ok (.invokestatic 162, 3) := by decide +kernel
theorem dX11_output_46 : decode cX11_output 46 = .ok (.aload_n 0, 1) := by decide +kernel
theorem dX11_output_47 : decode cX11_output 47 = .ok (.getfield 57, 3) := by decide +kernel
theorem dX11_output_50 : decode cX11_output 50 = .ok (.aload_n 0, 1) := by decide +kernel
theorem dX11_output_51 : decode cX11_output 51 = .ok (.getfield 133, 3) := by decide +kernel
theorem dX11_output_54 : decode cX11_output 54 = .ok (.iload_n 2, 1) := by decide +kernel
theorem dX11_output_55 : decode cX11_output 55 = .ok (.iastore, 1) := by decide +kernel
theorem dX11_output_56 : decode cX11_output 56 = .ok (.aload_n 0, 1) := by decide +kernel
theorem dX11_output_57 : decode cX11_output 57 = .ok (.dup, 1) := by decide +kernel
theorem dX11_output_58 : decode cX11_output 58 = .ok (.getfield 133, 3) := by decide +kernel
theorem dX11_output_61 : decode cX11_output 61 = .ok (.iconst 1, 1) := by decide +kernel
theorem dX11_output_62 : decode cX11_output 62 = .ok (.iadd, 1) := by decide +kernel
theorem dX11_output_63 : decode cX11_output 63 = .ok (.putfield 133, 3) := by decide +kernel
theorem dX11_output_66 : decode cX11_output 66 = .ok (.return_, 1) := by decide +kernel
theorem dX11_variable_0 : decode cX11_variable 0 = .ok (.aload_n 0, 1) := by decide +kernel
theorem dX11_variable_1 : decode cX11_variable 1 = .ok (.aload_n 0, 1) := by decide +kernel
theorem dX11_variable_2 : decode cX11_variable 2 = .ok (.getfield 64, 3) := by decide +kernel
theorem dX11_variable_5 : decode cX11_variable 5 = .ok (.getfield 200, 3) := by decide +kernel
theorem dX11_variable_8 : decode cX11_variable 8 = .ok (.iload_n 1, 1) := by decide +kernel
theorem dX11_variable_9 : decode cX11_variable 9 = .ok (.iaload, 1) := by decide +kernel
theorem dX11_variable_10 : decode cX11_variable 10 = .ok (.iconst 1, 1) := by decide +kernel
theorem dX11_variable_11 : decode cX11_variable 11 = .ok (.iand, 1) := by decide +kernel
theorem dX11_variable_12 : decode cX11_variable 12 = .ok (.invokevirtual 248, 3) := by decide +kernel
theorem dX11_variable_15 : decode cX11_variable 15 = .ok (.istore_n 2, 1) := by decide +kernel
theorem dX11_variable_16 : decode cX11_variable 16 = .ok (.iconst 1, 1) := by decide +kernel
theorem dX11_variable_17 : decode cX11_variable 17 = .ok (.aload_n 0, 1) := by decide +kernel
theorem dX11_variable_18 : decode cX11_variable 18 = .ok (.getfield 64, 3) := by decide +kernel
theorem dX11_variable_21 : decode cX11_variable 21 = .ok (.getfield 200, 3) := by decide +kernel
theorem dX11_variable_24 : decode cX11_variable 24 = .ok (.iload_n 1, 1) := by decide +kernel
theorem dX11_variable_25 : decode cX11_variable 25 = .ok (.iaload, 1) := by decide +kernel
theorem dX11_variable_26 : decode cX11_variable 26 = .ok (.iconst 2, 1) := by decide +kernel
theorem dX11_variable_27 : decode cX11_variable 27 = .ok (.idiv, 1) := by decide +kernel
theorem dX11_variable_28 : decode cX11_variable 28 = .ok (.invokestatic 251, 3) := by decide +kernel
theorem dX11_variable_31 : decode cX11_variable 31 = .ok (.istore_n 3, 1) := by decide +kernel
theorem dX11_variable_32 : decode cX11_variable 32 = .ok (.aload_n 0, 1) := by decide +kernel
theorem dX11_variable_33 : decode cX11_variable 33 = .ok (.getfield 64, 3) := by decide +kernel
theorem dX11_variable_36 : decode cX11_variable 36 = .ok (.getfield 206, 3) := by decide +kernel
theorem dX11_variable_39 : decode cX11_variable 39 = .ok (.iload_n 1, 1) := by decide +kernel
theorem dX11_variable_40 : decode cX11_variable 40 = .ok (.iaload, 1) := by decide +kernel
theorem dX11_variable_41 : decode cX11_variable 41 = .ok (.iconst 1, 1) := by decide +kernel
theorem dX11_variable_42 : decode cX11_variable 42 = .ok (.if_icmp .ne 7, 3) := by decide +kernel
theorem dX11_variable_45 : decode cX11_variable 45 = .ok (.iconst 1, 1) := by decide +kernel
theorem dX11_variable_46 : decode cX11_variable 46 = .ok (.goto 4, 3) := by decide +kernel
theorem dX11_variable_49 : decode cX11_variable 49 = .ok (.iconst 0, 1) := by decide +kernel
theorem dX11_variable_50 : decode cX11_variable 50 = .ok (.istore 4, 2) := by decide +kernel
theorem dX11_variable_52 : decode cX11_variable 52 = .ok (.iload 4, 2) := by decide +kernel
theorem dX11_variable_54 : decode cX11_variable 54 = .ok (.ifCond .eq 13, 3) := by decide +kernel
theorem dX11_variable_57 : decode cX11_variable 57 = .ok (.aload_n 0, 1) := by decide +kernel
theorem dX11_variable_58 : decode cX11_variable 58 = .ok (.dup, 1) := by decide +kernel
theorem dX11_variable_59 : decode cX11_variable 59 = .ok (.getfield 109, 3) := by decide +kernel
theorem dX11_variable_62 : decode cX11_variable 62 = .ok (.iconst 1, 1) := by decide +kernel
theorem dX11_variable_63 : decode cX11_variable 63 = .ok (.isub, 1) := by decide +kernel
theorem dX11_variable_64 : decode cX11_variable 64 = .ok (.putfield 109, 3) := by decide +kernel
theorem dX11_variable_67 : decode cX11_variable 67 = .ok (.iconst 0, 1) := by decide +kernel
theorem dX11_variable_68 : decode cX11_variable 68 = .ok (.istore 5, 2) := by decide +kernel
theorem dX11_variable_70 : decode cX11_variable 70 = .ok (.iload 5, 2) := by decide +kernel
theorem dX11_variable_72 : decode cX11_variable 72 = .ok (.iload_n 3, 1) := by decide +kernel
theorem dX11_variable_73 : decode cX11_variable 73 = .ok (.if_icmp .ge 80, 3) := by decide +kernel
theorem dX11_variable_76 : decode cX11_variable 76 = .ok (.aload_n 0, 1) := by decide +kernel
theorem dX11_variable_77 : decode cX11_variable 77 = .ok (.getfield 64, 3) := by decide +kernel
theorem dX11_variable_80 : decode cX11_variable 80 = .ok (.getfield 245, 3) := by decide +kernel
theorem dX11_variable_83 : decode cX11_variable 83 = .ok (.iload_n 1, 1) := by decide +kernel
theorem dX11_variable_84 : decode cX11_variable 84 = .ok (.iaload, 1) := by decide +kernel
theorem dX11_variable_85 : decode cX11_variable 85 = .ok (.iload 5, 2) := by decide +kernel
theorem dX11_variable_87 : decode cX11_variable 87 = .ok (.iadd, 1) := by decide +kernel
theorem dX11_variable_88 : decode cX11_variable 88 = .ok (.istore 6, 2) := by decide +kernel
theorem dX11_variable_90 : decode cX11_variable 90 = .ok (.aload_n 0, 1) := by decide +kernel
theorem dX11_variable_91 : decode cX11_variable 91 = .ok (.getfield 21, 3) := by decide +kernel
theorem dX11_variable_94 : decode cX11_variable 94 = .ok (.iload 6, 2) := by decide +kernel
theorem dX11_variable_96 : decode cX11_variable 96 = .ok (.iload_n 2, 1) := by decide +kernel
theorem dX11_variable_97 : decode cX11_variable 97 = .ok (.iastore, 1) := by decide +kernel
theorem dX11_variable_98 : decode cX11_variable 98 = .ok (.iload 4, 2) := by decide +kernel
theorem dX11_variable_100 : decode cX11_variable 100 = .ok (.ifCond .eq 10, 3) := by decide +kernel
theorem dX11_variable_103 : decode cX11_variable 103 = .ok (.aload_n 0, 1) := by decide +kernel
theorem dX11_variable_104 : decode cX11_variable 104 = .ok (.getfield 85, 3) := by decide +kernel
theorem dX11_variable_107 : decode cX11_variable 107 = .ok (.goto 7, 3) := by decide +kernel
theorem dX11_variable_110 : decode cX11_variable 110 = .ok (.aload_n 0, 1) := by decide +kernel
theorem dX11_variable_111 : decode cX11_variable 111 = .ok (.getfield 97, 3) := by decide +kernel
theorem dX11_variable_114 : decode cX11_variable 114 = .ok (.iload 4, 2) := by decide +kernel
theorem dX11_variable_116 : decode cX11_variable 116 = .ok (.ifCond .eq 15, 3) := by decide +kernel
theorem dX11_variable_119 : decode cX11_variable 119 = .ok (.aload_n 0, 1) := by decide +kernel
theorem dX11_variable_120 : decode cX11_variable 120 = .ok (.getfield 60, 3) := by decide +kernel
theorem dX11_variable_123 : decode cX11_variable 123 = .ok (.aload_n 0, 1) := by decide +kernel
theorem dX11_variable_124 : decode cX11_variable 124 = .ok (.getfield 109, 3) := by decide +kernel
theorem dX11_variable_127 : decode cX11_variable 127 = .ok (.imul, 1) := by decide +kernel
theorem dX11_variable_128 : decode cX11_variable 128 = .ok (.goto 4, 3) := by decide +kernel
theorem dX11_variable_131 : decode cX11_variable 131 = .ok (.iconst 0, 1) := by decide +kernel
theorem dX11_variable_132 : decode cX11_variable 132 = .ok (.aload_n 0, 1) := by decide +kernel
theorem dX11_variable_133 : decode cX11_variable 133 = .ok (.getfield 88, 3) := by decide +kernel
theorem dX11_variable_136 : decode cX11_variable 136 = .ok (.aload_n 0, 1) := by decide +kernel
theorem dX11_variable_137 : decode cX11_variable 137 = .ok (.getfield 60, 3) := by decide +kernel
theorem dX11_variable_140 : decode cX11_variable 140 = .ok (.iload 6, 2) := by decide +kernel
theorem dX11_variable_142 : decode cX11_variable 142 = .ok (.imul, 1) := by decide +kernel
theorem dX11_variable_143 : decode cX11_variable 143 = .ok (.iload_n 2, 1) := by decide +kernel
theorem dX11_variable_144 : decode cX11_variable 144 = .ok (.invokestatic 162, 3) := by decide +kernel
theorem dX11_variable_147 : decode cX11_variable 147 = .ok (.iinc 5 1, 3) := by decide +kernel
theorem dX11_variable_150 : decode cX11_variable 150 = .ok (.goto (-80), 3) := by decide +kernel
theorem dX11_variable_153 : decode cX11_variable 153 = .ok (.return_, 1) := by decide +kernel
theorem dX11_assign_0 : decode cX11_assign 0 = .ok (.aload_n 0, 1) := by decide +kernel
theorem dX11_assign_1 : decode cX11_assign 1 = .ok (.aload_n 0, 1) := by decide +kernel
theorem dX11_assign_2 : decode cX11_assign 2 = .ok (.getfield 64, 3) := by decide +kernel
theorem dX11_assign_5 : decode cX11_assign 5 = .ok (.getfield 200, 3) := by decide +kernel
theorem dX11_assign_8 : decode cX11_assign 8 = .ok (.iload_n 1, 1) := by decide +kernel
theorem dX11_assign_9 : decode cX11_assign 9 = .ok (.iaload, 1) := by decide +kernel
theorem dX11_assign_10 : decode cX11_assign 10 = .ok (.iconst 1, 1) := by decide +kernel
theorem dX11_assign_11 : decode cX11_assign 11 = .ok (.iand, 1) := by decide +kernel
theorem dX11_assign_12 : decode cX11_assign 12 = .ok (.invokevirtual 248, 3) := by decide +kernel
theorem dX11_assign_15 : decode cX11_assign 15 = .ok (.istore_n 2, 1) := by decide +kernel
theorem dX11_assign_16 : decode cX11_assign 16 = .ok (.aload_n 0, 1) := by decide +kernel
theorem dX11_assign_17 : decode cX11_assign 17 = .ok (.getfield 64, 3) := by decide +kernel
theorem dX11_assign_20 : decode cX11_assign 20 = .ok (.getfield 200, 3) := by decide +kernel
theorem dX11_assign_23 : decode cX11_assign 23 = .ok (.iload_n 1, 1) := by decide +kernel
theorem dX11_assign_24 : decode cX11_assign 24 = .ok (.iaload, 1) := by decide +kernel
theorem dX11_assign_25 : decode cX11_assign 25 = .ok (.sipush 512, 3) := by decide +kernel
theorem dX11_assign_28 : decode cX11_assign 28 = .ok (.idiv, 1) := by decide +kernel
theorem dX11_assign_29 : decode cX11_assign 29 = .ok (.istore_n 3, 1) := by decide +kernel
theorem dX11_assign_30 : decode cX11_assign 30 = .ok (.aload_n 0, 1) := by decide +kernel
theorem dX11_assign_31 : decode cX11_assign 31 = .ok (.getfield 64, 3) := by decide +kernel
theorem dX11_assign_34 : decode cX11_assign 34 = .ok (.getfield 245, 3) := by decide +kernel
theorem dX11_assign_37 : decode cX11_assign 37 = .ok (.iload_n 1, 1) := by decide +kernel
theorem dX11_assign_38 : decode cX11_assign 38 = .ok (.iaload, 1) := by decide +kernel
theorem dX11_assign_39 : decode cX11_assign 39 = .ok (.istore 4, 2) := by decide +kernel
theorem dX11_assign_41 : decode cX11_assign 41 = .ok (.iload_n 3, 1) := by decide +kernel
theorem dX11_assign_42 : decode cX11_assign 42 = .ok (.ifCond .ne 42, 3) := by decide +kernel
theorem dX11_assign_45 : decode cX11_assign 45 = .ok (.aload_n 0, 1) := by decide +kernel
theorem dX11_assign_46 : decode cX11_assign 46 = .ok (.dup, 1) := by decide +kernel
theorem dX11_assign_47 : decode cX11_assign 47 = .ok (.getfield 109, 3) := by decide +kernel
theorem dX11_assign_50 : decode cX11_assign 50 = .ok (.iconst 1, 1) := by decide +kernel
theorem dX11_assign_51 : decode cX11_assign 51 = .ok (.isub, 1) := by decide +kernel
theorem dX11_assign_52 : decode cX11_assign 52 = .ok (.putfield 109, 3) := by decide +kernel
theorem dX11_assign_55 : decode cX11_assign 55 = .ok (.aload_n 0, 1) := by decide +kernel
theorem dX11_assign_56 : decode cX11_assign 56 = .ok (.getfield 85, 3) := by decide +kernel
theorem dX11_assign_59 : decode cX11_assign 59 = .ok (.aload_n 0, 1) := by decide +kernel
theorem dX11_assign_60 : decode cX11_assign 60 = .ok (.getfield 60, 3) := by decide +kernel
theorem dX11_assign_63 : decode cX11_assign 63 = .ok (.aload_n 0, 1) := by decide +kernel
theorem dX11_assign_64 : decode cX11_assign 64 = .ok (.getfield 109, 3) := by decide +kernel
theorem dX11_assign_67 : decode cX11_assign 67 = .ok (.imul, 1) := by decide +kernel
theorem dX11_assign_68 : decode cX11_assign 68 = .ok (.aload_n 0, 1) := by decide +kernel
theorem dX11_assign_69 : decode cX11_assign 69 = .ok (.getfield 88, 3) := by decide +kernel
theorem dX11_assign_72 : decode cX11_assign 72 = .ok (.aload_n 0, 1) := by decide +kernel
theorem dX11_assign_73 : decode cX11_assign 73 = .ok (.getfield 60, 3) := by decide +kernel
theorem dX11_assign_76 : decode cX11_assign 76 = .ok (.iload 4, 2) := by decide +kernel
theorem dX11_assign_78 : decode cX11_assign 78 = .ok (.imul, 1) := by decide +kernel
theorem dX11_assign_79 : decode cX11_assign 79 = .ok (.iload_n 2, 1) := by decide +kernel
theorem dX11_assign_80 : decode cX11_assign 80 = .ok (.invokestatic 162, 3) := by decide +kernel
theorem dX11_assign_83 : decode cX11_assign 83 = .ok (.return_, 1) := by decide +kernel
theorem dX11_assign_84 : decode cX11_assign 84 = .ok (.aload_n 0, 1) := by decide +kernel
theorem dX11_assign_85 : decode cX11_assign 85 = .ok (.iconst 1, 1) := by decide +kernel
theorem dX11_assign_86 : decode cX11_assign 86 = .ok (.invokevirtual 218, 3) := by decide +kernel
theorem dX11_assign_89 : decode cX11_assign 89 = .ok (.istore 5, 2) := by decide +kernel
theorem dX11_assign_91 : decode cX11_assign 91 = .ok (.aload_n 0, 1) := by decide +kernel
theorem dX11_assign_92 : decode cX11_assign 92 = .ok (.iconst 2, 1) := by decide +kernel
theorem dX11_assign_93 : decode cX11_assign 93 = .ok (.invokevirtual 218, 3) := by decide +kernel
theorem dX11_assign_96 : decode cX11_assign 96 = .ok (.istore 6, 2) := by decide +kernel
theorem dX11_assign_98 : decode cX11_assign 98 = .ok (.aload_n 0, 1) := by decide +kernel
theorem dX11_assign_99 : decode cX11_assign 99 = .ok (.getfield 64, 3) := by decide +kernel
theorem dX11_assign_102 : decode cX11_assign 102 = .ok (.getfield 200, 3) := by decide +kernel
theorem dX11_assign_105 : decode cX11_assign 105 = .ok (.iload_n 1, 1) := by decide +kernel
theorem dX11_assign_106 : decode cX11_assign 106 = .ok (.iaload, 1) := by decide +kernel
theorem dX11_assign_107 : decode cX11_assign 107 = .ok (.iconst 2, 1) := by decide +kernel
theorem dX11_assign_108 : decode cX11_assign 108 = .ok (.iand, 1) := by decide +kernel
theorem dX11_assign_109 : decode cX11_assign 109 = .ok (.ifCond .eq 35, 3) := by decide +kernel
theorem dX11_assign_112 : decode cX11_assign 112 = .ok (.aload_n 0, 1) := by decide +kernel
theorem dX11_assign_113 : decode cX11_assign 113 = .ok (.getfield 85, 3) := by decide +kernel
theorem dX11_assign_116 : decode cX11_assign 116 = .ok (.iload 5, 2) := by decide +kernel
theorem dX11_assign_118 : decode cX11_assign 118 = .ok (.aload_n 0, 1) := by decide +kernel
theorem dX11_assign_119 : decode cX11_assign 119 = .ok (.getfield 88, 3) := by decide +kernel
theorem dX11_assign_122 : decode cX11_assign 122 = .ok (.aload_n 0, 1) := by decide +kernel
theorem dX11_assign_123 : decode cX11_assign 123 = .ok (.getfield 60, 3) := by decide +kernel
theorem dX11_assign_126 : decode cX11_assign 126 = .ok (.iload 4, 2) := by decide +kernel
theorem dX11_assign_128 : decode cX11_assign 128 = .ok (.aload_n 0, 1) := by decide +kernel
theorem dX11_assign_129 : decode cX11_assign 129 = .ok (.iload 6, 2) := by decide +kernel
theorem dX11_assign_131 : decode cX11_assign 131 = .ok (.invokevirtual 222, 3) := by decide +kernel
theorem dX11_assign_134 : decode cX11_assign 134 = .ok (.l2i, 1) := by decide +kernel
theorem dX11_assign_135 : decode cX11_assign 135 = .ok (.iadd, 1) := by decide +kernel
theorem dX11_assign_136 : decode cX11_assign 136 = .ok (.imul, 1) := by decide +kernel
theorem dX11_assign_137 : decode cX11_assign 137 = .ok (.iload_n 2, 1) := by decide +kernel
theorem dX11_assign_138 : decode cX11_assign 138 = .ok (.invokestatic 162, 3) := by decide +kernel
theorem dX11_assign_141 : decode cX11_assign 141 = .ok (.goto 98, 3) := by decide +kernel
theorem dX11_assign_144 : decode cX11_assign 144 = .ok (.iconst 0, 1) := by decide +kernel
theorem dX11_assign_145 : decode cX11_assign 145 = .ok (.istore 7, 2) := by decide +kernel
theorem dX11_assign_147 : decode cX11_assign 147 = .ok (.iload 7, 2) := by decide +kernel
theorem dX11_assign_149 : decode cX11_assign 149 = .ok (.iload_n 3, 1) := by decide +kernel
theorem dX11_assign_150 : decode cX11_assign 150 = .ok (.if_icmp .ge 89, 3) := by decide +kernel
theorem dX11_assign_153 : decode cX11_assign 153 = .ok (.aload_n 0, 1) := by decide +kernel
theorem dX11_assign_154 : decode cX11_assign 154 = .ok (.iload 6, 2) := by decide +kernel
theorem dX11_assign_156 : decode cX11_assign 156 = .ok (.iload 7, 2) := by decide +kernel
theorem dX11_assign_158 : decode cX11_assign 158 = .ok (.invokevirtual 257, 3) := by decide +kernel
theorem dX11_assign_161 : decode cX11_assign 161 = .ok (.istore 8, 2) := by decide +kernel
theorem dX11_assign_163 : decode cX11_assign 163 = .ok (.iconst 0, 1) := by decide +kernel
theorem dX11_assign_164 : decode cX11_assign 164 = .ok (.istore 9, 2) := by decide +kernel
theorem dX11_assign_166 : decode cX11_assign 166 = .ok (.iload 9, 2) := by decide +kernel
theorem dX11_assign_168 : decode cX11_assign 168 = .ok (.iload_n 2, 1) := by decide +kernel
theorem dX11_assign_169 : decode cX11_assign 169 = .ok (.if_icmp .ge 64, 3) := by decide +kernel
theorem dX11_assign_172 : decode cX11_assign 172 = .ok (.aload_n 0, 1) := by decide +kernel
theorem dX11_assign_173 : decode cX11_assign 173 = .ok (.getfield 88, 3) := by decide +kernel
theorem dX11_assign_176 : decode cX11_assign 176 = .ok (.aload_n 0, 1) := by decide +kernel
theorem dX11_assign_177 : decode cX11_assign 177 = .ok (.getfield 60, 3) := by decide +kernel
theorem dX11_assign_180 : decode cX11_assign 180 = .ok (.iload 4, 2) := by decide +kernel
theorem dX11_assign_182 : decode cX11_assign 182 = .ok (.iload 7, 2) := by decide +kernel
theorem dX11_assign_184 : decode cX11_assign 184 = .ok (.iadd, 1) := by decide +kernel
theorem dX11_assign_185 : decode cX11_assign 185 = .ok (.imul, 1) := by decide +kernel
theorem dX11_assign_186 : decode cX11_assign 186 = .ok (.iload 9, 2) := by decide +kernel
theorem dX11_assign_188 : decode cX11_assign 188 = .ok (.iadd, 1) := by decide +kernel
theorem dX11_assign_189 : decode cX11_assign 189 = .ok (.aload_n 0, 1) := by decide +kernel
theorem dX11_assign_190 : decode cX11_assign 190 = .ok (.getfield 72, 3) := by decide +kernel
theorem dX11_assign_193 : decode cX11_assign 193 = .ok (.iload 8, 2) := by decide +kernel
theorem dX11_assign_195 : decode cX11_assign 195 = .ok (.aload_n 0, 1) := by decide +kernel
theorem dX11_assign_196 : decode cX11_assign 196 = .ok (.getfield 85, 3) := by decide +kernel
theorem dX11_assign_199 : decode cX11_assign 199 = .ok (.iload 5, 2) := by decide +kernel
theorem dX11_assign_201 : decode cX11_assign 201 = .ok (.iload 9, 2) := by decide +kernel
theorem dX11_assign_203 : decode cX11_assign 203 = .ok (.iadd, 1) := by decide +kernel
theorem dX11_assign_204 : decode cX11_assign 204 = .ok (.iaload, 1) := by decide +kernel
theorem dX11_assign_205 : decode cX11_assign 205 = .ok (.aload_n 0, 1) := by decide +kernel
theorem dX11_assign_206 : decode cX11_assign 206 = .ok (.getfield 88, 3) := by decide +kernel
theorem dX11_assign_209 : decode cX11_assign 209 = .ok (.aload_n 0, 1) := by decide +kernel
theorem dX11_assign_210 : decode cX11_assign 210 = .ok (.getfield 60, 3) := by decide +kernel
theorem dX11_assign_213 : decode cX11_assign 213 = .ok (.iload 4, 2) := by decide +kernel
theorem dX11_assign_215 : decode cX11_assign 215 = .ok (.iload 7, 2) := by decide +kernel
theorem dX11_assign_217 : decode cX11_assign 217 = .ok (.iadd, 1) := by decide +kernel
theorem dX11_assign_218 : decode cX11_assign 218 = .ok (.imul, 1) := by decide +kernel
theorem dX11_assign_219 : decode cX11_assign 219 = .ok (.iload 9, 2) := by decide +kernel
theorem dX11_assign_221 : decode cX11_assign 221 = .ok (.iadd, 1) := by decide +kernel
theorem dX11_assign_222 : decode cX11_assign 222 = .ok (.iaload, 1) := by decide +kernel
theorem dX11_assign_223 : decode cX11_assign 223 = .ok (.invokevirtual 260, 3) := by decide +kernel
theorem dX11_assign_226 : decode cX11_assign 226 = .ok (.iastore, 1) := by decide +kernel
theorem dX11_assign_227 : decode cX11_assign 227 = .ok (.iinc 9 1, 3) := by decide +kernel
theorem dX11_assign_230 : decode cX11_assign 230 = .ok (.goto (-64), 3) := by decide +kernel
theorem dX11_assign_233 : decode cX11_assign 233 = .ok (.iinc 7 1, 3) := by decide +kernel
theorem dX11_assign_236 : decode cX11_assign 236 = .ok (.goto (-89), 3) := by decide +kernel
theorem dX11_assign_239 : decode cX11_assign 239 = .ok (.aload_n 0, 1) := by decide +kernel
theorem dX11_assign_240 : decode cX11_assign 240 = .ok (.dup, 1) := by decide +kernel
theorem dX11_assign_241 : decode cX11_assign 241 = .ok (.getfield 109, 3) := by decide +kernel
theorem dX11_assign_244 : decode cX11_assign 244 = .ok (.iconst 2, 1) := by decide +kernel
theorem dX11_assign_245 : decode cX11_assign 245 = .ok (.isub, 1) := by decide +kernel
theorem dX11_assign_246 : decode cX11_assign 246 = .ok (.putfield 109, 3) := by decide +kernel
theorem dX11_assign_249 : decode cX11_assign 249 = .ok (.return_, 1) := by decide +kernel
theorem dX11_open_0 : decode cX11_open 0 = .ok (.aload_n 0, 1) := by decide +kernel
theorem dX11_open_1 : decode cX11_open 1 = .ok (.dup, 1) := by decide +kernel
theorem dX11_open_2 : decode cX11_open 2 = .ok (.getfield 109, 3) := by decide +kernel
theorem dX11_open_5 : decode cX11_open 5 = .ok (.iconst 1, 1) := by decide +kernel
theorem dX11_open_6 : decode cX11_open 6 = .ok (.isub, 1) := by decide +kernel
theorem dX11_open_7 : decode cX11_open 7 = .ok (.putfield 109, 3) := by decide +kernel
theorem dX11_open_10 : decode cX11_open 10 = .ok (.aload_n 0, 1) := by decide +kernel
theorem dX11_open_11 : decode cX11_open 11 = .ok (.getfield 24, 3) := by decide +kernel
theorem dX11_open_14 : decode cX11_open 14 = .ok (.aload_n 0, 1) := by decide +kernel
theorem dX11_open_15 : decode cX11_open 15 = .ok (.getfield 124, 3) := by decide +kernel
theorem dX11_open_18 : decode cX11_open 18 = .ok (.aload_n 0, 1) := by decide +kernel
theorem dX11_open_19 : decode cX11_open 19 = .ok (.getfield 85, 3) := by decide +kernel
theorem dX11_open_22 : decode cX11_open 22 = .ok (.aload_n 0, 1) := by decide +kernel
theorem dX11_open_23 : decode cX11_open 23 = .ok (.getfield 60, 3) := by decide +kernel
theorem dX11_open_26 : decode cX11_open 26 = .ok (.aload_n 0, 1) := by decide +kernel
theorem dX11_open_27 : decode cX11_open 27 = .ok (.getfield 109, 3) := by decide +kernel
theorem dX11_open_30 : decode cX11_open 30 = .ok (.imul, 1) := by decide +kernel
theorem dX11_open_31 : decode cX11_open 31 = .ok (.iaload, 1) := by decide +kernel
theorem dX11_open_32 : decode cX11_open 32 = .ok (.iastore, 1) := by decide +kernel
theorem dX11_open_33 : decode cX11_open 33 = .ok (.aload_n 0, 1) := by decide +kernel
theorem dX11_open_34 : decode cX11_open 34 = .ok (.getfield 27, 3) := by decide +kernel
theorem dX11_open_37 : decode cX11_open 37 = .ok (.aload_n 0, 1) := by decide +kernel
theorem dX11_open_38 : decode cX11_open 38 = .ok (.getfield 124, 3) := by decide +kernel
theorem dX11_open_41 : decode cX11_open 41 = .ok (.aload_n 0, 1) := by decide +kernel
theorem dX11_open_42 : decode cX11_open 42 = .ok (.getfield 64, 3) := by decide +kernel
theorem dX11_open_45 : decode cX11_open 45 = .ok (.getfield 245, 3) := by decide +kernel
theorem dX11_open_48 : decode cX11_open 48 = .ok (.iload_n 1, 1) := by decide +kernel
theorem dX11_open_49 : decode cX11_open 49 = .ok (.iaload, 1) := by decide +kernel
theorem dX11_open_50 : decode cX11_open 50 = .ok (.iastore, 1) := by decide +kernel
theorem dX11_open_51 : decode cX11_open 51 = .ok (.aload_n 0, 1) := by decide +kernel
theorem dX11_open_52 : decode cX11_open 52 = .ok (.getfield 30, 3) := by decide +kernel
theorem dX11_open_55 : decode cX11_open 55 = .ok (.aload_n 0, 1) := by decide +kernel
theorem dX11_open_56 : decode cX11_open 56 = .ok (.getfield 124, 3) := by decide +kernel
theorem dX11_open_59 : decode cX11_open 59 = .ok (.aload_n 0, 1) := by decide +kernel
theorem dX11_open_60 : decode cX11_open 60 = .ok (.getfield 64, 3) := by decide +kernel
theorem dX11_open_63 : decode cX11_open 63 = .ok (.getfield 206, 3) := by decide +kernel
theorem dX11_open_66 : decode cX11_open 66 = .ok (.iload_n 1, 1) := by decide +kernel
theorem dX11_open_67 : decode cX11_open 67 = .ok (.iaload, 1) := by decide +kernel
theorem dX11_open_68 : decode cX11_open 68 = .ok (.iastore, 1) := by decide +kernel
theorem dX11_open_69 : decode cX11_open 69 = .ok (.aload_n 0, 1) := by decide +kernel
theorem dX11_open_70 : decode cX11_open 70 = .ok (.getfield 34, 3) := by decide +kernel
theorem dX11_open_73 : decode cX11_open 73 = .ok (.aload_n 0, 1) := by decide +kernel
theorem dX11_open_74 : decode cX11_open 74 = .ok (.getfield 124, 3) := by decide +kernel
theorem dX11_open_77 : decode cX11_open 77 = .ok (.aaload, 1) := by decide +kernel
theorem dX11_open_78 : decode cX11_open 78 = .ok (.ifnonnull 41, 3) := by decide +kernel
theorem dX11_open_81 : decode cX11_open 81 = .ok (.aload_n 0, 1) := by decide +kernel
theorem dX11_open_82 : decode cX11_open 82 = .ok (.getfield 34, 3) := by decide +kernel
theorem dX11_open_85 : decode cX11_open 85 = .ok (.aload_n 0, 1) := by decide +kernel
theorem dX11_open_86 : decode cX11_open 86 = .ok (.getfield 124, 3) := by decide +kernel
theorem dX11_open_89 : decode cX11_open 89 = .ok (.aload_n 0, 1) := by decide +kernel
theorem dX11_open_90 : decode cX11_open 90 = .ok (.getfield 60, 3) := by decide +kernel
theorem dX11_open_93 : decode cX11_open 93 = .ok (.sipush 256, 3) := by decide +kernel
theorem dX11_open_96 : decode cX11_open 96 = .ok (.imul, 1) := by decide +kernel
theorem dX11_open_97 : decode cX11_open 97 = .ok (.newarray .int, 2) := by decide +kernel
theorem dX11_open_99 : decode cX11_open 99 = .ok (.aastore, 1) := by decide +kernel
theorem dX11_open_100 : decode cX11_open 100 = .ok (.aload_n 0, 1) := by decide +kernel
theorem dX11_open_101 : decode cX11_open 101 = .ok (.getfield 38, 3) := by decide +kernel
theorem dX11_open_104 : decode cX11_open 104 = .ok (.aload_n 0, 1) := by decide +kernel
theorem dX11_open_105 : decode cX11_open 105 = .ok (.getfield 124, 3) := by decide +kernel
theorem dX11_open_108 : decode cX11_open 108 = .ok (.aload_n 0, 1) := by decide +kernel
theorem dX11_open_109 : decode cX11_open 109 = .ok (.getfield 60, 3) := by decide +kernel
theorem dX11_open_112 : decode cX11_open 112 = .ok (.sipush 256, 3) := by decide +kernel
theorem dX11_open_115 : decode cX11_open 115 = .ok (.imul, 1) := by decide +kernel
theorem dX11_open_116 : decode cX11_open 116 = .ok (.newarray .int, 2) := by decide +kernel
theorem dX11_open_118 : decode cX11_open 118 = .ok (.aastore, 1) := by decide +kernel
theorem dX11_open_119 : decode cX11_open 119 = .ok (.aload_n 0, 1) := by decide +kernel
theorem dX11_open_120 : decode cX11_open 120 = .ok (.getfield 88, 3) := by decide +kernel
theorem dX11_open_123 : decode cX11_open 123 = .ok (.iconst 0, 1) := by decide +kernel
theorem dX11_open_124 : decode cX11_open 124 = .ok (.aload_n 0, 1) := by decide +kernel
theorem dX11_open_125 : decode cX11_open 125 = .ok (.getfield 34, 3) := by decide +kernel
theorem dX11_open_128 : decode cX11_open 128 = .ok (.aload_n 0, 1) := by decide +kernel
theorem dX11_open_129 : decode cX11_open 129 = .ok (.getfield 124, 3) := by decide +kernel
theorem dX11_open_132 : decode cX11_open 132 = .ok (.aaload, 1) := by decide +kernel
theorem dX11_open_133 : decode cX11_open 133 = .ok (.iconst 0, 1) := by decide +kernel
theorem dX11_open_134 : decode cX11_open 134 = .ok (.aload_n 0, 1) := by decide +kernel
theorem dX11_open_135 : decode cX11_open 135 = .ok (.getfield 60, 3) := by decide +kernel
theorem dX11_open_138 : decode cX11_open 138 = .ok (.aload_n 0, 1) := by decide +kernel
theorem dX11_open_139 : decode cX11_open 139 = .ok (.getfield 27, 3) := by decide +kernel
theorem dX11_open_142 : decode cX11_open 142 = .ok (.aload_n 0, 1) := by decide +kernel
theorem dX11_open_143 : decode cX11_open 143 = .ok (.getfield 124, 3) := by decide +kernel
theorem dX11_open_146 : decode cX11_open 146 = .ok (.iaload, 1) := by decide +kernel
theorem dX11_open_147 : decode cX11_open 147 = .ok (.imul, 1) := by decide +kernel
theorem dX11_open_148 : decode cX11_open 148 = .ok (.invokestatic 162, 3) := by decide +kernel
theorem dX11_open_151 : decode cX11_open 151 = .ok (.aload_n 0, 1) := by decide +kernel
theorem dX11_open_152 : decode cX11_open 152 = .ok (.dup, 1) := by decide +kernel
theorem dX11_open_153 : decode cX11_open 153 = .ok (.getfield 124, 3) := by decide +kernel
theorem dX11_open_156 : decode cX11_open 156 = .ok (.iconst 1, 1) := by decide +kernel
theorem dX11_open_157 : decode cX11_open 157 = .ok (.iadd, 1) := by decide +kernel
theorem dX11_open_158 : decode cX11_open 158 = .ok (.putfield 124, 3) := by decide +kernel
theorem dX11_open_161 : decode cX11_open 161 = .ok (.return_, 1) := by decide +kernel
theorem dX11_turnOver_0 : decode cX11_turnOver 0 = .ok (.aload_n 0, 1) := by decide +kernel
theorem dX11_turnOver_1 : decode cX11_turnOver 1 = .ok (.getfield 60, 3) := by decide +kernel
theorem dX11_turnOver_4 : decode cX11_turnOver 4 = .ok (.aload_n 0, 1) := by decide +kernel
theorem dX11_turnOver_5 : decode cX11_turnOver 5 = .ok (.getfield 27, 3) := by decide +kernel
theorem dX11_turnOver_8 : decode cX11_turnOver 8 = .ok (.aload_n 0, 1) := by decide +kernel
theorem dX11_turnOver_9 : decode cX11_turnOver 9 = .ok (.getfield 124, 3) := by decide +kernel
theorem dX11_turnOver_12 : decode cX11_turnOver 12 = .ok (.iconst 1, 1) := by decide +kernel
theorem dX11_turnOver_13 : decode cX11_turnOver 13 = .ok (.isub, 1) := by decide +kernel
theorem dX11_turnOver_14 : decode cX11_turnOver 14 = .ok (.iaload, 1) := by decide +kernel
theorem dX11_turnOver_15 : decode cX11_turnOver 15 = .ok (.imul, 1) := by decide +kernel
theorem dX11_turnOver_16 : decode cX11_turnOver 16 = .ok (.istore_n 1, 1) := by decide +kernel
theorem dX11_turnOver_17 : decode cX11_turnOver 17 = .ok (.aload_n 0, 1) := by decide +kernel
theorem dX11_turnOver_18 : decode cX11_turnOver 18 = .ok (.getfield 88, 3) := by decide +kernel
theorem dX11_turnOver_21 : decode cX11_turnOver 21 = .ok (.iconst 0, 1) := by decide +kernel
theorem dX11_turnOver_22 : decode cX11_turnOver 22 = .ok (.aload_n 0, 1) := by decide +kernel
theorem dX11_turnOver_23 : decode cX11_turnOver 23 = .ok (.getfield 38, 3) := by decide +kernel
theorem dX11_turnOver_26 : decode cX11_turnOver 26 = .ok (.aload_n 0, 1) := by decide +kernel
theorem dX11_turnOver_27 : decode cX11_turnOver 27 = .ok (.getfield 124, 3) := by decide +kernel
theorem dX11_turnOver_30 : decode cX11_turnOver 30 = .ok (.iconst 1, 1) := by decide +kernel
theorem dX11_turnOver_31 : decode cX11_turnOver 31 = .ok (.isub, 1) := by decide +kernel
theorem dX11_turnOver_32 : decode cX11_turnOver 32 = .ok (.aaload, 1) := by decide +kernel
theorem dX11_turnOver_33 : decode cX11_turnOver 33 = .ok (.iconst 0, 1) := by decide +kernel
theorem dX11_turnOver_34 : decode cX11_turnOver 34 = .ok (.iload_n 1, 1) := by decide +kernel
theorem dX11_turnOver_35 : decode cX11_turnOver 35 = .ok (.invokestatic 162, 3) := by decide +kernel
theorem dX11_turnOver_38 : decode cX11_turnOver 38 = .ok (.aload_n 0, 1) := by decide +kernel
theorem dX11_turnOver_39 : decode cX11_turnOver 39 = .ok (.getfield 34, 3) := by decide +kernel
theorem dX11_turnOver_42 : decode cX11_turnOver 42 = .ok (.aload_n 0, 1) := by decide +kernel
theorem dX11_turnOver_43 : decode cX11_turnOver 43 = .ok (.getfield 124, 3) := by decide +kernel
theorem dX11_turnOver_46 : decode cX11_turnOver 46 = .ok (.iconst 1, 1) := by decide +kernel
theorem dX11_turnOver_47 : decode cX11_turnOver 47 = .ok (.isub, 1) := by decide +kernel
theorem dX11_turnOver_48 : decode cX11_turnOver 48 = .ok (.aaload, 1) := by decide +kernel
theorem dX11_turnOver_49 : decode cX11_turnOver 49 = .ok (.iconst 0, 1) := by decide +kernel
theorem dX11_turnOver_50 : decode cX11_turnOver 50 = .ok (.aload_n 0, 1) := by decide +kernel
theorem dX11_turnOver_51 : decode cX11_turnOver 51 = .ok (.getfield 88, 3) := by decide +kernel
theorem dX11_turnOver_54 : decode cX11_turnOver 54 = .ok (.iconst 0, 1) := by decide +kernel
theorem dX11_turnOver_55 : decode cX11_turnOver 55 = .ok (.iload_n 1, 1) := by decide +kernel
theorem dX11_turnOver_56 : decode cX11_turnOver 56 = .ok (.invokestatic 162, 3) := by decide +kernel
theorem dX11_turnOver_59 : decode cX11_turnOver 59 = .ok (.return_, 1) := by decide +kernel
theorem dX11_merge_0 : decode cX11_merge 0 = .ok (.aload_n 0, 1) := by decide +kernel
theorem dX11_merge_1 : decode cX11_merge 1 = .ok (.dup, 1) := by decide +kernel
theorem dX11_merge_2 : decode cX11_merge 2 = .ok (.getfield 124, 3) := by decide +kernel
theorem dX11_merge_5 : decode cX11_merge 5 = .ok (.iconst 1, 1) := by decide +kernel
theorem dX11_merge_6 : decode cX11_merge 6 = .ok (.isub, 1) := by decide +kernel
theorem dX11_merge_7 : decode cX11_merge 7 = .ok (.putfield 124, 3) := by decide +kernel
theorem dX11_merge_10 : decode cX11_merge 10 = .ok (.aload_n 0, 1) := by decide +kernel
theorem dX11_merge_11 : decode cX11_merge 11 = .ok (.aload_n 0, 1) := by decide +kernel
theorem dX11_merge_12 : decode cX11_merge 12 = .ok (.getfield 30, 3) := by decide +kernel
theorem dX11_merge_15 : decode cX11_merge 15 = .ok (.aload_n 0, 1) := by decide +kernel
theorem dX11_merge_16 : decode cX11_merge 16 = .ok (.getfield 124, 3) := by decide +kernel
theorem dX11_merge_19 : decode cX11_merge 19 = .ok (.iaload, 1) := by decide +kernel
theorem dX11_merge_20 : decode cX11_merge 20 = .ok (.putfield 115, 3) := by decide +kernel
theorem dX11_merge_23 : decode cX11_merge 23 = .ok (.iconst 0, 1) := by decide +kernel
theorem dX11_merge_24 : decode cX11_merge 24 = .ok (.istore_n 1, 1) := by decide +kernel
theorem dX11_merge_25 : decode cX11_merge 25 = .ok (.iload_n 1, 1) := by decide +kernel
theorem dX11_merge_26 : decode cX11_merge 26 = .ok (.aload_n 0, 1) := by decide +kernel
theorem dX11_merge_27 : decode cX11_merge 27 = .ok (.getfield 27, 3) := by decide +kernel
theorem dX11_merge_30 : decode cX11_merge 30 = .ok (.aload_n 0, 1) := by decide +kernel
theorem dX11_merge_31 : decode cX11_merge 31 = .ok (.getfield 124, 3) := by decide +kernel
theorem dX11_merge_34 : decode cX11_merge 34 = .ok (.iaload, 1) := by decide +kernel
theorem dX11_merge_35 : decode cX11_merge 35 = .ok (.if_icmp .ge 75, 3) := by decide +kernel
theorem dX11_merge_38 : decode cX11_merge 38 = .ok (.iconst 0, 1) := by decide +kernel
theorem dX11_merge_39 : decode cX11_merge 39 = .ok (.istore_n 2, 1) := by decide +kernel
theorem dX11_merge_40 : decode cX11_merge 40 = .ok (.iload_n 2, 1) := by decide +kernel
theorem dX11_merge_41 : decode cX11_merge 41 = .ok (.aload_n 0, 1) := by decide +kernel
theorem dX11_merge_42 : decode cX11_merge 42 = .ok (.getfield 21, 3) := by decide +kernel
theorem dX11_merge_45 : decode cX11_merge 45 = .ok (.iload_n 1, 1) := by decide +kernel
theorem dX11_merge_46 : decode cX11_merge 46 = .ok (.iaload, 1) := by decide +kernel
theorem dX11_merge_47 : decode cX11_merge 47 = .ok (.if_icmp .ge 57, 3) := by decide +kernel
theorem dX11_merge_50 : decode cX11_merge 50 = .ok (.aload_n 0, 1) := by decide +kernel
theorem dX11_merge_51 : decode cX11_merge 51 = .ok (.getfield 60, 3) := by decide +kernel
theorem dX11_merge_54 : decode cX11_merge 54 = .ok (.iload_n 1, 1) := by decide +kernel
theorem dX11_merge_55 : decode cX11_merge 55 = .ok (.imul, 1) := by decide +kernel
theorem dX11_merge_56 : decode cX11_merge 56 = .ok (.iload_n 2, 1) := by decide +kernel
theorem dX11_merge_57 : decode cX11_merge 57 = .ok (.iadd, 1) := by decide +kernel
theorem dX11_merge_58 : decode cX11_merge 58 = .ok (.istore_n 3, 1) := by decide +kernel
theorem dX11_merge_59 : decode cX11_merge 59 = .ok (.aload_n 0, 1) := by decide +kernel
theorem dX11_merge_60 : decode cX11_merge 60 = .ok (.getfield 88, 3) := by decide +kernel
theorem dX11_merge_63 : decode cX11_merge 63 = .ok (.iload_n 3, 1) := by decide +kernel
theorem dX11_merge_64 : decode cX11_merge 64 = .ok (.aload_n 0, 1) := by decide +kernel
theorem dX11_merge_65 : decode cX11_merge 65 = .ok (.getfield 72, 3) := by decide +kernel
theorem dX11_merge_68 : decode cX11_merge 68 = .ok (.aload_n 0, 1) := by decide +kernel
theorem dX11_merge_69 : decode cX11_merge 69 = .ok (.getfield 24, 3) := by decide +kernel
theorem dX11_merge_72 : decode cX11_merge 72 = .ok (.aload_n 0, 1) := by decide +kernel
theorem dX11_merge_73 : decode cX11_merge 73 = .ok (.getfield 124, 3) := by decide +kernel
theorem dX11_merge_76 : decode cX11_merge 76 = .ok (.iaload, 1) := by decide +kernel
theorem dX11_merge_77 : decode cX11_merge 77 = .ok (.aload_n 0, 1) := by decide +kernel
theorem dX11_merge_78 : decode cX11_merge 78 = .ok (.getfield 38, 3) := by decide +kernel
theorem dX11_merge_81 : decode cX11_merge 81 = .ok (.aload_n 0, 1) := by decide +kernel
theorem dX11_merge_82 : decode cX11_merge 82 = .ok (.getfield 124, 3) := by decide +kernel
theorem dX11_merge_85 : decode cX11_merge 85 = .ok (.aaload, 1) := by decide +kernel
theorem dX11_merge_86 : decode cX11_merge 86 = .ok (.iload_n 3, 1) := by decide +kernel
theorem dX11_merge_87 : decode cX11_merge 87 = .ok (.iaload, 1) := by decide +kernel
theorem dX11_merge_88 : decode cX11_merge 88 = .ok (.aload_n 0, 1) := by decide +kernel
theorem dX11_merge_89 : decode cX11_merge 89 = .ok (.getfield 88, 3) := by decide +kernel
theorem dX11_merge_92 : decode cX11_merge 92 = .ok (.iload_n 3, 1) := by decide +kernel
theorem dX11_merge_93 : decode cX11_merge 93 = .ok (.iaload, 1) := by decide +kernel
theorem dX11_merge_94 : decode cX11_merge 94 = .ok (.invokevirtual 260, 3) := by decide +kernel
theorem dX11_merge_97 : decode cX11_merge 97 = .ok (.iastore, 1) := by decide +kernel
theorem dX11_merge_98 : decode cX11_merge 98 = .ok (.iinc 2 1, 3) := by decide +kernel
theorem dX11_merge_101 : decode cX11_merge 101 = .ok (.goto (-61), 3) := by decide +kernel
theorem dX11_merge_104 : decode cX11_merge 104 = .ok (.iinc 1 1, 3) := by decide +kernel
theorem dX11_merge_107 : decode cX11_merge 107 = .ok (.goto (-82), 3) := by decide +kernel
theorem dX11_merge_110 : decode cX11_merge 110 = .ok (.return_, 1) := by decide +kernel
theorem dX11_loop_0 : decode cX11_loop 0 = .ok (.aload_n 0, 1) := by decide +kernel
theorem dX11_loop_1 : decode cX11_loop 1 = .ok (.aload_n 0, 1) := by decide +kernel
theorem dX11_loop_2 : decode cX11_loop 2 = .ok (.iconst 2, 1) := by decide +kernel
theorem dX11_loop_3 : decode cX11_loop 3 = .ok (.invokevirtual 218, 3) := by decide +kernel
theorem dX11_loop_6 : decode cX11_loop 6 = .ok (.invokevirtual 222, 3) := by decide +kernel
theorem dX11_loop_9 : decode cX11_loop 9 = .ok (.lstore_n 2, 1) := by decide +kernel
theorem dX11_loop_10 : decode cX11_loop 10 = .ok (.aload_n 0, 1) := by decide +kernel
theorem dX11_loop_11 : decode cX11_loop 11 = .ok (.aload_n 0, 1) := by decide +kernel
theorem dX11_loop_12 : decode cX11_loop 12 = .ok (.iconst 1, 1) := by decide +kernel
theorem dX11_loop_13 : decode cX11_loop 13 = .ok (.invokevirtual 218, 3) := by decide +kernel
theorem dX11_loop_16 : decode cX11_loop 16 = .ok (.invokevirtual 222, 3) := by decide +kernel
theorem dX11_loop_19 : decode cX11_loop 19 = .ok (.lstore 4, 2) := by decide +kernel
theorem dX11_loop_21 : decode cX11_loop 21 = .ok (.aload_n 0, 1) := by decide +kernel
theorem dX11_loop_22 : decode cX11_loop 22 = .ok (.dup, 1) := by decide +kernel
theorem dX11_loop_23 : decode cX11_loop 23 = .ok (.getfield 109, 3) := by decide +kernel
theorem dX11_loop_26 : decode cX11_loop 26 = .ok (.iconst 2, 1) := by decide +kernel
theorem dX11_loop_27 : decode cX11_loop 27 = .ok (.isub, 1) := by decide +kernel
theorem dX11_loop_28 : decode cX11_loop 28 = .ok (.putfield 109, 3) := by decide +kernel
theorem dX11_loop_31 : decode cX11_loop 31 = .ok (.lload 4, 2) := by decide +kernel
theorem dX11_loop_33 : decode cX11_loop 33 = .ok (.lload_n 2, 1) := by decide +kernel
theorem dX11_loop_34 : decode cX11_loop 34 = .ok (.lsub, 1) := by decide +kernel
theorem dX11_loop_35 : decode cX11_loop 35 = .ok (.ldc2_w 272, 3) := by decide +kernel
theorem dX11_loop_38 : decode cX11_loop 38 = .ok (.lcmp, 1) := by decide +kernel
theorem dX11_loop_39 : decode cX11_loop 39 = .ok (.ifCond .lt 21, 3) := by decide +kernel
theorem dX11_loop_42 : decode cX11_loop 42 = .ok (.aload_n 0, 1) := by decide +kernel
theorem dX11_loop_43 : decode cX11_loop 43 = .ok (.getfield 68, 3) := by decide +kernel
theorem dX11_loop_46 : decode cX11_loop 46 = .ok (.bipush 7, 2) := by decide +kernel
theorem dX11_loop_48 : decode cX11_loop 48 = .ok (.aload_n 0, 1) := by decide +kernel
theorem dX11_loop_49 : decode cX11_loop 49 = .ok (.getfield 64, 3) := by decide +kernel
theorem dX11_loop_52 : decode cX11_loop 52 = .ok (.getfield 206, 3) := by decide +kernel
theorem dX11_loop_55 : decode cX11_loop 55 = .ok (.iload_n 1, 1) := by decide +kernel
theorem dX11_loop_56 : decode cX11_loop 56 = .ok (.iaload, 1) := by decide +kernel
theorem dX11_loop_57 : decode cX11_loop 57 = .ok (.invokevirtual 157, 3) := by decide +kernel
theorem dX11_loop_60 : decode cX11_loop 60 = .ok (.aload_n 0, 1) := by decide +kernel
theorem dX11_loop_61 : decode cX11_loop 61 = .ok (.getfield 64, 3) := by decide +kernel
theorem dX11_loop_64 : decode cX11_loop 64 = .ok (.getfield 245, 3) := by decide +kernel
theorem dX11_loop_67 : decode cX11_loop 67 = .ok (.iload_n 1, 1) := by decide +kernel
theorem dX11_loop_68 : decode cX11_loop 68 = .ok (.iaload, 1) := by decide +kernel
theorem dX11_loop_69 : decode cX11_loop 69 = .ok (.istore 6, 2) := by decide +kernel
theorem dX11_loop_71 : decode cX11_loop 71 = .ok (.aload_n 0, 1) := by decide +kernel
theorem dX11_loop_72 : decode cX11_loop 72 = .ok (.getfield 41, 3) := by decide +kernel
theorem dX11_loop_75 : decode cX11_loop 75 = .ok (.iload 6, 2) := by decide +kernel
theorem dX11_loop_77 : decode cX11_loop 77 = .ok (.lload_n 2, 1) := by decide +kernel
theorem dX11_loop_78 : decode cX11_loop 78 = .ok (.lastore, 1) := by decide +kernel
theorem dX11_loop_79 : decode cX11_loop 79 = .ok (.aload_n 0, 1) := by decide +kernel
theorem dX11_loop_80 : decode cX11_loop 80 = .ok (.getfield 45, 3) := by decide +kernel
theorem dX11_loop_83 : decode cX11_loop 83 = .ok (.iload 6, 2) := by decide +kernel
theorem dX11_loop_85 : decode cX11_loop 85 = .ok (.lload 4, 2) := by decide +kernel
theorem dX11_loop_87 : decode cX11_loop 87 = .ok (.lastore, 1) := by decide +kernel
theorem dX11_loop_88 : decode cX11_loop 88 = .ok (.lload_n 2, 1) := by decide +kernel
theorem dX11_loop_89 : decode cX11_loop 89 = .ok (.lload 4, 2) := by decide +kernel
theorem dX11_loop_91 : decode cX11_loop 91 = .ok (.lcmp, 1) := by decide +kernel
theorem dX11_loop_92 : decode cX11_loop 92 = .ok (.ifCond .le 18, 3) := by decide +kernel
theorem dX11_loop_95 : decode cX11_loop 95 = .ok (.aload_n 0, 1) := by decide +kernel
theorem dX11_loop_96 : decode cX11_loop 96 = .ok (.aload_n 0, 1) := by decide +kernel
theorem dX11_loop_97 : decode cX11_loop 97 = .ok (.getfield 64, 3) := by decide +kernel
theorem dX11_loop_100 : decode cX11_loop 100 = .ok (.getfield 200, 3) := by decide +kernel
theorem dX11_loop_103 : decode cX11_loop 103 = .ok (.iload_n 1, 1) := by decide +kernel
theorem dX11_loop_104 : decode cX11_loop 104 = .ok (.iaload, 1) := by decide +kernel
theorem dX11_loop_105 : decode cX11_loop 105 = .ok (.iconst 1, 1) := by decide +kernel
theorem dX11_loop_106 : decode cX11_loop 106 = .ok (.iadd, 1) := by decide +kernel
theorem dX11_loop_107 : decode cX11_loop 107 = .ok (.putfield 136, 3) := by decide +kernel
theorem dX11_loop_110 : decode cX11_loop 110 = .ok (.return_, 1) := by decide +kernel
theorem dJ0_min_0 : decode cJ0_min 0 = .ok (.iload_n 0, 1) := by decide +kernel
theorem dJ0_min_1 : decode cJ0_min 1 = .ok (.iload_n 1, 1) := by decide +kernel
theorem dJ0_min_2 : decode cJ0_min 2 = .ok (.if_icmp .gt 7, 3) := by decide +kernel
theorem dJ0_min_5 : decode cJ0_min 5 = .ok (.iload_n 0, 1) := by decide +kernel
theorem dJ0_min_6 : decode cJ0_min 6 = .ok (.goto 4, 3) := by decide +kernel
theorem dJ0_min_9 : decode cJ0_min 9 = .ok (.iload_n 1, 1) := by decide +kernel
theorem dJ0_min_10 : decode cJ0_min 10 = .ok (.ireturn, 1) := by decide +kernel
theorem dJ0_max_0 : decode cJ0_max 0 = .ok (.iload_n 0, 1) := by decide +kernel
theorem dJ0_max_1 : decode cJ0_max 1 = .ok (.iload_n 1, 1) := by decide +kernel
theorem dJ0_max_2 : decode cJ0_max 2 = .ok (.if_icmp .lt 7, 3) := by decide +kernel
theorem dJ0_max_5 : decode cJ0_max 5 = .ok (.iload_n 0, 1) := by decide +kernel
theorem dJ0_max_6 : decode cJ0_max 6 = .ok (.goto 4, 3) := by decide +kernel
theorem dJ0_max_9 : decode cJ0_max 9 = .ok (.iload_n 1, 1) := by decide +kernel
theorem dJ0_max_10 : decode cJ0_max 10 = .ok (.ireturn, 1) := by decide +kernel
theorem dJ1_length_0 : decode cJ1_length 0 = .ok (.aload_n 0, 1) := by decide +kernel
theorem dJ1_length_1 : decode cJ1_length 1 = .ok (.getfield 9, 3) := by decide +kernel
theorem dJ1_length_4 : decode cJ1_length 4 = .ok (.arraylength, 1) := by decide +kernel
theorem dJ1_length_5 : decode cJ1_length 5 = .ok (.aload_n 0, 1) := by decide +kernel
theorem dJ1_length_6 : decode cJ1_length 6 = .ok (.invokevirtual 335, 3) := by decide +kernel
theorem dJ1_length_9 : decode cJ1_length 9 = .ok (.ishr, 1) := by decide +kernel
theorem dJ1_length_10 : decode cJ1_length 10 = .ok (.ireturn, 1) := by decide +kernel
theorem dJ1_coder_0 : decode cJ1_coder 0 = .ok (.getstatic 38, 3) := by decide +kernel
theorem dJ1_coder_3 : decode cJ1_coder 3 = .ok (.ifCond .eq 10, 3) := by decide +kernel
theorem dJ1_coder_6 : decode cJ1_coder 6 = .ok (.aload_n 0, 1) := by decide +kernel
theorem dJ1_coder_7 : decode cJ1_coder 7 = .ok (.getfield 15, 3) := by decide +kernel
theorem dJ1_coder_10 : decode cJ1_coder 10 = .ok (.goto 4, 3) := by decide +kernel
theorem dJ1_coder_13 : decode cJ1_coder 13 = .ok (.iconst 1, 1) := by decide +kernel
theorem dJ1_coder_14 : decode cJ1_coder 14 = .ok (.ireturn, 1) := by decide +kernel
theorem dJ1_charAt_0 : decode cJ1_charAt 0 = .ok (.aload_n 0, 1) := by decide +kernel
theorem dJ1_charAt_1 : decode cJ1_charAt 1 = .ok (.invokevirtual 492, 3) := by decide +kernel
theorem dJ1_charAt_4 : decode cJ1_charAt 4 = .ok (.ifCond .eq 12, 3) := by decide +kernel
theorem dJ1_charAt_7 : decode cJ1_charAt 7 = .ok (.aload_n 0, 1) := by decide +kernel
theorem dJ1_charAt_8 : decode cJ1_charAt 8 = .ok (.getfield 9, 3) := by decide +kernel
theorem dJ1_charAt_11 : decode cJ1_charAt 11 = .ok (.iload_n 1, 1) := by decide +kernel
theorem dJ1_charAt_12 : decode cJ1_charAt 12 = .ok (.invokestatic 495, 3) := by decide +kernel
theorem dJ1_charAt_15 : decode cJ1_charAt 15 = .ok (.ireturn, 1) := by decide +kernel
theorem dJ1_charAt_16 : decode cJ1_charAt 16 = .ok (.aload_n 0, 1) := by decide +kernel
theorem dJ1_charAt_17 : decode cJ1_charAt 17 = .ok (.getfield 9, 3) := by decide +kernel
theorem dJ1_charAt_20 : decode cJ1_charAt 20 = .ok (.iload_n 1, 1) := by decide +kernel
theorem dJ1_charAt_21 : decode cJ1_charAt 21 = .ok (.invokestatic 498, 3) := by decide +kernel
theorem dJ1_charAt_24 : decode cJ1_charAt 24 = .ok (.ireturn, 1) := by decide +kernel
theorem dJ1_isLatin1_0 : decode cJ1_isLatin1 0 = .ok (.getstatic 38, 3) := by decide +kernel
theorem dJ1_isLatin1_3 : decode cJ1_isLatin1 3 = .ok (.ifCond .eq 14, 3) := by decide +kernel
theorem dJ1_isLatin1_6 : decode cJ1_isLatin1 6 = .ok (.aload_n 0, 1) := by decide +kernel
theorem dJ1_isLatin1_7 : decode cJ1_isLatin1 7 = .ok (.getfield 15, 3) := by decide +kernel
theorem dJ1_isLatin1_10 : decode cJ1_isLatin1 10 = .ok (.ifCond .ne 7, 3) := by decide +kernel
theorem dJ1_isLatin1_13 : decode cJ1_isLatin1 13 = .ok (.iconst 1, 1) := by decide +kernel
theorem dJ1_isLatin1_14 : decode cJ1_isLatin1 14 = .ok (.goto 4, 3) := by decide +kernel
theorem dJ1_isLatin1_17 : decode cJ1_isLatin1 17 = .ok (.iconst 0, 1) := by decide +kernel
theorem dJ1_isLatin1_18 : decode cJ1_isLatin1 18 = .ok (.ireturn, 1) := by decide +kernel
theorem dJ1_checkIndex_0 : decode cJ1_checkIndex 0 = .ok (.iload_n 0, 1) := by decide +kernel
theorem dJ1_checkIndex_1 : decode cJ1_checkIndex 1 = .ok (.iload_n 1, 1) := by decide +kernel
theorem dJ1_checkIndex_2 : decode cJ1_checkIndex 2 = .ok (.getstatic 1053, 3) := by decide +kernel
theorem dJ1_checkIndex_5 : decode cJ1_checkIndex 5 = .ok (.invokestatic 1059, 3) := by decide +kernel
theorem dJ1_checkIndex_8 : decode cJ1_checkIndex 8 = .ok (.pop, 1) := by decide +kernel
theorem dJ1_checkIndex_9 : decode cJ1_checkIndex 9 = .ok (.return_, 1) := by decide +kernel
theorem dJ2_charAt_0 : decode cJ2_charAt 0 = .ok (.iload_n 1, 1) := by decide +kernel
theorem dJ2_charAt_1 : decode cJ2_charAt 1 = .ok (.aload_n 0, 1) := by decide +kernel
theorem dJ2_charAt_2 : decode cJ2_charAt 2 = .ok (.arraylength, 1) := by decide +kernel
theorem dJ2_charAt_3 : decode cJ2_charAt 3 = .ok (.invokestatic 9, 3) := by decide +kernel
theorem dJ2_charAt_6 : decode cJ2_charAt 6 = .ok (.aload_n 0, 1) := by decide +kernel
theorem dJ2_charAt_7 : decode cJ2_charAt 7 = .ok (.iload_n 1, 1) := by decide +kernel
theorem dJ2_charAt_8 : decode cJ2_charAt 8 = .ok (.baload, 1) := by decide +kernel
theorem dJ2_charAt_9 : decode cJ2_charAt 9 = .ok (.sipush 255, 3) := by decide +kernel
theorem dJ2_charAt_12 : decode cJ2_charAt 12 = .ok (.iand, 1) := by decide +kernel
theorem dJ2_charAt_13 : decode cJ2_charAt 13 = .ok (.i2c, 1) := by decide +kernel
theorem dJ2_charAt_14 : decode cJ2_charAt 14 = .ok (.ireturn, 1) := by decide +kernel
theorem dJ3_checkIndex_0 : decode cJ3_checkIndex 0 = .ok (.iload_n 0, 1) := by decide +kernel
theorem dJ3_checkIndex_1 : decode cJ3_checkIndex 1 = .ok (.ifCond .lt 8, 3) := by decide +kernel
theorem dJ3_checkIndex_4 : decode cJ3_checkIndex 4 = .ok (.iload_n 0, 1) := by decide +kernel
theorem dJ3_checkIndex_5 : decode cJ3_checkIndex 5 = .ok (.iload_n 1, 1) := by decide +kernel
theorem dJ3_checkIndex_6 : decode cJ3_checkIndex 6 = .ok (.if_icmp .lt 10, 3) := by decide +kernel
theorem dJ3_checkIndex_9 : decode cJ3_checkIndex 9 = .ok (.aload_n 2, 1) := by decide +kernel
theorem dJ3_checkIndex_10 : decode cJ3_checkIndex 10 = .ok (.iload_n 0, 1) := by decide +kernel
theorem dJ3_checkIndex_11 : decode cJ3_checkIndex 11 = .ok (.iload_n 1, 1) := by decide +kernel
theorem dJ3_checkIndex_12 : decode cJ3_checkIndex 12 = .ok (.invokestatic 95, 3) := by decide +kernel
theorem dJ3_checkIndex_15 : decode cJ3_checkIndex 15 = .ok (.athrow, 1) := by decide +kernel
theorem dJ3_checkIndex_16 : decode cJ3_checkIndex 16 = .ok (.iload_n 0, 1) := by decide +kernel
theorem dJ3_checkIndex_17 : decode cJ3_checkIndex 17 = .ok (.ireturn, 1) := by decide +kernel
theorem dJ5_ordinal_0 : decode cJ5_ordinal 0 = .ok (.aload_n 0, 1) := by decide +kernel
theorem dJ5_ordinal_1 : decode cJ5_ordinal 1 = .ok (.getfield 7, 3) := by decide +kernel
theorem dJ5_ordinal_4 : decode cJ5_ordinal 4 = .ok (.ireturn, 1) := by decide +kernel
theorem dJ6_bitCount_0 : decode cJ6_bitCount 0 = .ok (.iload_n 0, 1) := by decide +kernel
theorem dJ6_bitCount_1 : decode cJ6_bitCount 1 = .ok (.iload_n 0, 1) := by decide +kernel
theorem dJ6_bitCount_2 : decode cJ6_bitCount 2 = .ok (.iconst 1, 1) := by decide +kernel
theorem dJ6_bitCount_3 : decode cJ6_bitCount 3 = .ok (.iushr, 1) := by decide +kernel
theorem dJ6_bitCount_4 : decode cJ6_bitCount 4 = .ok (.ldc_w 265, 3) := by decide +kernel
theorem dJ6_bitCount_7 : decode cJ6_bitCount 7 = .ok (.iand, 1) := by decide +kernel
theorem dJ6_bitCount_8 : decode cJ6_bitCount 8 = .ok (.isub, 1) := by decide +kernel
theorem dJ6_bitCount_9 : decode cJ6_bitCount 9 = .ok (.istore_n 0, 1) := by decide +kernel
theorem dJ6_bitCount_10 : decode cJ6_bitCount 10 = .ok (.iload_n 0, 1) := by decide +kernel
theorem dJ6_bitCount_11 : decode cJ6_bitCount 11 = .ok (.ldc_w 266, 3) := by decide +kernel
theorem dJ6_bitCount_14 : decode cJ6_bitCount 14 = .ok (.iand, 1) := by decide +kernel
theorem dJ6_bitCount_15 : decode cJ6_bitCount 15 = .ok (.iload_n 0, 1) := by decide +kernel
theorem dJ6_bitCount_16 : decode cJ6_bitCount 16 = .ok (.iconst 2, 1) := by decide +kernel
theorem dJ6_bitCount_17 : decode cJ6_bitCount 17 = .ok (.iushr, 1) := by decide +kernel
theorem dJ6_bitCount_18 : decode cJ6_bitCount 18 = .ok (.ldc_w 266, 3) := by decide +kernel
theorem dJ6_bitCount_21 : decode cJ6_bitCount 21 = .ok (.iand, 1) := by decide +kernel
theorem dJ6_bitCount_22 : decode cJ6_bitCount 22 = .ok (.iadd, 1) := by decide +kernel
theorem dJ6_bitCount_23 : decode cJ6_bitCount 23 = .ok (.istore_n 0, 1) := by decide +kernel
theorem dJ6_bitCount_24 : decode cJ6_bitCount 24 = .ok (.iload_n 0, 1) := by decide +kernel
theorem dJ6_bitCount_25 : decode cJ6_bitCount 25 = .ok (.iload_n 0, 1) := by decide +kernel
theorem dJ6_bitCount_26 : decode cJ6_bitCount 26 = .ok (.iconst 4, 1) := by decide +kernel
theorem dJ6_bitCount_27 : decode cJ6_bitCount 27 = .ok (.iushr, 1) := by decide +kernel
theorem dJ6_bitCount_28 : decode cJ6_bitCount 28 = .ok (.iadd, 1) := by decide +kernel
theorem dJ6_bitCount_29 : decode cJ6_bitCount 29 = .ok (.ldc_w 267, 3) := by decide +kernel
theorem dJ6_bitCount_32 : decode cJ6_bitCount 32 = .ok (.iand, 1) := by decide +kernel
theorem dJ6_bitCount_33 : decode cJ6_bitCount 33 = .ok (.istore_n 0, 1) := by decide +kernel
theorem dJ6_bitCount_34 : decode cJ6_bitCount 34 = .ok (.iload_n 0, 1) := by decide +kernel
theorem dJ6_bitCount_35 : decode cJ6_bitCount 35 = .ok (.iload_n 0, 1) := by decide +kernel
theorem dJ6_bitCount_36 : decode cJ6_bitCount 36 = .ok (.bipush 8, 2) := by decide +kernel
theorem dJ6_bitCount_38 : decode cJ6_bitCount 38 = .ok (.iushr, 1) := by decide +kernel
theorem dJ6_bitCount_39 : decode cJ6_bitCount 39 = .ok (.iadd, 1) := by decide +kernel
theorem dJ6_bitCount_40 : decode cJ6_bitCount 40 = .ok (.istore_n 0, 1) := by decide +kernel
theorem dJ6_bitCount_41 : decode cJ6_bitCount 41 = .ok (.iload_n 0, 1) := by decide +kernel
theorem dJ6_bitCount_42 : decode cJ6_bitCount 42 = .ok (.iload_n 0, 1) := by decide +kernel
theorem dJ6_bitCount_43 : decode cJ6_bitCount 43 = .ok (.bipush 16, 2) := by decide +kernel
theorem dJ6_bitCount_45 : decode cJ6_bitCount 45 = .ok (.iushr, 1) := by decide +kernel
theorem dJ6_bitCount_46 : decode cJ6_bitCount 46 = .ok (.iadd, 1) := by decide +kernel
theorem dJ6_bitCount_47 : decode cJ6_bitCount 47 = .ok (.istore_n 0, 1) := by decide +kernel
theorem dJ6_bitCount_48 : decode cJ6_bitCount 48 = .ok (.iload_n 0, 1) := by decide +kernel
theorem dJ6_bitCount_49 : decode cJ6_bitCount 49 = .ok (.bipush 63, 2) := by decide +kernel
theorem dJ6_bitCount_51 : decode cJ6_bitCount 51 = .ok (.iand, 1) := by decide +kernel
theorem dJ6_bitCount_52 : decode cJ6_bitCount 52 = .ok (.ireturn, 1) := by decide +kernel
theorem dJ7_copyOf_0 : decode cJ7_copyOf 0 = .ok (.iload_n 1, 1) := by decide +kernel
theorem dJ7_copyOf_1 : decode cJ7_copyOf 1 = .ok (.aload_n 0, 1) := by decide +kernel
theorem dJ7_copyOf_2 : decode cJ7_copyOf 2 = .ok (.arraylength, 1) := by decide +kernel
theorem dJ7_copyOf_3 : decode cJ7_copyOf 3 = .ok (.if_icmp .ne 11, 3) := by decide +kernel
theorem dJ7_copyOf_6 : decode cJ7_copyOf 6 = .ok (.aload_n 0, 1) := by decide +kernel
theorem dJ7_copyOf_7 : decode cJ7_copyOf 7 = .ok (.invokevirtual 316, 3) := by decide +kernel
theorem dJ7_copyOf_10 : decode cJ7_copyOf 10 = .ok (.checkcast 317, 3) := by decide +kernel
theorem dJ7_copyOf_13 : decode cJ7_copyOf 13 = .ok (.areturn, 1) := by decide +kernel
theorem dJ7_copyOf_14 : decode cJ7_copyOf 14 = .ok (.iload_n 1, 1) := by decide +kernel
theorem dJ7_copyOf_15 : decode cJ7_copyOf 15 = .ok (.newarray .int, 2) := by decide +kernel
theorem dJ7_copyOf_17 : decode cJ7_copyOf 17 = .ok (.astore_n 2, 1) := by decide +kernel
theorem dJ7_copyOf_18 : decode cJ7_copyOf 18 = .ok (.aload_n 0, 1) := by decide +kernel
theorem dJ7_copyOf_19 : decode cJ7_copyOf 19 = .ok (.iconst 0, 1) := by decide +kernel
theorem dJ7_copyOf_20 : decode cJ7_copyOf 20 = .ok (.aload_n 2, 1) := by decide +kernel
theorem dJ7_copyOf_21 : decode cJ7_copyOf 21 = .ok (.iconst 0, 1) := by decide +kernel
theorem dJ7_copyOf_22 : decode cJ7_copyOf 22 = .ok (.aload_n 0, 1) := by decide +kernel
theorem dJ7_copyOf_23 : decode cJ7_copyOf 23 = .ok (.arraylength, 1) := by decide +kernel
theorem dJ7_copyOf_24 : decode cJ7_copyOf 24 = .ok (.iload_n 1, 1) := by decide +kernel
theorem dJ7_copyOf_25 : decode cJ7_copyOf 25 = .ok (.invokestatic 304, 3) := by decide +kernel
theorem dJ7_copyOf_28 : decode cJ7_copyOf 28 = .ok (.invokestatic 150, 3) := by decide +kernel
theorem dJ7_copyOf_31 : decode cJ7_copyOf 31 = .ok (.aload_n 2, 1) := by decide +kernel
theorem dJ7_copyOf_32 : decode cJ7_copyOf 32 = .ok (.areturn, 1) := by decide +kernel
