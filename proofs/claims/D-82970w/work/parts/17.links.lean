set_option maxRecDepth 100000
theorem fkX1_9 : FK RX1 9 0 2 true (tyX1 2) := ⟨cf0, _, rfl, by decide, Or.inl q849, rfl, by decide +kernel⟩
theorem fkX1_13 : FK RX1 13 0 3 true (tyX1 3) := ⟨cf0, _, rfl, by decide, Or.inl q850, rfl, by decide +kernel⟩
theorem fkX1_19 : FK RX1 19 0 5 true (tyX1 5) := ⟨cf0, _, rfl, by decide, Or.inl q852, rfl, by decide +kernel⟩
theorem fkX1_26 : FK RX1 26 0 6 true (tyX1 6) := ⟨cf0, _, rfl, by decide, Or.inl q853, rfl, by decide +kernel⟩
theorem fkX1_33 : FK RX1 33 0 7 true (tyX1 7) := ⟨cf0, _, rfl, by decide, Or.inl q854, rfl, by decide +kernel⟩
theorem fkX1_40 : FK RX1 40 0 8 true (tyX1 8) := ⟨cf0, _, rfl, by decide, Or.inl q855, rfl, by decide +kernel⟩
theorem fkX1_47 : FK RX1 47 0 14 true (tyX1 14) := ⟨cf0, _, rfl, by decide, Or.inl q861, rfl, by decide +kernel⟩
theorem fkX1_51 : FK RX1 51 0 15 true (tyX1 15) := ⟨cf0, _, rfl, by decide, Or.inl q862, rfl, by decide +kernel⟩
theorem fkX1_60 : FK RX1 60 0 16 true (tyX1 16) := ⟨cf0, _, rfl, by decide, Or.inl q863, rfl, by decide +kernel⟩
theorem fkX1_65 : FK RX1 65 0 17 true (tyX1 17) := ⟨cf0, _, rfl, by decide, Or.inl q864, rfl, by decide +kernel⟩
theorem fkX1_77 : FK RX1 77 0 0 true (tyX1 0) := ⟨cf0, _, rfl, by decide, Or.inl q847, rfl, by decide +kernel⟩
theorem fkX1_81 : FK RX1 81 0 1 true (tyX1 1) := ⟨cf0, _, rfl, by decide, Or.inl q848, rfl, by decide +kernel⟩
theorem fkX1_89 : FK RX1 89 0 9 true (tyX1 9) := ⟨cf0, _, rfl, by decide, Or.inl q856, rfl, by decide +kernel⟩
theorem fkX1_98 : FK RX1 98 0 10 true (tyX1 10) := ⟨cf0, _, rfl, by decide, Or.inl q857, rfl, by decide +kernel⟩
theorem fkX1_107 : FK RX1 107 0 11 true (tyX1 11) := ⟨cf0, _, rfl, by decide, Or.inl q858, rfl, by decide +kernel⟩
theorem fkX1_116 : FK RX1 116 0 12 true (tyX1 12) := ⟨cf0, _, rfl, by decide, Or.inl q859, rfl, by decide +kernel⟩
theorem fkX1_122 : FK RX1 122 0 13 true (tyX1 13) := ⟨cf0, _, rfl, by decide, Or.inl q860, rfl, by decide +kernel⟩
theorem fkX1_129 : FK RX1 129 0 20 true (tyX1 20) := ⟨cf0, _, rfl, by decide, Or.inl q867, rfl, by decide +kernel⟩
theorem fkX1_132 : FK RX1 132 0 21 true (tyX1 21) := ⟨cf0, _, rfl, by decide, Or.inl q868, rfl, by decide +kernel⟩
theorem fkX1_135 : FK RX1 135 0 22 true (tyX1 22) := ⟨cf0, _, rfl, by decide, Or.inl q869, rfl, by decide +kernel⟩
theorem fkX1_141 : FK RX1 141 0 4 false (tyX1 4) := ⟨cf0, _, rfl, by decide, Or.inl q851, rfl, by decide +kernel⟩
theorem fkX1_150 : FK RX1 150 0 18 false (tyX1 18) := ⟨cf0, _, rfl, by decide, Or.inl q865, rfl, by decide +kernel⟩
theorem fkX1_154 : FK RX1 154 0 19 false (tyX1 19) := ⟨cf0, _, rfl, by decide, Or.inl q866, rfl, by decide +kernel⟩
theorem fkX1_157 : FK RX1 157 0 23 false (tyX1 23) := ⟨cf0, _, rfl, by decide, Or.inl q870, rfl, by decide +kernel⟩
theorem fkX1_160 : FK RX1 160 0 24 false (tyX1 24) := ⟨cf0, _, rfl, by decide, Or.inl q871, rfl, by decide +kernel⟩
theorem fkX1_176 : FK RX1 176 8 11 false (tyX9 11) := ⟨cf8, _, rfl, by decide, Or.inr ⟨_, q518⟩, rfl, by decide +kernel⟩
theorem fkX1_182 : FK RX1 182 3 0 false (tyX4 0) := ⟨cf3, _, rfl, by decide, Or.inr ⟨_, q311⟩, rfl, by decide +kernel⟩
theorem fkX1_191 : FK RX1 191 4 4 false (tyX5 4) := ⟨cf4, _, rfl, by decide, Or.inr ⟨_, q341⟩, rfl, by decide +kernel⟩
theorem fkX1_194 : FK RX1 194 4 5 false (tyX5 5) := ⟨cf4, _, rfl, by decide, Or.inr ⟨_, q343⟩, rfl, by decide +kernel⟩
theorem fkX1_197 : FK RX1 197 4 7 false (tyX5 7) := ⟨cf4, _, rfl, by decide, Or.inr ⟨_, q351⟩, rfl, by decide +kernel⟩
theorem fkX1_200 : FK RX1 200 4 6 false (tyX5 6) := ⟨cf4, _, rfl, by decide, Or.inr ⟨_, q346⟩, rfl, by decide +kernel⟩
theorem fkX1_203 : FK RX1 203 10 13 false (tyX11 13) := ⟨cf10, _, rfl, by decide, Or.inr ⟨_, q631⟩, rfl, by decide +kernel⟩
theorem fkX1_206 : FK RX1 206 10 32 false (tyX11 32) := ⟨cf10, _, rfl, by decide, Or.inr ⟨_, q656⟩, rfl, by decide +kernel⟩
theorem fkX1_209 : FK RX1 209 10 8 false (tyX11 8) := ⟨cf10, _, rfl, by decide, Or.inr ⟨_, q618⟩, rfl, by decide +kernel⟩
theorem fkX1_212 : FK RX1 212 3 1 false (tyX4 1) := ⟨cf3, _, rfl, by decide, Or.inr ⟨_, q313⟩, rfl, by decide +kernel⟩
theorem fkX1_223 : FK RX1 223 5 2 false (tyX6 2) := ⟨cf5, _, rfl, by decide, Or.inr ⟨_, q395⟩, rfl, by decide +kernel⟩
theorem fkX1_224 : FK RX1 224 5 3 false (tyX6 3) := ⟨cf5, _, rfl, by decide, Or.inr ⟨_, q397⟩, rfl, by decide +kernel⟩
theorem fkX1_227 : FK RX1 227 4 3 true (tyX5 3) := ⟨cf4, _, rfl, by decide, Or.inr ⟨_, q337⟩, rfl, by decide +kernel⟩
theorem fkX1_231 : FK RX1 231 4 2 true (tyX5 2) := ⟨cf4, _, rfl, by decide, Or.inr ⟨_, q334⟩, rfl, by decide +kernel⟩
theorem fkX1_235 : FK RX1 235 4 0 true (tyX5 0) := ⟨cf4, _, rfl, by decide, Or.inr ⟨_, q328⟩, rfl, by decide +kernel⟩
theorem fkX1_238 : FK RX1 238 4 1 true (tyX5 1) := ⟨cf4, _, rfl, by decide, Or.inr ⟨_, q331⟩, rfl, by decide +kernel⟩
theorem fkX1_245 : FK RX1 245 10 31 true (tyX11 31) := ⟨cf10, _, rfl, by decide, Or.inr ⟨_, q653⟩, rfl, by decide +kernel⟩
theorem fkX1_248 : FK RX1 248 10 30 true (tyX11 30) := ⟨cf10, _, rfl, by decide, Or.inr ⟨_, q650⟩, rfl, by decide +kernel⟩
theorem fkX1_256 : FK RX1 256 10 12 true (tyX11 12) := ⟨cf10, _, rfl, by decide, Or.inr ⟨_, q628⟩, rfl, by decide +kernel⟩
theorem fkX1_259 : FK RX1 259 10 11 true (tyX11 11) := ⟨cf10, _, rfl, by decide, Or.inr ⟨_, q625⟩, rfl, by decide +kernel⟩
theorem fkX1_266 : FK RX1 266 10 10 true (tyX11 10) := ⟨cf10, _, rfl, by decide, Or.inr ⟨_, q622⟩, rfl, by decide +kernel⟩
theorem fkX1_275 : FK RX1 275 13 3 true (tyX14 3) := ⟨cf13, _, rfl, by decide, Or.inr ⟨_, q804⟩, rfl, by decide +kernel⟩
theorem fkX1_278 : FK RX1 278 13 4 true (tyX14 4) := ⟨cf13, _, rfl, by decide, Or.inr ⟨_, q806⟩, rfl, by decide +kernel⟩
theorem fkX1_281 : FK RX1 281 13 5 true (tyX14 5) := ⟨cf13, _, rfl, by decide, Or.inr ⟨_, q808⟩, rfl, by decide +kernel⟩
theorem fkX1_284 : FK RX1 284 13 6 true (tyX14 6) := ⟨cf13, _, rfl, by decide, Or.inr ⟨_, q810⟩, rfl, by decide +kernel⟩
theorem fkX1_299 : FK RX1 299 13 7 false (tyX14 7) := ⟨cf13, _, rfl, by decide, Or.inr ⟨_, q812⟩, rfl, by decide +kernel⟩
theorem fkX1_316 : FK RX1 316 13 1 true (tyX14 1) := ⟨cf13, _, rfl, by decide, Or.inr ⟨_, q800⟩, rfl, by decide +kernel⟩
theorem fkX1_326 : FK RX1 326 13 8 false (tyX14 8) := ⟨cf13, _, rfl, by decide, Or.inr ⟨_, q814⟩, rfl, by decide +kernel⟩
theorem fkX1_335 : FK RX1 335 13 2 true (tyX14 2) := ⟨cf13, _, rfl, by decide, Or.inr ⟨_, q802⟩, rfl, by decide +kernel⟩
theorem fkX7_7 : FK RX7 7 6 0 true (tyX7 0) := ⟨cf6, _, rfl, by decide, Or.inl q387, rfl, by decide +kernel⟩
theorem fkX11_9 : FK RX11 9 10 10 true (tyX11 10) := ⟨cf10, _, rfl, by decide, Or.inl q620, rfl, by decide +kernel⟩
theorem fkX11_15 : FK RX11 15 10 11 true (tyX11 11) := ⟨cf10, _, rfl, by decide, Or.inl q623, rfl, by decide +kernel⟩
theorem fkX11_18 : FK RX11 18 10 12 true (tyX11 12) := ⟨cf10, _, rfl, by decide, Or.inl q626, rfl, by decide +kernel⟩
theorem fkX11_21 : FK RX11 21 10 16 true (tyX11 16) := ⟨cf10, _, rfl, by decide, Or.inl q634, rfl, by decide +kernel⟩
theorem fkX11_24 : FK RX11 24 10 17 true (tyX11 17) := ⟨cf10, _, rfl, by decide, Or.inl q635, rfl, by decide +kernel⟩
theorem fkX11_27 : FK RX11 27 10 18 true (tyX11 18) := ⟨cf10, _, rfl, by decide, Or.inl q636, rfl, by decide +kernel⟩
theorem fkX11_30 : FK RX11 30 10 19 true (tyX11 19) := ⟨cf10, _, rfl, by decide, Or.inl q637, rfl, by decide +kernel⟩
theorem fkX11_34 : FK RX11 34 10 20 true (tyX11 20) := ⟨cf10, _, rfl, by decide, Or.inl q638, rfl, by decide +kernel⟩
theorem fkX11_38 : FK RX11 38 10 21 true (tyX11 21) := ⟨cf10, _, rfl, by decide, Or.inl q639, rfl, by decide +kernel⟩
theorem fkX11_41 : FK RX11 41 10 23 true (tyX11 23) := ⟨cf10, _, rfl, by decide, Or.inl q641, rfl, by decide +kernel⟩
theorem fkX11_45 : FK RX11 45 10 24 true (tyX11 24) := ⟨cf10, _, rfl, by decide, Or.inl q642, rfl, by decide +kernel⟩
theorem fkX11_48 : FK RX11 48 10 25 true (tyX11 25) := ⟨cf10, _, rfl, by decide, Or.inl q643, rfl, by decide +kernel⟩
theorem fkX11_51 : FK RX11 51 10 26 true (tyX11 26) := ⟨cf10, _, rfl, by decide, Or.inl q644, rfl, by decide +kernel⟩
theorem fkX11_54 : FK RX11 54 10 27 true (tyX11 27) := ⟨cf10, _, rfl, by decide, Or.inl q645, rfl, by decide +kernel⟩
theorem fkX11_57 : FK RX11 57 10 31 true (tyX11 31) := ⟨cf10, _, rfl, by decide, Or.inl q651, rfl, by decide +kernel⟩
theorem fkX11_60 : FK RX11 60 10 0 true (tyX11 0) := ⟨cf10, _, rfl, by decide, Or.inl q608, rfl, by decide +kernel⟩
theorem fkX11_64 : FK RX11 64 10 1 true (tyX11 1) := ⟨cf10, _, rfl, by decide, Or.inl q610, rfl, by decide +kernel⟩
theorem fkX11_68 : FK RX11 68 10 2 true (tyX11 2) := ⟨cf10, _, rfl, by decide, Or.inl q611, rfl, by decide +kernel⟩
theorem fkX11_72 : FK RX11 72 10 3 true (tyX11 3) := ⟨cf10, _, rfl, by decide, Or.inl q612, rfl, by decide +kernel⟩
theorem fkX11_81 : FK RX11 81 10 4 true (tyX11 4) := ⟨cf10, _, rfl, by decide, Or.inl q613, rfl, by decide +kernel⟩
theorem fkX11_85 : FK RX11 85 10 5 true (tyX11 5) := ⟨cf10, _, rfl, by decide, Or.inl q614, rfl, by decide +kernel⟩
theorem fkX11_88 : FK RX11 88 10 15 true (tyX11 15) := ⟨cf10, _, rfl, by decide, Or.inl q633, rfl, by decide +kernel⟩
theorem fkX11_91 : FK RX11 91 10 30 true (tyX11 30) := ⟨cf10, _, rfl, by decide, Or.inl q648, rfl, by decide +kernel⟩
theorem fkX11_94 : FK RX11 94 10 33 true (tyX11 33) := ⟨cf10, _, rfl, by decide, Or.inl q657, rfl, by decide +kernel⟩
theorem fkX11_97 : FK RX11 97 10 34 true (tyX11 34) := ⟨cf10, _, rfl, by decide, Or.inl q658, rfl, by decide +kernel⟩
theorem fkX11_100 : FK RX11 100 10 35 true (tyX11 35) := ⟨cf10, _, rfl, by decide, Or.inl q659, rfl, by decide +kernel⟩
theorem fkX11_109 : FK RX11 109 10 6 false (tyX11 6) := ⟨cf10, _, rfl, by decide, Or.inl q615, rfl, by decide +kernel⟩
theorem fkX11_112 : FK RX11 112 10 8 false (tyX11 8) := ⟨cf10, _, rfl, by decide, Or.inl q617, rfl, by decide +kernel⟩
theorem fkX11_115 : FK RX11 115 10 9 false (tyX11 9) := ⟨cf10, _, rfl, by decide, Or.inl q619, rfl, by decide +kernel⟩
theorem fkX11_118 : FK RX11 118 10 13 false (tyX11 13) := ⟨cf10, _, rfl, by decide, Or.inl q629, rfl, by decide +kernel⟩
theorem fkX11_121 : FK RX11 121 10 14 false (tyX11 14) := ⟨cf10, _, rfl, by decide, Or.inl q632, rfl, by decide +kernel⟩
theorem fkX11_124 : FK RX11 124 10 22 false (tyX11 22) := ⟨cf10, _, rfl, by decide, Or.inl q640, rfl, by decide +kernel⟩
theorem fkX11_127 : FK RX11 127 10 28 false (tyX11 28) := ⟨cf10, _, rfl, by decide, Or.inl q646, rfl, by decide +kernel⟩
theorem fkX11_130 : FK RX11 130 10 29 false (tyX11 29) := ⟨cf10, _, rfl, by decide, Or.inl q647, rfl, by decide +kernel⟩
theorem fkX11_133 : FK RX11 133 10 32 false (tyX11 32) := ⟨cf10, _, rfl, by decide, Or.inl q654, rfl, by decide +kernel⟩
theorem fkX11_136 : FK RX11 136 10 7 false (tyX11 7) := ⟨cf10, _, rfl, by decide, Or.inl q616, rfl, by decide +kernel⟩
theorem fkX11_139 : FK RX11 139 1 4 false (tyX2 4) := ⟨cf1, _, rfl, by decide, Or.inr ⟨_, q267⟩, rfl, by decide +kernel⟩
theorem fkX11_153 : FK RX11 153 4 8 false (tyX5 8) := ⟨cf4, _, rfl, by decide, Or.inr ⟨_, q353⟩, rfl, by decide +kernel⟩
theorem fkX11_172 : FK RX11 172 1 0 true (tyX2 0) := ⟨cf1, _, rfl, by decide, Or.inr ⟨_, q255⟩, rfl, by decide +kernel⟩
theorem fkX11_200 : FK RX11 200 1 3 true (tyX2 3) := ⟨cf1, _, rfl, by decide, Or.inr ⟨_, q264⟩, rfl, by decide +kernel⟩
theorem fkX11_206 : FK RX11 206 1 2 true (tyX2 2) := ⟨cf1, _, rfl, by decide, Or.inr ⟨_, q261⟩, rfl, by decide +kernel⟩
theorem fkX11_245 : FK RX11 245 1 1 true (tyX2 1) := ⟨cf1, _, rfl, by decide, Or.inr ⟨_, q258⟩, rfl, by decide +kernel⟩
theorem fkX9_12 : FK RX9 12 8 2 true (tyX9 2) := ⟨cf8, _, rfl, by decide, Or.inl q509, rfl, by decide +kernel⟩
theorem fkX9_18 : FK RX9 18 8 3 true (tyX9 3) := ⟨cf8, _, rfl, by decide, Or.inl q510, rfl, by decide +kernel⟩
theorem fkX9_22 : FK RX9 22 8 4 true (tyX9 4) := ⟨cf8, _, rfl, by decide, Or.inl q511, rfl, by decide +kernel⟩
theorem fkX9_25 : FK RX9 25 8 5 true (tyX9 5) := ⟨cf8, _, rfl, by decide, Or.inl q512, rfl, by decide +kernel⟩
theorem fkX9_29 : FK RX9 29 8 7 true (tyX9 7) := ⟨cf8, _, rfl, by decide, Or.inl q514, rfl, by decide +kernel⟩
theorem fkX9_32 : FK RX9 32 8 14 true (tyX9 14) := ⟨cf8, _, rfl, by decide, Or.inl q522, rfl, by decide +kernel⟩
theorem fkX9_35 : FK RX9 35 8 15 true (tyX9 15) := ⟨cf8, _, rfl, by decide, Or.inl q523, rfl, by decide +kernel⟩
theorem fkX9_38 : FK RX9 38 8 16 true (tyX9 16) := ⟨cf8, _, rfl, by decide, Or.inl q524, rfl, by decide +kernel⟩
theorem fkX9_41 : FK RX9 41 8 17 true (tyX9 17) := ⟨cf8, _, rfl, by decide, Or.inl q525, rfl, by decide +kernel⟩
theorem fkX9_44 : FK RX9 44 8 20 true (tyX9 20) := ⟨cf8, _, rfl, by decide, Or.inl q528, rfl, by decide +kernel⟩
theorem fkX9_48 : FK RX9 48 8 0 true (tyX9 0) := ⟨cf8, _, rfl, by decide, Or.inl q507, rfl, by decide +kernel⟩
theorem fkX9_52 : FK RX9 52 8 1 true (tyX9 1) := ⟨cf8, _, rfl, by decide, Or.inl q508, rfl, by decide +kernel⟩
theorem fkX9_56 : FK RX9 56 8 6 false (tyX9 6) := ⟨cf8, _, rfl, by decide, Or.inl q513, rfl, by decide +kernel⟩
theorem fkX9_65 : FK RX9 65 8 13 false (tyX9 13) := ⟨cf8, _, rfl, by decide, Or.inl q521, rfl, by decide +kernel⟩
theorem fkX9_72 : FK RX9 72 9 5 false (tyX10 5) := ⟨cf9, _, rfl, by decide, Or.inr ⟨_, q493⟩, rfl, by decide +kernel⟩
theorem fkX9_75 : FK RX9 75 8 8 false (tyX9 8) := ⟨cf8, _, rfl, by decide, Or.inl q515, rfl, by decide +kernel⟩
theorem fkX9_78 : FK RX9 78 8 9 false (tyX9 9) := ⟨cf8, _, rfl, by decide, Or.inl q516, rfl, by decide +kernel⟩
theorem fkX9_81 : FK RX9 81 8 10 false (tyX9 10) := ⟨cf8, _, rfl, by decide, Or.inl q517, rfl, by decide +kernel⟩
theorem fkX9_84 : FK RX9 84 8 11 false (tyX9 11) := ⟨cf8, _, rfl, by decide, Or.inl q519, rfl, by decide +kernel⟩
theorem fkX9_87 : FK RX9 87 8 12 false (tyX9 12) := ⟨cf8, _, rfl, by decide, Or.inl q520, rfl, by decide +kernel⟩
theorem fkX9_90 : FK RX9 90 8 18 false (tyX9 18) := ⟨cf8, _, rfl, by decide, Or.inl q526, rfl, by decide +kernel⟩
theorem fkX9_93 : FK RX9 93 8 19 false (tyX9 19) := ⟨cf8, _, rfl, by decide, Or.inl q527, rfl, by decide +kernel⟩
theorem fkX9_96 : FK RX9 96 1 4 false (tyX2 4) := ⟨cf1, _, rfl, by decide, Or.inr ⟨_, q268⟩, rfl, by decide +kernel⟩
theorem fkX9_107 : FK RX9 107 1 0 true (tyX2 0) := ⟨cf1, _, rfl, by decide, Or.inr ⟨_, q254⟩, rfl, by decide +kernel⟩
theorem fkX9_133 : FK RX9 133 1 1 true (tyX2 1) := ⟨cf1, _, rfl, by decide, Or.inr ⟨_, q257⟩, rfl, by decide +kernel⟩
theorem fkX9_136 : FK RX9 136 1 2 true (tyX2 2) := ⟨cf1, _, rfl, by decide, Or.inr ⟨_, q260⟩, rfl, by decide +kernel⟩
theorem fkX9_143 : FK RX9 143 1 3 true (tyX2 3) := ⟨cf1, _, rfl, by decide, Or.inr ⟨_, q263⟩, rfl, by decide +kernel⟩
theorem fkX9_186 : FK RX9 186 9 1 true (tyX10 1) := ⟨cf9, _, rfl, by decide, Or.inr ⟨_, q485⟩, rfl, by decide +kernel⟩
theorem fkX9_189 : FK RX9 189 9 3 true (tyX10 3) := ⟨cf9, _, rfl, by decide, Or.inr ⟨_, q489⟩, rfl, by decide +kernel⟩
theorem fkX9_192 : FK RX9 192 9 2 true (tyX10 2) := ⟨cf9, _, rfl, by decide, Or.inr ⟨_, q487⟩, rfl, by decide +kernel⟩
theorem fkX9_193 : FK RX9 193 9 4 true (tyX10 4) := ⟨cf9, _, rfl, by decide, Or.inr ⟨_, q491⟩, rfl, by decide +kernel⟩
theorem fkX5_10 : FK RX5 10 4 0 true (tyX5 0) := ⟨cf4, _, rfl, by decide, Or.inl q326, rfl, by decide +kernel⟩
theorem fkX5_16 : FK RX5 16 4 1 true (tyX5 1) := ⟨cf4, _, rfl, by decide, Or.inl q329, rfl, by decide +kernel⟩
theorem fkX5_19 : FK RX5 19 4 2 true (tyX5 2) := ⟨cf4, _, rfl, by decide, Or.inl q332, rfl, by decide +kernel⟩
theorem fkX5_23 : FK RX5 23 4 3 true (tyX5 3) := ⟨cf4, _, rfl, by decide, Or.inl q335, rfl, by decide +kernel⟩
theorem fkX5_27 : FK RX5 27 4 4 false (tyX5 4) := ⟨cf4, _, rfl, by decide, Or.inl q339, rfl, by decide +kernel⟩
theorem fkX5_31 : FK RX5 31 4 5 false (tyX5 5) := ⟨cf4, _, rfl, by decide, Or.inl q342, rfl, by decide +kernel⟩
theorem fkX5_34 : FK RX5 34 4 7 false (tyX5 7) := ⟨cf4, _, rfl, by decide, Or.inl q348, rfl, by decide +kernel⟩
theorem fkX5_37 : FK RX5 37 4 6 false (tyX5 6) := ⟨cf4, _, rfl, by decide, Or.inl q345, rfl, by decide +kernel⟩
theorem fkX5_40 : FK RX5 40 4 8 false (tyX5 8) := ⟨cf4, _, rfl, by decide, Or.inl q352, rfl, by decide +kernel⟩
theorem fkX2_11 : FK RX2 11 1 0 true (tyX2 0) := ⟨cf1, _, rfl, by decide, Or.inl q253, rfl, by decide +kernel⟩
theorem fkX2_17 : FK RX2 17 1 1 true (tyX2 1) := ⟨cf1, _, rfl, by decide, Or.inl q256, rfl, by decide +kernel⟩
theorem fkX2_21 : FK RX2 21 1 2 true (tyX2 2) := ⟨cf1, _, rfl, by decide, Or.inl q259, rfl, by decide +kernel⟩
theorem fkX2_24 : FK RX2 24 1 3 true (tyX2 3) := ⟨cf1, _, rfl, by decide, Or.inl q262, rfl, by decide +kernel⟩
theorem fkX2_27 : FK RX2 27 1 4 false (tyX2 4) := ⟨cf1, _, rfl, by decide, Or.inl q266, rfl, by decide +kernel⟩
theorem fkX6_14 : FK RX6 14 5 0 true (tyX6 0) := ⟨cf5, _, rfl, by decide, Or.inl q392, rfl, by decide +kernel⟩
theorem fkX6_20 : FK RX6 20 5 3 false (tyX6 3) := ⟨cf5, _, rfl, by decide, Or.inl q396, rfl, by decide +kernel⟩
theorem fkX6_24 : FK RX6 24 5 2 false (tyX6 2) := ⟨cf5, _, rfl, by decide, Or.inl q394, rfl, by decide +kernel⟩
theorem fkX6_27 : FK RX6 27 5 1 false (tyX6 1) := ⟨cf5, _, rfl, by decide, Or.inl q393, rfl, by decide +kernel⟩
theorem fkX4_9 : FK RX4 9 3 0 false (tyX4 0) := ⟨cf3, _, rfl, by decide, Or.inl q310, rfl, by decide +kernel⟩
theorem fkX4_15 : FK RX4 15 3 1 false (tyX4 1) := ⟨cf3, _, rfl, by decide, Or.inl q312, rfl, by decide +kernel⟩
theorem fkX3_9 : FK RX3 9 2 0 true (tyX3 0) := ⟨cf2, _, rfl, by decide, Or.inl q288, rfl, by decide +kernel⟩
theorem fkX3_15 : FK RX3 15 2 1 true (tyX3 1) := ⟨cf2, _, rfl, by decide, Or.inl q289, rfl, by decide +kernel⟩
theorem fkX3_19 : FK RX3 19 2 2 true (tyX3 2) := ⟨cf2, _, rfl, by decide, Or.inl q290, rfl, by decide +kernel⟩
theorem fkX3_22 : FK RX3 22 2 3 false (tyX3 3) := ⟨cf2, _, rfl, by decide, Or.inl q291, rfl, by decide +kernel⟩
theorem fkX3_26 : FK RX3 26 2 4 false (tyX3 4) := ⟨cf2, _, rfl, by decide, Or.inl q292, rfl, by decide +kernel⟩
theorem fkX14_15 : FK RX14 15 13 2 true (tyX14 2) := ⟨cf13, _, rfl, by decide, Or.inl q801, rfl, by decide +kernel⟩
theorem fkX14_21 : FK RX14 21 13 3 true (tyX14 3) := ⟨cf13, _, rfl, by decide, Or.inl q803, rfl, by decide +kernel⟩
theorem fkX14_25 : FK RX14 25 13 4 true (tyX14 4) := ⟨cf13, _, rfl, by decide, Or.inl q805, rfl, by decide +kernel⟩
theorem fkX14_28 : FK RX14 28 13 5 true (tyX14 5) := ⟨cf13, _, rfl, by decide, Or.inl q807, rfl, by decide +kernel⟩
theorem fkX14_31 : FK RX14 31 13 6 true (tyX14 6) := ⟨cf13, _, rfl, by decide, Or.inl q809, rfl, by decide +kernel⟩
theorem fkX14_34 : FK RX14 34 13 11 false (tyX14 11) := ⟨cf13, _, rfl, by decide, Or.inl q817, rfl, by decide +kernel⟩
theorem fkX14_38 : FK RX14 38 13 0 true (tyX14 0) := ⟨cf13, _, rfl, by decide, Or.inl q798, rfl, by decide +kernel⟩
theorem fkX14_42 : FK RX14 42 13 1 true (tyX14 1) := ⟨cf13, _, rfl, by decide, Or.inl q799, rfl, by decide +kernel⟩
theorem fkX14_46 : FK RX14 46 13 7 false (tyX14 7) := ⟨cf13, _, rfl, by decide, Or.inl q811, rfl, by decide +kernel⟩
theorem fkX14_49 : FK RX14 49 13 8 false (tyX14 8) := ⟨cf13, _, rfl, by decide, Or.inl q813, rfl, by decide +kernel⟩
theorem fkX14_52 : FK RX14 52 13 9 false (tyX14 9) := ⟨cf13, _, rfl, by decide, Or.inl q815, rfl, by decide +kernel⟩
theorem fkX14_55 : FK RX14 55 13 10 false (tyX14 10) := ⟨cf13, _, rfl, by decide, Or.inl q816, rfl, by decide +kernel⟩
theorem fkX14_58 : FK RX14 58 12 0 true (tyX13 0) := ⟨cf12, _, rfl, by decide, Or.inr ⟨_, q741⟩, rfl, by decide +kernel⟩
theorem fkX14_64 : FK RX14 64 4 7 false (tyX5 7) := ⟨cf4, _, rfl, by decide, Or.inr ⟨_, q350⟩, rfl, by decide +kernel⟩
theorem fkX14_77 : FK RX14 77 12 11 true (tyX13 11) := ⟨cf12, _, rfl, by decide, Or.inr ⟨_, q758⟩, rfl, by decide +kernel⟩
theorem fkX14_83 : FK RX14 83 12 4 true (tyX13 4) := ⟨cf12, _, rfl, by decide, Or.inr ⟨_, q748⟩, rfl, by decide +kernel⟩
theorem fkX14_86 : FK RX14 86 12 6 true (tyX13 6) := ⟨cf12, _, rfl, by decide, Or.inr ⟨_, q752⟩, rfl, by decide +kernel⟩
theorem fkX14_89 : FK RX14 89 4 0 true (tyX5 0) := ⟨cf4, _, rfl, by decide, Or.inr ⟨_, q327⟩, rfl, by decide +kernel⟩
theorem fkX14_92 : FK RX14 92 4 1 true (tyX5 1) := ⟨cf4, _, rfl, by decide, Or.inr ⟨_, q330⟩, rfl, by decide +kernel⟩
theorem fkX14_101 : FK RX14 101 12 2 true (tyX13 2) := ⟨cf12, _, rfl, by decide, Or.inr ⟨_, q744⟩, rfl, by decide +kernel⟩
theorem fkX14_112 : FK RX14 112 4 6 false (tyX5 6) := ⟨cf4, _, rfl, by decide, Or.inr ⟨_, q347⟩, rfl, by decide +kernel⟩
theorem fkX14_119 : FK RX14 119 12 5 true (tyX13 5) := ⟨cf12, _, rfl, by decide, Or.inr ⟨_, q750⟩, rfl, by decide +kernel⟩
theorem fkX14_122 : FK RX14 122 12 3 true (tyX13 3) := ⟨cf12, _, rfl, by decide, Or.inr ⟨_, q746⟩, rfl, by decide +kernel⟩
theorem fkX14_125 : FK RX14 125 4 3 true (tyX5 3) := ⟨cf4, _, rfl, by decide, Or.inr ⟨_, q338⟩, rfl, by decide +kernel⟩
theorem fkX14_143 : FK RX14 143 4 5 false (tyX5 5) := ⟨cf4, _, rfl, by decide, Or.inr ⟨_, q344⟩, rfl, by decide +kernel⟩
theorem fkX13_10 : FK RX13 10 12 3 true (tyX13 3) := ⟨cf12, _, rfl, by decide, Or.inl q745, rfl, by decide +kernel⟩
theorem fkX13_16 : FK RX13 16 12 4 true (tyX13 4) := ⟨cf12, _, rfl, by decide, Or.inl q747, rfl, by decide +kernel⟩
theorem fkX13_19 : FK RX13 19 12 5 true (tyX13 5) := ⟨cf12, _, rfl, by decide, Or.inl q749, rfl, by decide +kernel⟩
theorem fkX13_22 : FK RX13 22 12 6 true (tyX13 6) := ⟨cf12, _, rfl, by decide, Or.inl q751, rfl, by decide +kernel⟩
theorem fkX13_25 : FK RX13 25 12 7 true (tyX13 7) := ⟨cf12, _, rfl, by decide, Or.inl q753, rfl, by decide +kernel⟩
theorem fkX13_28 : FK RX13 28 12 8 true (tyX13 8) := ⟨cf12, _, rfl, by decide, Or.inl q754, rfl, by decide +kernel⟩
theorem fkX13_31 : FK RX13 31 12 2 true (tyX13 2) := ⟨cf12, _, rfl, by decide, Or.inl q743, rfl, by decide +kernel⟩
theorem fkX13_35 : FK RX13 35 12 0 true (tyX13 0) := ⟨cf12, _, rfl, by decide, Or.inl q740, rfl, by decide +kernel⟩
theorem fkX13_39 : FK RX13 39 12 1 true (tyX13 1) := ⟨cf12, _, rfl, by decide, Or.inl q742, rfl, by decide +kernel⟩
theorem fkX13_43 : FK RX13 43 12 9 true (tyX13 9) := ⟨cf12, _, rfl, by decide, Or.inl q755, rfl, by decide +kernel⟩
theorem fkX13_46 : FK RX13 46 12 10 true (tyX13 10) := ⟨cf12, _, rfl, by decide, Or.inl q756, rfl, by decide +kernel⟩
theorem fkX13_49 : FK RX13 49 12 11 true (tyX13 11) := ⟨cf12, _, rfl, by decide, Or.inl q757, rfl, by decide +kernel⟩
theorem fkX13_55 : FK RX13 55 10 13 false (tyX11 13) := ⟨cf10, _, rfl, by decide, Or.inr ⟨_, q630⟩, rfl, by decide +kernel⟩
theorem fkX13_60 : FK RX13 60 10 11 true (tyX11 11) := ⟨cf10, _, rfl, by decide, Or.inr ⟨_, q624⟩, rfl, by decide +kernel⟩
theorem fkX13_63 : FK RX13 63 10 12 true (tyX11 12) := ⟨cf10, _, rfl, by decide, Or.inr ⟨_, q627⟩, rfl, by decide +kernel⟩
theorem fkX13_66 : FK RX13 66 10 10 true (tyX11 10) := ⟨cf10, _, rfl, by decide, Or.inr ⟨_, q621⟩, rfl, by decide +kernel⟩
theorem fkX13_69 : FK RX13 69 12 12 false (tyX13 12) := ⟨cf12, _, rfl, by decide, Or.inl q759, rfl, by decide +kernel⟩
theorem fkX13_72 : FK RX13 72 10 32 false (tyX11 32) := ⟨cf10, _, rfl, by decide, Or.inr ⟨_, q655⟩, rfl, by decide +kernel⟩
theorem fkX13_75 : FK RX13 75 10 31 true (tyX11 31) := ⟨cf10, _, rfl, by decide, Or.inr ⟨_, q652⟩, rfl, by decide +kernel⟩
theorem fkX13_78 : FK RX13 78 10 30 true (tyX11 30) := ⟨cf10, _, rfl, by decide, Or.inr ⟨_, q649⟩, rfl, by decide +kernel⟩
theorem fkX13_81 : FK RX13 81 10 0 true (tyX11 0) := ⟨cf10, _, rfl, by decide, Or.inr ⟨_, q609⟩, rfl, by decide +kernel⟩
theorem fkX13_84 : FK RX13 84 4 7 false (tyX5 7) := ⟨cf4, _, rfl, by decide, Or.inr ⟨_, q349⟩, rfl, by decide +kernel⟩
theorem fkX13_89 : FK RX13 89 4 4 false (tyX5 4) := ⟨cf4, _, rfl, by decide, Or.inr ⟨_, q340⟩, rfl, by decide +kernel⟩
theorem fkX13_91 : FK RX13 91 4 2 true (tyX5 2) := ⟨cf4, _, rfl, by decide, Or.inr ⟨_, q333⟩, rfl, by decide +kernel⟩
theorem fkX13_95 : FK RX13 95 4 3 true (tyX5 3) := ⟨cf4, _, rfl, by decide, Or.inr ⟨_, q336⟩, rfl, by decide +kernel⟩
theorem fkX8_9 : FK RX8 9 7 0 true (tyX8 0) := ⟨cf7, _, rfl, by decide, Or.inl q422, rfl, by decide +kernel⟩
theorem fkX8_15 : FK RX8 15 7 6 true (tyX8 6) := ⟨cf7, _, rfl, by decide, Or.inl q428, rfl, by decide +kernel⟩
theorem fkX8_19 : FK RX8 19 7 7 true (tyX8 7) := ⟨cf7, _, rfl, by decide, Or.inl q429, rfl, by decide +kernel⟩
theorem fkX8_23 : FK RX8 23 7 8 true (tyX8 8) := ⟨cf7, _, rfl, by decide, Or.inl q430, rfl, by decide +kernel⟩
theorem fkX8_27 : FK RX8 27 7 9 true (tyX8 9) := ⟨cf7, _, rfl, by decide, Or.inl q431, rfl, by decide +kernel⟩
theorem fkX8_31 : FK RX8 31 7 2 false (tyX8 2) := ⟨cf7, _, rfl, by decide, Or.inl q424, rfl, by decide +kernel⟩
theorem fkX8_34 : FK RX8 34 7 1 false (tyX8 1) := ⟨cf7, _, rfl, by decide, Or.inl q423, rfl, by decide +kernel⟩
theorem fkX8_114 : FK RX8 114 7 10 false (tyX8 10) := ⟨cf7, _, rfl, by decide, Or.inl q432, rfl, by decide +kernel⟩
theorem fkX8_130 : FK RX8 130 7 3 false (tyX8 3) := ⟨cf7, _, rfl, by decide, Or.inl q425, rfl, by decide +kernel⟩
theorem fkX8_139 : FK RX8 139 7 4 false (tyX8 4) := ⟨cf7, _, rfl, by decide, Or.inl q426, rfl, by decide +kernel⟩
theorem fkX8_142 : FK RX8 142 7 5 false (tyX8 5) := ⟨cf7, _, rfl, by decide, Or.inl q427, rfl, by decide +kernel⟩
theorem fkX8_172 : FK RX8 172 7 11 false (tyX8 11) := ⟨cf7, _, rfl, by decide, Or.inl q433, rfl, by decide +kernel⟩
theorem fkX8_174 : FK RX8 174 7 12 false (tyX8 12) := ⟨cf7, _, rfl, by decide, Or.inl q434, rfl, by decide +kernel⟩
theorem fkX8_217 : FK RX8 217 1 3 true (tyX2 3) := ⟨cf1, _, rfl, by decide, Or.inr ⟨_, q265⟩, rfl, by decide +kernel⟩
theorem fkX8_305 : FK RX8 305 7 13 false (tyX8 13) := ⟨cf7, _, rfl, by decide, Or.inl q435, rfl, by decide +kernel⟩
theorem fkX8_308 : FK RX8 308 7 14 false (tyX8 14) := ⟨cf7, _, rfl, by decide, Or.inl q436, rfl, by decide +kernel⟩
theorem fkX8_311 : FK RX8 311 7 15 false (tyX8 15) := ⟨cf7, _, rfl, by decide, Or.inl q437, rfl, by decide +kernel⟩
theorem fkX10_9 : FK RX10 9 9 0 true (tyX10 0) := ⟨cf9, _, rfl, by decide, Or.inl q483, rfl, by decide +kernel⟩
theorem fkX10_15 : FK RX10 15 9 1 true (tyX10 1) := ⟨cf9, _, rfl, by decide, Or.inl q484, rfl, by decide +kernel⟩
theorem fkX10_18 : FK RX10 18 9 2 true (tyX10 2) := ⟨cf9, _, rfl, by decide, Or.inl q486, rfl, by decide +kernel⟩
theorem fkX10_21 : FK RX10 21 9 3 true (tyX10 3) := ⟨cf9, _, rfl, by decide, Or.inl q488, rfl, by decide +kernel⟩
theorem fkX10_24 : FK RX10 24 9 4 true (tyX10 4) := ⟨cf9, _, rfl, by decide, Or.inl q490, rfl, by decide +kernel⟩
theorem fkX10_27 : FK RX10 27 9 5 false (tyX10 5) := ⟨cf9, _, rfl, by decide, Or.inl q492, rfl, by decide +kernel⟩
theorem fkX12_7 : FK RX12 7 11 2 true (tyX12 2) := ⟨cf11, _, rfl, by decide, Or.inl q588, rfl, by decide +kernel⟩
theorem fkX12_13 : FK RX12 13 11 3 true (tyX12 3) := ⟨cf11, _, rfl, by decide, Or.inl q589, rfl, by decide +kernel⟩
theorem fkX12_16 : FK RX12 16 11 4 true (tyX12 4) := ⟨cf11, _, rfl, by decide, Or.inl q590, rfl, by decide +kernel⟩
theorem fkX12_19 : FK RX12 19 11 5 true (tyX12 5) := ⟨cf11, _, rfl, by decide, Or.inl q591, rfl, by decide +kernel⟩
theorem fkX12_25 : FK RX12 25 11 0 true (tyX12 0) := ⟨cf11, _, rfl, by decide, Or.inl q586, rfl, by decide +kernel⟩
theorem fkX12_29 : FK RX12 29 11 1 true (tyX12 1) := ⟨cf11, _, rfl, by decide, Or.inl q587, rfl, by decide +kernel⟩
theorem fkX15_7 : FK RX15 7 14 3 true (tyX15 3) := ⟨cf14, _, rfl, by decide, Or.inl q1847, rfl, by decide +kernel⟩
theorem fkX15_13 : FK RX15 13 14 4 true (tyX15 4) := ⟨cf14, _, rfl, by decide, Or.inl q1848, rfl, by decide +kernel⟩
theorem fkX15_16 : FK RX15 16 14 10 true (tyX15 10) := ⟨cf14, _, rfl, by decide, Or.inl q1854, rfl, by decide +kernel⟩
theorem fkX15_19 : FK RX15 19 14 11 true (tyX15 11) := ⟨cf14, _, rfl, by decide, Or.inl q1855, rfl, by decide +kernel⟩
theorem fkX15_22 : FK RX15 22 14 14 true (tyX15 14) := ⟨cf14, _, rfl, by decide, Or.inl q1858, rfl, by decide +kernel⟩
theorem fkX15_25 : FK RX15 25 14 15 true (tyX15 15) := ⟨cf14, _, rfl, by decide, Or.inl q1859, rfl, by decide +kernel⟩
theorem fkX15_28 : FK RX15 28 14 16 true (tyX15 16) := ⟨cf14, _, rfl, by decide, Or.inl q1860, rfl, by decide +kernel⟩
theorem fkX15_31 : FK RX15 31 14 17 true (tyX15 17) := ⟨cf14, _, rfl, by decide, Or.inl q1861, rfl, by decide +kernel⟩
theorem fkX15_34 : FK RX15 34 14 18 true (tyX15 18) := ⟨cf14, _, rfl, by decide, Or.inl q1862, rfl, by decide +kernel⟩
theorem fkX15_38 : FK RX15 38 14 21 true (tyX15 21) := ⟨cf14, _, rfl, by decide, Or.inl q1865, rfl, by decide +kernel⟩
theorem fkX15_41 : FK RX15 41 14 22 true (tyX15 22) := ⟨cf14, _, rfl, by decide, Or.inl q1866, rfl, by decide +kernel⟩
theorem fkX15_44 : FK RX15 44 14 23 true (tyX15 23) := ⟨cf14, _, rfl, by decide, Or.inl q1867, rfl, by decide +kernel⟩
theorem fkX15_47 : FK RX15 47 14 24 true (tyX15 24) := ⟨cf14, _, rfl, by decide, Or.inl q1868, rfl, by decide +kernel⟩
theorem fkX15_50 : FK RX15 50 14 27 true (tyX15 27) := ⟨cf14, _, rfl, by decide, Or.inl q1871, rfl, by decide +kernel⟩
theorem fkX15_53 : FK RX15 53 14 28 true (tyX15 28) := ⟨cf14, _, rfl, by decide, Or.inl q1872, rfl, by decide +kernel⟩
theorem fkX15_56 : FK RX15 56 14 33 true (tyX15 33) := ⟨cf14, _, rfl, by decide, Or.inl q1877, rfl, by decide +kernel⟩
theorem fkX15_59 : FK RX15 59 14 35 true (tyX15 35) := ⟨cf14, _, rfl, by decide, Or.inl q1879, rfl, by decide +kernel⟩
theorem fkX15_62 : FK RX15 62 14 36 true (tyX15 36) := ⟨cf14, _, rfl, by decide, Or.inl q1880, rfl, by decide +kernel⟩
theorem fkX15_65 : FK RX15 65 14 37 true (tyX15 37) := ⟨cf14, _, rfl, by decide, Or.inl q1881, rfl, by decide +kernel⟩
theorem fkX15_68 : FK RX15 68 14 38 true (tyX15 38) := ⟨cf14, _, rfl, by decide, Or.inl q1882, rfl, by decide +kernel⟩
theorem fkX15_71 : FK RX15 71 14 39 true (tyX15 39) := ⟨cf14, _, rfl, by decide, Or.inl q1883, rfl, by decide +kernel⟩
theorem fkX15_74 : FK RX15 74 14 40 true (tyX15 40) := ⟨cf14, _, rfl, by decide, Or.inl q1884, rfl, by decide +kernel⟩
theorem fkX15_78 : FK RX15 78 14 41 true (tyX15 41) := ⟨cf14, _, rfl, by decide, Or.inl q1885, rfl, by decide +kernel⟩
theorem fkX15_81 : FK RX15 81 14 42 true (tyX15 42) := ⟨cf14, _, rfl, by decide, Or.inl q1886, rfl, by decide +kernel⟩
theorem fkX15_84 : FK RX15 84 14 44 true (tyX15 44) := ⟨cf14, _, rfl, by decide, Or.inl q1888, rfl, by decide +kernel⟩
theorem fkX15_87 : FK RX15 87 14 45 true (tyX15 45) := ⟨cf14, _, rfl, by decide, Or.inl q1889, rfl, by decide +kernel⟩
theorem fkX15_90 : FK RX15 90 14 46 true (tyX15 46) := ⟨cf14, _, rfl, by decide, Or.inl q1890, rfl, by decide +kernel⟩
theorem fkX15_93 : FK RX15 93 14 48 true (tyX15 48) := ⟨cf14, _, rfl, by decide, Or.inl q1892, rfl, by decide +kernel⟩
theorem fkX15_96 : FK RX15 96 14 50 true (tyX15 50) := ⟨cf14, _, rfl, by decide, Or.inl q1894, rfl, by decide +kernel⟩
theorem fkX15_99 : FK RX15 99 14 51 true (tyX15 51) := ⟨cf14, _, rfl, by decide, Or.inl q1895, rfl, by decide +kernel⟩
theorem fkX15_102 : FK RX15 102 14 52 true (tyX15 52) := ⟨cf14, _, rfl, by decide, Or.inl q1896, rfl, by decide +kernel⟩
theorem fkX15_105 : FK RX15 105 14 53 true (tyX15 53) := ⟨cf14, _, rfl, by decide, Or.inl q1897, rfl, by decide +kernel⟩
theorem fkX15_108 : FK RX15 108 14 54 true (tyX15 54) := ⟨cf14, _, rfl, by decide, Or.inl q1898, rfl, by decide +kernel⟩
theorem fkX15_111 : FK RX15 111 14 55 true (tyX15 55) := ⟨cf14, _, rfl, by decide, Or.inl q1899, rfl, by decide +kernel⟩
theorem fkX15_114 : FK RX15 114 14 57 true (tyX15 57) := ⟨cf14, _, rfl, by decide, Or.inl q1901, rfl, by decide +kernel⟩
theorem fkX15_117 : FK RX15 117 14 58 true (tyX15 58) := ⟨cf14, _, rfl, by decide, Or.inl q1902, rfl, by decide +kernel⟩
theorem fkX15_120 : FK RX15 120 14 64 true (tyX15 64) := ⟨cf14, _, rfl, by decide, Or.inl q1908, rfl, by decide +kernel⟩
theorem fkX15_124 : FK RX15 124 14 71 true (tyX15 71) := ⟨cf14, _, rfl, by decide, Or.inl q1915, rfl, by decide +kernel⟩
theorem fkX15_127 : FK RX15 127 14 72 true (tyX15 72) := ⟨cf14, _, rfl, by decide, Or.inl q1916, rfl, by decide +kernel⟩
theorem fkX15_130 : FK RX15 130 14 73 true (tyX15 73) := ⟨cf14, _, rfl, by decide, Or.inl q1917, rfl, by decide +kernel⟩
theorem fkX15_133 : FK RX15 133 14 74 true (tyX15 74) := ⟨cf14, _, rfl, by decide, Or.inl q1918, rfl, by decide +kernel⟩
theorem fkX15_136 : FK RX15 136 14 76 true (tyX15 76) := ⟨cf14, _, rfl, by decide, Or.inl q1920, rfl, by decide +kernel⟩
theorem fkX15_139 : FK RX15 139 14 77 true (tyX15 77) := ⟨cf14, _, rfl, by decide, Or.inl q1921, rfl, by decide +kernel⟩
theorem fkX15_142 : FK RX15 142 14 78 true (tyX15 78) := ⟨cf14, _, rfl, by decide, Or.inl q1922, rfl, by decide +kernel⟩
theorem fkX15_145 : FK RX15 145 14 79 true (tyX15 79) := ⟨cf14, _, rfl, by decide, Or.inl q1923, rfl, by decide +kernel⟩
theorem fkX15_148 : FK RX15 148 14 80 true (tyX15 80) := ⟨cf14, _, rfl, by decide, Or.inl q1924, rfl, by decide +kernel⟩
theorem fkX15_151 : FK RX15 151 14 81 true (tyX15 81) := ⟨cf14, _, rfl, by decide, Or.inl q1925, rfl, by decide +kernel⟩
theorem fkX15_154 : FK RX15 154 14 82 true (tyX15 82) := ⟨cf14, _, rfl, by decide, Or.inl q1926, rfl, by decide +kernel⟩
theorem fkX15_158 : FK RX15 158 14 84 true (tyX15 84) := ⟨cf14, _, rfl, by decide, Or.inl q1928, rfl, by decide +kernel⟩
theorem fkX15_161 : FK RX15 161 14 86 true (tyX15 86) := ⟨cf14, _, rfl, by decide, Or.inl q1930, rfl, by decide +kernel⟩
theorem fkX15_164 : FK RX15 164 14 87 true (tyX15 87) := ⟨cf14, _, rfl, by decide, Or.inl q1931, rfl, by decide +kernel⟩
theorem fkX15_167 : FK RX15 167 14 88 true (tyX15 88) := ⟨cf14, _, rfl, by decide, Or.inl q1932, rfl, by decide +kernel⟩
theorem fkX15_170 : FK RX15 170 14 89 true (tyX15 89) := ⟨cf14, _, rfl, by decide, Or.inl q1933, rfl, by decide +kernel⟩
theorem fkX15_173 : FK RX15 173 14 90 true (tyX15 90) := ⟨cf14, _, rfl, by decide, Or.inl q1934, rfl, by decide +kernel⟩
theorem fkX15_176 : FK RX15 176 14 91 true (tyX15 91) := ⟨cf14, _, rfl, by decide, Or.inl q1935, rfl, by decide +kernel⟩
theorem fkX15_179 : FK RX15 179 14 92 true (tyX15 92) := ⟨cf14, _, rfl, by decide, Or.inl q1936, rfl, by decide +kernel⟩
theorem fkX15_182 : FK RX15 182 14 93 true (tyX15 93) := ⟨cf14, _, rfl, by decide, Or.inl q1937, rfl, by decide +kernel⟩
theorem fkX15_185 : FK RX15 185 14 95 true (tyX15 95) := ⟨cf14, _, rfl, by decide, Or.inl q1939, rfl, by decide +kernel⟩
theorem fkX15_188 : FK RX15 188 14 96 true (tyX15 96) := ⟨cf14, _, rfl, by decide, Or.inl q1940, rfl, by decide +kernel⟩
theorem fkX15_191 : FK RX15 191 14 98 true (tyX15 98) := ⟨cf14, _, rfl, by decide, Or.inl q1942, rfl, by decide +kernel⟩
theorem fkX15_194 : FK RX15 194 14 99 true (tyX15 99) := ⟨cf14, _, rfl, by decide, Or.inl q1943, rfl, by decide +kernel⟩
theorem fkX15_197 : FK RX15 197 14 100 true (tyX15 100) := ⟨cf14, _, rfl, by decide, Or.inl q1944, rfl, by decide +kernel⟩
theorem fkX15_200 : FK RX15 200 14 102 true (tyX15 102) := ⟨cf14, _, rfl, by decide, Or.inl q1946, rfl, by decide +kernel⟩
theorem fkX15_203 : FK RX15 203 14 103 true (tyX15 103) := ⟨cf14, _, rfl, by decide, Or.inl q1947, rfl, by decide +kernel⟩
theorem fkX15_206 : FK RX15 206 14 104 true (tyX15 104) := ⟨cf14, _, rfl, by decide, Or.inl q1948, rfl, by decide +kernel⟩
theorem fkX15_210 : FK RX15 210 14 105 true (tyX15 105) := ⟨cf14, _, rfl, by decide, Or.inl q1949, rfl, by decide +kernel⟩
theorem fkX15_213 : FK RX15 213 14 106 true (tyX15 106) := ⟨cf14, _, rfl, by decide, Or.inl q1950, rfl, by decide +kernel⟩
theorem fkX15_216 : FK RX15 216 14 107 true (tyX15 107) := ⟨cf14, _, rfl, by decide, Or.inl q1951, rfl, by decide +kernel⟩
theorem fkX15_219 : FK RX15 219 14 108 true (tyX15 108) := ⟨cf14, _, rfl, by decide, Or.inl q1952, rfl, by decide +kernel⟩
theorem fkX15_222 : FK RX15 222 14 109 true (tyX15 109) := ⟨cf14, _, rfl, by decide, Or.inl q1953, rfl, by decide +kernel⟩
theorem fkX15_225 : FK RX15 225 14 111 true (tyX15 111) := ⟨cf14, _, rfl, by decide, Or.inl q1955, rfl, by decide +kernel⟩
theorem fkX15_228 : FK RX15 228 14 112 true (tyX15 112) := ⟨cf14, _, rfl, by decide, Or.inl q1956, rfl, by decide +kernel⟩
theorem fkX15_231 : FK RX15 231 14 113 true (tyX15 113) := ⟨cf14, _, rfl, by decide, Or.inl q1957, rfl, by decide +kernel⟩
theorem fkX15_234 : FK RX15 234 14 114 true (tyX15 114) := ⟨cf14, _, rfl, by decide, Or.inl q1958, rfl, by decide +kernel⟩
theorem fkX15_237 : FK RX15 237 14 116 true (tyX15 116) := ⟨cf14, _, rfl, by decide, Or.inl q1960, rfl, by decide +kernel⟩
theorem fkX15_240 : FK RX15 240 14 117 true (tyX15 117) := ⟨cf14, _, rfl, by decide, Or.inl q1961, rfl, by decide +kernel⟩
theorem fkX15_243 : FK RX15 243 14 123 true (tyX15 123) := ⟨cf14, _, rfl, by decide, Or.inl q1967, rfl, by decide +kernel⟩
theorem fkX15_247 : FK RX15 247 14 125 true (tyX15 125) := ⟨cf14, _, rfl, by decide, Or.inl q1969, rfl, by decide +kernel⟩
theorem fkX15_250 : FK RX15 250 14 126 true (tyX15 126) := ⟨cf14, _, rfl, by decide, Or.inl q1970, rfl, by decide +kernel⟩
theorem fkX15_253 : FK RX15 253 14 127 true (tyX15 127) := ⟨cf14, _, rfl, by decide, Or.inl q1971, rfl, by decide +kernel⟩
theorem fkX15_256 : FK RX15 256 14 128 true (tyX15 128) := ⟨cf14, _, rfl, by decide, Or.inl q1972, rfl, by decide +kernel⟩
theorem fkX15_259 : FK RX15 259 14 129 true (tyX15 129) := ⟨cf14, _, rfl, by decide, Or.inl q1973, rfl, by decide +kernel⟩
theorem fkX15_262 : FK RX15 262 14 130 true (tyX15 130) := ⟨cf14, _, rfl, by decide, Or.inl q1974, rfl, by decide +kernel⟩
theorem fkX15_265 : FK RX15 265 14 132 true (tyX15 132) := ⟨cf14, _, rfl, by decide, Or.inl q1976, rfl, by decide +kernel⟩
theorem fkX15_268 : FK RX15 268 14 133 true (tyX15 133) := ⟨cf14, _, rfl, by decide, Or.inl q1977, rfl, by decide +kernel⟩
theorem fkX15_271 : FK RX15 271 14 134 true (tyX15 134) := ⟨cf14, _, rfl, by decide, Or.inl q1978, rfl, by decide +kernel⟩
theorem fkX15_274 : FK RX15 274 14 135 true (tyX15 135) := ⟨cf14, _, rfl, by decide, Or.inl q1979, rfl, by decide +kernel⟩
theorem fkX15_277 : FK RX15 277 14 136 true (tyX15 136) := ⟨cf14, _, rfl, by decide, Or.inl q1980, rfl, by decide +kernel⟩
theorem fkX15_281 : FK RX15 281 14 137 true (tyX15 137) := ⟨cf14, _, rfl, by decide, Or.inl q1981, rfl, by decide +kernel⟩
theorem fkX15_284 : FK RX15 284 14 138 true (tyX15 138) := ⟨cf14, _, rfl, by decide, Or.inl q1982, rfl, by decide +kernel⟩
theorem fkX15_287 : FK RX15 287 14 141 true (tyX15 141) := ⟨cf14, _, rfl, by decide, Or.inl q1985, rfl, by decide +kernel⟩
theorem fkX15_290 : FK RX15 290 14 142 true (tyX15 142) := ⟨cf14, _, rfl, by decide, Or.inl q1986, rfl, by decide +kernel⟩
theorem fkX15_293 : FK RX15 293 14 143 true (tyX15 143) := ⟨cf14, _, rfl, by decide, Or.inl q1987, rfl, by decide +kernel⟩
theorem fkX15_296 : FK RX15 296 14 144 true (tyX15 144) := ⟨cf14, _, rfl, by decide, Or.inl q1988, rfl, by decide +kernel⟩
theorem fkX15_299 : FK RX15 299 14 0 true (tyX15 0) := ⟨cf14, _, rfl, by decide, Or.inl q1844, rfl, by decide +kernel⟩
theorem fkX15_303 : FK RX15 303 14 1 true (tyX15 1) := ⟨cf14, _, rfl, by decide, Or.inl q1845, rfl, by decide +kernel⟩
theorem fkX15_306 : FK RX15 306 14 2 true (tyX15 2) := ⟨cf14, _, rfl, by decide, Or.inl q1846, rfl, by decide +kernel⟩
theorem fkX15_310 : FK RX15 310 14 120 false (tyX15 120) := ⟨cf14, _, rfl, by decide, Or.inl q1964, rfl, by decide +kernel⟩
theorem fkX15_313 : FK RX15 313 14 8 false (tyX15 8) := ⟨cf14, _, rfl, by decide, Or.inl q1852, rfl, by decide +kernel⟩
theorem fkX15_320 : FK RX15 320 14 5 false (tyX15 5) := ⟨cf14, _, rfl, by decide, Or.inl q1849, rfl, by decide +kernel⟩
theorem fkX15_323 : FK RX15 323 14 7 false (tyX15 7) := ⟨cf14, _, rfl, by decide, Or.inl q1851, rfl, by decide +kernel⟩
theorem fkX15_326 : FK RX15 326 14 6 false (tyX15 6) := ⟨cf14, _, rfl, by decide, Or.inl q1850, rfl, by decide +kernel⟩
theorem fkX15_393 : FK RX15 393 14 9 false (tyX15 9) := ⟨cf14, _, rfl, by decide, Or.inl q1853, rfl, by decide +kernel⟩
theorem fkX15_396 : FK RX15 396 14 12 false (tyX15 12) := ⟨cf14, _, rfl, by decide, Or.inl q1856, rfl, by decide +kernel⟩
theorem fkX15_411 : FK RX15 411 14 13 false (tyX15 13) := ⟨cf14, _, rfl, by decide, Or.inl q1857, rfl, by decide +kernel⟩
theorem fkX15_414 : FK RX15 414 14 19 false (tyX15 19) := ⟨cf14, _, rfl, by decide, Or.inl q1863, rfl, by decide +kernel⟩
theorem fkX15_417 : FK RX15 417 14 20 false (tyX15 20) := ⟨cf14, _, rfl, by decide, Or.inl q1864, rfl, by decide +kernel⟩
theorem fkX15_463 : FK RX15 463 14 25 false (tyX15 25) := ⟨cf14, _, rfl, by decide, Or.inl q1869, rfl, by decide +kernel⟩
theorem fkX15_470 : FK RX15 470 14 32 false (tyX15 32) := ⟨cf14, _, rfl, by decide, Or.inl q1876, rfl, by decide +kernel⟩
theorem fkX15_476 : FK RX15 476 14 31 false (tyX15 31) := ⟨cf14, _, rfl, by decide, Or.inl q1875, rfl, by decide +kernel⟩
theorem fkX15_488 : FK RX15 488 14 29 false (tyX15 29) := ⟨cf14, _, rfl, by decide, Or.inl q1873, rfl, by decide +kernel⟩
theorem fkX15_493 : FK RX15 493 14 30 false (tyX15 30) := ⟨cf14, _, rfl, by decide, Or.inl q1874, rfl, by decide +kernel⟩
theorem fkX15_501 : FK RX15 501 14 26 false (tyX15 26) := ⟨cf14, _, rfl, by decide, Or.inl q1870, rfl, by decide +kernel⟩
theorem fkX15_534 : FK RX15 534 14 34 false (tyX15 34) := ⟨cf14, _, rfl, by decide, Or.inl q1878, rfl, by decide +kernel⟩
theorem fkX15_537 : FK RX15 537 14 47 false (tyX15 47) := ⟨cf14, _, rfl, by decide, Or.inl q1891, rfl, by decide +kernel⟩
theorem fkX15_540 : FK RX15 540 14 43 false (tyX15 43) := ⟨cf14, _, rfl, by decide, Or.inl q1887, rfl, by decide +kernel⟩
theorem fkX15_546 : FK RX15 546 14 49 false (tyX15 49) := ⟨cf14, _, rfl, by decide, Or.inl q1893, rfl, by decide +kernel⟩
theorem fkX15_549 : FK RX15 549 14 56 false (tyX15 56) := ⟨cf14, _, rfl, by decide, Or.inl q1900, rfl, by decide +kernel⟩
theorem fkX15_552 : FK RX15 552 14 60 false (tyX15 60) := ⟨cf14, _, rfl, by decide, Or.inl q1904, rfl, by decide +kernel⟩
theorem fkX15_555 : FK RX15 555 14 59 false (tyX15 59) := ⟨cf14, _, rfl, by decide, Or.inl q1903, rfl, by decide +kernel⟩
theorem fkX15_595 : FK RX15 595 14 61 false (tyX15 61) := ⟨cf14, _, rfl, by decide, Or.inl q1905, rfl, by decide +kernel⟩
theorem fkX15_598 : FK RX15 598 14 62 false (tyX15 62) := ⟨cf14, _, rfl, by decide, Or.inl q1906, rfl, by decide +kernel⟩
theorem fkX15_601 : FK RX15 601 14 63 false (tyX15 63) := ⟨cf14, _, rfl, by decide, Or.inl q1907, rfl, by decide +kernel⟩
theorem fkX15_618 : FK RX15 618 14 65 false (tyX15 65) := ⟨cf14, _, rfl, by decide, Or.inl q1909, rfl, by decide +kernel⟩
theorem fkX15_621 : FK RX15 621 14 94 false (tyX15 94) := ⟨cf14, _, rfl, by decide, Or.inl q1938, rfl, by decide +kernel⟩
theorem fkX15_624 : FK RX15 624 14 66 false (tyX15 66) := ⟨cf14, _, rfl, by decide, Or.inl q1910, rfl, by decide +kernel⟩
theorem fkX15_630 : FK RX15 630 14 67 false (tyX15 67) := ⟨cf14, _, rfl, by decide, Or.inl q1911, rfl, by decide +kernel⟩
theorem fkX15_633 : FK RX15 633 14 68 false (tyX15 68) := ⟨cf14, _, rfl, by decide, Or.inl q1912, rfl, by decide +kernel⟩
theorem fkX15_649 : FK RX15 649 14 85 false (tyX15 85) := ⟨cf14, _, rfl, by decide, Or.inl q1929, rfl, by decide +kernel⟩
theorem fkX15_659 : FK RX15 659 14 70 false (tyX15 70) := ⟨cf14, _, rfl, by decide, Or.inl q1914, rfl, by decide +kernel⟩
theorem fkX15_663 : FK RX15 663 14 75 false (tyX15 75) := ⟨cf14, _, rfl, by decide, Or.inl q1919, rfl, by decide +kernel⟩
theorem fkX15_672 : FK RX15 672 14 69 false (tyX15 69) := ⟨cf14, _, rfl, by decide, Or.inl q1913, rfl, by decide +kernel⟩
theorem fkX15_675 : FK RX15 675 14 97 false (tyX15 97) := ⟨cf14, _, rfl, by decide, Or.inl q1941, rfl, by decide +kernel⟩
theorem fkX15_678 : FK RX15 678 14 101 false (tyX15 101) := ⟨cf14, _, rfl, by decide, Or.inl q1945, rfl, by decide +kernel⟩
theorem fkX15_681 : FK RX15 681 14 110 false (tyX15 110) := ⟨cf14, _, rfl, by decide, Or.inl q1954, rfl, by decide +kernel⟩
theorem fkX15_762 : FK RX15 762 14 124 false (tyX15 124) := ⟨cf14, _, rfl, by decide, Or.inl q1968, rfl, by decide +kernel⟩
theorem fkX15_765 : FK RX15 765 14 115 false (tyX15 115) := ⟨cf14, _, rfl, by decide, Or.inl q1959, rfl, by decide +kernel⟩
theorem fkX15_768 : FK RX15 768 14 118 false (tyX15 118) := ⟨cf14, _, rfl, by decide, Or.inl q1962, rfl, by decide +kernel⟩
theorem fkX15_777 : FK RX15 777 14 119 false (tyX15 119) := ⟨cf14, _, rfl, by decide, Or.inl q1963, rfl, by decide +kernel⟩
theorem fkX15_797 : FK RX15 797 14 121 false (tyX15 121) := ⟨cf14, _, rfl, by decide, Or.inl q1965, rfl, by decide +kernel⟩
theorem fkX15_800 : FK RX15 800 14 122 false (tyX15 122) := ⟨cf14, _, rfl, by decide, Or.inl q1966, rfl, by decide +kernel⟩
theorem fkX15_818 : FK RX15 818 14 139 false (tyX15 139) := ⟨cf14, _, rfl, by decide, Or.inl q1983, rfl, by decide +kernel⟩
theorem fkX15_821 : FK RX15 821 14 131 false (tyX15 131) := ⟨cf14, _, rfl, by decide, Or.inl q1975, rfl, by decide +kernel⟩
theorem fkX15_824 : FK RX15 824 14 145 false (tyX15 145) := ⟨cf14, _, rfl, by decide, Or.inl q1989, rfl, by decide +kernel⟩
theorem fkX15_830 : FK RX15 830 14 140 false (tyX15 140) := ⟨cf14, _, rfl, by decide, Or.inl q1984, rfl, by decide +kernel⟩
theorem fkX15_848 : FK RX15 848 14 83 false (tyX15 83) := ⟨cf14, _, rfl, by decide, Or.inl q1927, rfl, by decide +kernel⟩
theorem lkX1_138 : LKm RX1 138 yX4_clear := Or.inl q843
theorem lkX1_163 : LKm RX1 163 yX3_clear := Or.inl q938
theorem lkX1_164 : LKm RX1 164 yX2_clear := Or.inl q942
theorem lkX1_165 : LKm RX1 165 yX8_read := Or.inl q946
theorem lkX1_169 : LKm RX1 169 yX4_is := Or.inl q1306
theorem lkX1_173 : LKm RX1 173 yX9_check := Or.inl q1307
theorem lkX1_179 : LKm RX1 179 yX11_build := Or.inl q1423
theorem lkX1_185 : LKm RX1 185 yX13_make := Or.inl q1616
theorem lkX1_188 : LKm RX1 188 yX14_isDone := Or.inr ⟨_, q1636⟩
theorem lkX1_215 : LKm RX1 215 yX1_circuitLook := Or.inl q1628
theorem lkX1_219 : LKm RX1 219 yX1_done := Or.inl q1632
theorem lkX1_241 : LKm RX1 241 yX1_isOutput := Or.inl q1648
theorem lkX1_251 : LKm RX1 251 yX1_isInput := Or.inl q1656
theorem lkX1_262 : LKm RX1 262 yX6_add := Or.inl q1673
theorem lkX1_268 : LKm RX1 268 yX7_set := Or.inl q1690
theorem lkX1_272 : LKm RX1 272 yX6_draw := Or.inl q1691
theorem lkX1_287 : LKm RX1 287 yX1_cutInputs := Or.inl q1686
theorem lkX1_290 : LKm RX1 290 yX1_cutTriple := Or.inl q1700
theorem lkX1_293 : LKm RX1 293 yX14_begin := Or.inl q1704
theorem lkX1_296 : LKm RX1 296 yX1_send := Or.inl q1708
theorem lkX1_302 : LKm RX1 302 yX13_length := Or.inl q1716
theorem lkX1_305 : LKm RX1 305 yX14_bit := Or.inl q1724
theorem lkX1_309 : LKm RX1 309 yX14_take := Or.inl q1741
theorem lkX1_312 : LKm RX1 312 yX14_goes := Or.inl q1757
theorem lkX1_320 : LKm RX1 320 yX1_deliver := Or.inl q1777
theorem lkX1_323 : LKm RX1 323 yX1_isParty := Or.inl q1782
theorem lkX1_329 : LKm RX1 329 yX14_viewSize := Or.inl q1786
theorem lkX1_332 : LKm RX1 332 yX7_get := Or.inl q1800
theorem lkX1_338 : LKm RX1 338 yX14_view := Or.inl q1809
theorem lkX1_342 : LKm RX1 342 yX14_shareOf := Or.inr ⟨_, q1821⟩
theorem lkX1_345 : LKm RX1 345 yX1_plainOf := Or.inl q1826
theorem lkX11_105 : LKm RX11 105 yX5_clear := Or.inl q1427
theorem lkX11_144 : LKm RX11 144 yX4_is := Or.inl q1431
theorem lkX11_150 : LKm RX11 150 yX11_step := Or.inl q1432
theorem lkX11_157 : LKm RX11 157 yX4_set := Or.inl q1510
theorem lkX11_168 : LKm RX11 168 yX11_push := Or.inl q1471
theorem lkX11_186 : LKm RX11 186 yX11_operator := Or.inl q1438
theorem lkX11_192 : LKm RX11 192 yX11_factor := Or.inl q1535
theorem lkX11_195 : LKm RX11 195 yX11_statement := Or.inl q1574
theorem lkX11_197 : LKm RX11 197 yX11_input := Or.inl q1578
theorem lkX11_203 : LKm RX11 203 yX11_back := Or.inl q1583
theorem lkX11_209 : LKm RX11 209 yX11_count := Or.inl q1539
theorem lkX11_212 : LKm RX11 212 yX11_output := Or.inl q1587
theorem lkX11_215 : LKm RX11 215 yX11_variable := Or.inl q1591
theorem lkX11_218 : LKm RX11 218 yX11_place := Or.inl q1442
theorem lkX11_222 : LKm RX11 222 yX11_valueOf := Or.inl q1502
theorem lkX11_226 : LKm RX11 226 yX11_needBelow := Or.inl q1506
theorem lkX11_230 : LKm RX11 230 yX11_assign := Or.inl q1595
theorem lkX11_233 : LKm RX11 233 yX11_open := Or.inl q1599
theorem lkX11_236 : LKm RX11 236 yX11_turnOver := Or.inl q1603
theorem lkX11_239 : LKm RX11 239 yX11_merge := Or.inl q1607
theorem lkX11_242 : LKm RX11 242 yX11_loop := Or.inl q1611
theorem lkX11_248 : LKm RX11 248 yX11_bits := Or.inl q1476
theorem lkX11_257 : LKm RX11 257 yX11_isElement := Or.inl q1570
theorem lkX11_260 : LKm RX11 260 yX5_mux := Or.inl q1480
theorem lkX11_264 : LKm RX11 264 yX11_constant := Or.inl q1545
theorem lkX11_268 : LKm RX11 268 yX12_equal := Or.inl q1526
theorem lkX11_279 : LKm RX11 279 yX11_pushBit := Or.inl q1550
theorem lkX11_282 : LKm RX11 282 yX11_read := Or.inl q1554
theorem lkX11_285 : LKm RX11 285 yX11_element := Or.inl q1562
theorem lkX11_290 : LKm RX11 290 yX11_inputWord := Or.inl q1558
theorem lkX11_293 : LKm RX11 293 yX11_fetch := Or.inl q1566
theorem lkX11_297 : LKm RX11 297 yX5_and := Or.inl q1520
theorem lkX11_300 : LKm RX11 300 yX5_xor := Or.inl q1521
theorem lkX11_303 : LKm RX11 303 yX11_settle := Or.inl q1467
theorem lkX11_306 : LKm RX11 306 yX12_sum := Or.inl q1446
theorem lkX11_313 : LKm RX11 313 yX12_product := Or.inl q1487
theorem lkX11_320 : LKm RX11 320 yX12_quotient := Or.inl q1493
theorem lkX11_324 : LKm RX11 324 yX11_shift := Or.inl q1498
theorem lkX11_327 : LKm RX11 327 yX11_bitwise := Or.inl q1512
theorem lkX11_334 : LKm RX11 334 yX5_or := Or.inl q1516
theorem lkX11_337 : LKm RX11 337 yX11_compared := Or.inl q1522
theorem lkX11_341 : LKm RX11 341 yX12_less := Or.inl q1530
theorem lkX9_59 : LKm RX9 59 yX4_set := Or.inl q1331
theorem lkX9_68 : LKm RX9 68 yX10_find := Or.inl q1369
theorem lkX9_99 : LKm RX9 99 yX4_is := Or.inl q1311
theorem lkX9_103 : LKm RX9 103 yX9_step := Or.inl q1312
theorem lkX9_121 : LKm RX9 121 yX9_operator := Or.inl q1323
theorem lkX9_127 : LKm RX9 127 yX9_factor := Or.inl q1353
theorem lkX9_130 : LKm RX9 130 yX9_statement := Or.inl q1381
theorem lkX9_137 : LKm RX9 137 yX9_input := Or.inl q1385
theorem lkX9_140 : LKm RX9 140 yX9_comesIn := Or.inl q1389
theorem lkX9_146 : LKm RX9 146 yX10_add := Or.inl q1393
theorem lkX9_150 : LKm RX9 150 yX9_endDef := Or.inl q1398
theorem lkX9_153 : LKm RX9 153 yX9_endVar := Or.inl q1402
theorem lkX9_156 : LKm RX9 156 yX9_target := Or.inl q1406
theorem lkX9_159 : LKm RX9 159 yX9_need := Or.inl q1327
theorem lkX9_163 : LKm RX9 163 yX9_index := Or.inl q1373
theorem lkX9_166 : LKm RX9 166 yX9_assign := Or.inl q1411
theorem lkX9_169 : LKm RX9 169 yX9_mark := Or.inl q1415
theorem lkX9_172 : LKm RX9 172 yX9_release := Or.inl q1419
theorem lkX9_180 : LKm RX9 180 yX9_visible := Or.inl q1365
theorem lkX9_196 : LKm RX9 196 yX9_push := Or.inl q1357
theorem lkX9_200 : LKm RX9 200 yX9_read := Or.inl q1361
theorem lkX9_203 : LKm RX9 203 yX9_become := Or.inl q1332
theorem lkX9_207 : LKm RX9 207 yX9_endCall := Or.inl q1377
theorem lkX9_210 : LKm RX9 210 yX9_two := Or.inl q1336
theorem lkX5_44 : LKm RX5 44 yX5_levelOf := Or.inl q1458
theorem lkX5_54 : LKm RX5 54 yX5_gate := Or.inl q1454
theorem lkX5_58 : LKm RX5 58 yX5_and := Or.inl q1485
theorem lkX5_61 : LKm RX5 61 yX5_xor := Or.inl q1484
theorem lkX6_30 : LKm RX6 30 yX7_set := Or.inl q1677
theorem lkX6_34 : LKm RX6 34 yX7_get := Or.inl q1695
theorem lkX3_29 : LKm RX3 29 yX3_is := Or.inl q1062
theorem lkX14_69 : LKm RX14 69 yX7_get := Or.inl q1732
theorem lkX14_73 : LKm RX14 73 yX13_wireOf := Or.inl q1728
theorem lkX14_80 : LKm RX14 80 yX14_shareOf := Or.inl q1733
theorem lkX14_95 : LKm RX14 95 yJ7_copyOf := Or.inl q1745
theorem lkX14_104 : LKm RX14 104 yX14_isDone := Or.inl q1761
theorem lkX14_108 : LKm RX14 108 yX14_learn := Or.inl q1762
theorem lkX14_115 : LKm RX14 115 yX7_set := Or.inl q1766
theorem lkX14_128 : LKm RX14 128 yX14_product := Or.inl q1767
theorem lkX14_132 : LKm RX14 132 yX14_bit := Or.inl q1771
theorem lkX14_136 : LKm RX14 136 yX13_owned := Or.inl q1794
theorem lkX14_139 : LKm RX14 139 yX14_ownBits := Or.inl q1790
theorem lkX14_146 : LKm RX14 146 yX13_length := Or.inl q1795
theorem lkX14_149 : LKm RX14 149 yX14_and := Or.inl q1813
theorem lkX13_52 : LKm RX13 52 yX13_sort := Or.inl q1620
theorem lkX13_98 : LKm RX13 98 yX13_owned := Or.inl q1720
theorem lkX8_37 : LKm RX8 37 yX4_set := Or.inl q1054
theorem lkX8_43 : LKm RX8 43 yX8_isLetter := Or.inl q982
theorem lkX8_47 : LKm RX8 47 yX8_isDigit := Or.inl q985
theorem lkX8_56 : LKm RX8 56 yX8_wordEnd := Or.inl q978
theorem lkX8_65 : LKm RX8 65 yX8_isWord := Or.inl q964
theorem lkX8_93 : LKm RX8 93 yX8_skip := Or.inl q951
theorem lkX8_96 : LKm RX8 96 yX4_is := Or.inl q955
theorem lkX8_100 : LKm RX8 100 yX8_bad := Or.inl q1050
theorem lkX8_103 : LKm RX8 103 yX8_look := Or.inl q1075
theorem lkX8_107 : LKm RX8 107 yX8_isSign := Or.inl q1089
theorem lkX8_110 : LKm RX8 110 yX8_isAlone := Or.inl q1085
theorem lkX8_117 : LKm RX8 117 yX8_isKeyword := Or.inl q1034
theorem lkX8_120 : LKm RX8 120 yX3_number := Or.inl q1058
theorem lkX8_145 : LKm RX8 145 yX8_item := Or.inl q959
theorem lkX8_154 : LKm RX8 154 yX2_add := Or.inl q1105
theorem lkX8_160 : LKm RX8 160 yX8_input := Or.inl q1026
theorem lkX8_162 : LKm RX8 162 yX8_def := Or.inl q1109
theorem lkX8_164 : LKm RX8 164 yX8_output := Or.inl q1242
theorem lkX8_166 : LKm RX8 166 yX8_statement := Or.inl q1250
theorem lkX8_169 : LKm RX8 169 yX8_sort := Or.inl q1097
theorem lkX8_179 : LKm RX8 179 yX8_number := Or.inl q1071
theorem lkX8_182 : LKm RX8 182 yX8_sign := Or.inl q1081
theorem lkX8_186 : LKm RX8 186 yX8_name := Or.inl q1030
theorem lkX8_189 : LKm RX8 189 yX8_word := Or.inl q1067
theorem lkX8_193 : LKm RX8 193 yX8_type := Or.inl q1093
theorem lkX8_208 : LKm RX8 208 yX8_params := Or.inl q1115
theorem lkX8_211 : LKm RX8 211 yX8_expr := Or.inl q1121
theorem lkX8_233 : LKm RX8 233 yX8_variable := Or.inl q1256
theorem lkX8_236 : LKm RX8 236 yX8_condition := Or.inl q1264
theorem lkX8_239 : LKm RX8 239 yX8_loop := Or.inl q1282
theorem lkX8_242 : LKm RX8 242 yX8_assignment := Or.inl q1294
theorem lkX8_254 : LKm RX8 254 yX8_enter := Or.inl q1133
theorem lkX8_272 : LKm RX8 272 yX8_around := Or.inl q1145
theorem lkX8_278 : LKm RX8 278 yX8_block := Or.inl q1270
theorem lkX8_299 : LKm RX8 299 yX8_row := Or.inl q1125
theorem lkX8_314 : LKm RX8 314 yX8_is := Or.inl q1198
theorem lkX8_371 : LKm RX8 371 yX8_factor := Or.inl q1129
theorem lkX8_374 : LKm RX8 374 yX8_findOperator := Or.inl q1192
theorem lkX8_409 : LKm RX8 409 yX8_bitOf := Or.inl q1162
theorem lkX8_412 : LKm RX8 412 yX8_named := Or.inl q1172
theorem lkX8_430 : LKm RX8 430 yX8_call := Or.inl q1180
theorem lkX12_33 : LKm RX12 33 yX5_xor := Or.inl q1450
theorem lkX12_39 : LKm RX12 39 yX5_and := Or.inl q1463
theorem lkX12_42 : LKm RX12 42 yX12_sum := Or.inl q1491
theorem lkX12_46 : LKm RX12 46 yX5_mux := Or.inl q1497
theorem lkX15_316 : LKm RX15 316 yX15_word := Or.inl q2287
theorem lkX15_329 : LKm RX15 329 yX15_look0 := Or.inl q2311
theorem lkX15_333 : LKm RX15 333 yX15_isLetter := Or.inl q2344
theorem lkX15_337 : LKm RX15 337 yX15_isDigit := Or.inl q2347
theorem lkX15_340 : LKm RX15 340 yX15_wordEnd := Or.inl q2340
theorem lkX15_355 : LKm RX15 355 yX15_isWord := Or.inl q2336
theorem lkX15_383 : LKm RX15 383 yX15_gap := Or.inl q2307
theorem lkX15_386 : LKm RX15 386 yX15_isKept := Or.inl q2392
theorem lkX15_390 : LKm RX15 390 yX15_fail := Or.inl q2315
theorem lkX15_405 : LKm RX15 405 yX15_isPair := Or.inl q2323
theorem lkX15_408 : LKm RX15 408 yX15_isSign := Or.inl q2319
theorem lkX15_420 : LKm RX15 420 yX15_rank := Or.inl q2415
theorem lkX15_423 : LKm RX15 423 yX15_put := Or.inl q2331
theorem lkX15_427 : LKm RX15 427 yX15_reduce := Or.inl q2418
theorem lkX15_430 : LKm RX15 430 yX15_deeper := Or.inl q2353
theorem lkX15_434 : LKm RX15 434 yX15_push := Or.inl q2373
theorem lkX15_438 : LKm RX15 438 yX15_number := Or.inl q2378
theorem lkX15_442 : LKm RX15 442 yX15_sign := Or.inl q2361
theorem lkX15_445 : LKm RX15 445 yX15_name := Or.inl q2388
theorem lkX15_448 : LKm RX15 448 yX15_takeOperand := Or.inl q2369
theorem lkX15_451 : LKm RX15 451 yX15_signsOver := Or.inl q2403
theorem lkX15_454 : LKm RX15 454 yX15_operator := Or.inl q2407
theorem lkX15_457 : LKm RX15 457 yX15_isFresh := Or.inl q2411
theorem lkX15_460 : LKm RX15 460 yX15_closes := Or.inl q2422
theorem lkX15_467 : LKm RX15 467 yX15_reduceAll := Or.inl q2426
theorem lkX15_473 : LKm RX15 473 yX15_sortWord := Or.inl q2446
theorem lkX15_481 : LKm RX15 481 yX15_keyword := Or.inl q2457
theorem lkX15_485 : LKm RX15 485 yX15_type := Or.inl q2442
theorem lkX15_496 : LKm RX15 496 yX15_expression := Or.inl q2365
theorem lkX15_504 : LKm RX15 504 yX15_openBlock := Or.inl q2430
theorem lkX15_507 : LKm RX15 507 yX15_ifStatement := Or.inl q2357
theorem lkX15_510 : LKm RX15 510 yX15_endIf := Or.inl q2434
theorem lkX15_513 : LKm RX15 513 yX15_closeBlock := Or.inl q2327
theorem lkX15_516 : LKm RX15 516 yX15_varStatement := Or.inl q2438
theorem lkX15_519 : LKm RX15 519 yX15_forStatement := Or.inl q2453
theorem lkX15_522 : LKm RX15 522 yX15_inputItem := Or.inl q2461
theorem lkX15_525 : LKm RX15 525 yX15_defItem := Or.inl q2465
theorem lkX15_528 : LKm RX15 528 yX15_outputItem := Or.inl q2469
theorem lkX15_531 : LKm RX15 531 yX15_assignment := Or.inl q2473
theorem lkX15_543 : LKm RX15 543 yX15_visible := Or.inl q2493
theorem lkX15_558 : LKm RX15 558 yX15_operandSort := Or.inl q2481
theorem lkX15_561 : LKm RX15 561 yX15_statementSort := Or.inl q2525
theorem lkX15_564 : LKm RX15 564 yX15_pile := Or.inl q2485
theorem lkX15_568 : LKm RX15 568 yX15_used := Or.inl q2489
theorem lkX15_571 : LKm RX15 571 yX15_refer := Or.inl q2497
theorem lkX15_574 : LKm RX15 574 yX15_must := Or.inl q2501
theorem lkX15_577 : LKm RX15 577 yX15_bitSort := Or.inl q2505
theorem lkX15_580 : LKm RX15 580 yX15_unarySort := Or.inl q2513
theorem lkX15_583 : LKm RX15 583 yX15_binarySort := Or.inl q2517
theorem lkX15_586 : LKm RX15 586 yX15_selectSort := Or.inl q2521
theorem lkX15_589 : LKm RX15 589 yX15_mustPublic := Or.inl q2509
theorem lkX15_592 : LKm RX15 592 yX15_comes := Or.inl q2529
theorem lkX15_604 : LKm RX15 604 yX15_paramSort := Or.inl q2533
theorem lkX15_608 : LKm RX15 608 yX15_symbol := Or.inl q2537
theorem lkX15_612 : LKm RX15 612 yX15_assigned := Or.inl q2542
theorem lkX15_615 : LKm RX15 615 yX15_elementSort := Or.inl q2546
theorem lkX15_627 : LKm RX15 627 yX15_statementPlace := Or.inl q2571
theorem lkX15_636 : LKm RX15 636 yX15_levelOf := Or.inl q2615
theorem lkX15_639 : LKm RX15 639 yX15_newGate := Or.inl q2619
theorem lkX15_642 : LKm RX15 642 yX15_xor := Or.inl q2611
theorem lkX15_646 : LKm RX15 646 yX15_and := Or.inl q2623
theorem lkX15_652 : LKm RX15 652 yX15_sum := Or.inl q2635
theorem lkX15_655 : LKm RX15 655 yX15_mux := Or.inl q2663
theorem lkX15_666 : LKm RX15 666 yX15_widthOf := Or.inl q2558
theorem lkX15_669 : LKm RX15 669 yX15_inputsOfAll := Or.inl q2554
theorem lkX15_684 : LKm RX15 684 yX15_operand := Or.inl q2562
theorem lkX15_687 : LKm RX15 687 yX15_statement := Or.inl q2667
theorem lkX15_690 : LKm RX15 690 yX15_step := Or.inl q2566
theorem lkX15_693 : LKm RX15 693 yX15_constantZ := Or.inl q2575
theorem lkX15_697 : LKm RX15 697 yX15_pushZ := Or.inl q2579
theorem lkX15_700 : LKm RX15 700 yX15_named := Or.inl q2583
theorem lkX15_703 : LKm RX15 703 yX15_indexed := Or.inl q2587
theorem lkX15_706 : LKm RX15 706 yX15_bodyOf := Or.inl q2627
theorem lkX15_709 : LKm RX15 709 yX15_popX := Or.inl q2599
theorem lkX15_712 : LKm RX15 712 yX15_worthOf := Or.inl q2591
theorem lkX15_716 : LKm RX15 716 yX15_unary := Or.inl q2631
theorem lkX15_719 : LKm RX15 719 yX15_binary := Or.inl q2639
theorem lkX15_722 : LKm RX15 722 yX15_popY := Or.inl q2643
theorem lkX15_725 : LKm RX15 725 yX15_equal := Or.inl q2607
theorem lkX15_728 : LKm RX15 728 yX15_elementBit := Or.inl q2595
theorem lkX15_731 : LKm RX15 731 yX15_isIndex := Or.inl q2603
theorem lkX15_734 : LKm RX15 734 yX15_less := Or.inl q2647
theorem lkX15_737 : LKm RX15 737 yX15_swap := Or.inl q2651
theorem lkX15_740 : LKm RX15 740 yX15_multiply := Or.inl q2655
theorem lkX15_743 : LKm RX15 743 yX15_divide := Or.inl q2659
theorem lkX15_746 : LKm RX15 746 yX15_keepVars := Or.inl q2679
theorem lkX15_750 : LKm RX15 750 yX15_bringVars := Or.inl q2683
theorem lkX15_753 : LKm RX15 753 yX15_variable := Or.inl q2671
theorem lkX15_756 : LKm RX15 756 yX15_setElement := Or.inl q2675
theorem lkX15_759 : LKm RX15 759 yX15_endOfIf := Or.inl q2687
theorem lkX15_771 : LKm RX15 771 yX15_meanOperand := Or.inl q2814
theorem lkX15_774 : LKm RX15 774 yX15_meanStatement := Or.inl q2834
theorem lkX15_780 : LKm RX15 780 yX15_pushWord := Or.inl q2818
theorem lkX15_784 : LKm RX15 784 yX15_inputWord := Or.inl q2822
theorem lkX15_789 : LKm RX15 789 yX15_meanBinary := Or.inl q2826
theorem lkX15_793 : LKm RX15 793 yX15_signed := Or.inl q2830
theorem lkX15_804 : LKm RX15 804 yJ6_bitCount := Or.inl q2744
theorem lkX15_809 : LKm RX15 809 yX15_draw := Or.inl q2736
theorem lkX15_812 : LKm RX15 812 yX15_parity := Or.inl q2741
theorem lkX15_815 : LKm RX15 815 yX15_shareOf := Or.inl q2750
theorem lkX15_827 : LKm RX15 827 yX15_lengthOf := Or.inl q2762
theorem lkX15_833 : LKm RX15 833 yX15_sendRound := Or.inl q2754
theorem lkX15_836 : LKm RX15 836 yX15_forget := Or.inl q2299
theorem lkX15_839 : LKm RX15 839 yX15_program := Or.inl q2303
theorem lkX15_842 : LKm RX15 842 yX15_sorts := Or.inl q2477
theorem lkX15_845 : LKm RX15 845 yX15_build := Or.inl q2550
theorem lkX15_851 : LKm RX15 851 yX15_levels := Or.inl q2691
theorem lkX15_854 : LKm RX15 854 yX15_done := Or.inl q2699
theorem lkX15_857 : LKm RX15 857 yX15_shareAll := Or.inl q2732
theorem lkX15_860 : LKm RX15 860 yX15_sentBit := Or.inl q2766
theorem lkX15_863 : LKm RX15 863 yX15_takeMessage := Or.inl q2774
theorem lkX15_866 : LKm RX15 866 yX15_viewBits := Or.inl q2786
theorem lkX15_869 : LKm RX15 869 yX15_mean := Or.inl q2810
set_option maxRecDepth 100000
theorem plJ7 : plainName RJ7 = true := by decide +kernel
theorem plX1 : plainName RX1 = true := by decide +kernel
theorem plX2 : plainName RX2 = true := by decide +kernel
theorem plX3 : plainName RX3 = true := by decide +kernel
theorem plX4 : plainName RX4 = true := by decide +kernel
theorem plX5 : plainName RX5 = true := by decide +kernel
theorem plX6 : plainName RX6 = true := by decide +kernel
theorem plX7 : plainName RX7 = true := by decide +kernel
theorem plX8 : plainName RX8 = true := by decide +kernel
theorem plX9 : plainName RX9 = true := by decide +kernel
theorem plX10 : plainName RX10 = true := by decide +kernel
theorem plX11 : plainName RX11 = true := by decide +kernel
theorem plX12 : plainName RX12 = true := by decide +kernel
theorem plX13 : plainName RX13 = true := by decide +kernel
theorem plX14 : plainName RX14 = true := by decide +kernel
theorem plJ6 : plainName RJ6 = true := by decide +kernel
theorem plX15 : plainName RX15 = true := by decide +kernel
def MHo_feed (P W : Int) : Mt := (ΛC P W, yX1_feed, cX1_feed, 8, none, 1, 120)
theorem ndHo_feed : yX1_feed.cls ≠ "java/lang/invoke/MethodHandle" ∧ yX1_feed.cls ≠ "java/lang/invoke/VarHandle" ∧ (parseMethodDescriptor yX1_feed.desc).map (fun d => d.parameters.length) = some 5 := by decide +kernel
theorem cmHo_feed (P W : Int) : CMv (MHo_feed P W) 5 := ⟨⟨q212, q926, ndHo_feed⟩, q924, q925⟩
def MHo_end (P W : Int) : Mt := (ΛC P W, yX1_end, cX1_end, 3, (some .int), 2, 180)
theorem ndHo_end : yX1_end.cls ≠ "java/lang/invoke/MethodHandle" ∧ yX1_end.cls ≠ "java/lang/invoke/VarHandle" ∧ (parseMethodDescriptor yX1_end.desc).map (fun d => d.parameters.length) = some 1 := by decide +kernel
theorem cmHo_end (P W : Int) : CMv (MHo_end P W) 1 := ⟨⟨q212, q930, ndHo_end⟩, q928, q929⟩
def MBd_constant (P W : Int) : Mt := (ΛC P W, yX11_constant, cX11_constant, 5, none, 1, 120)
theorem ndBd_constant : yX11_constant.cls ≠ "java/lang/invoke/MethodHandle" ∧ yX11_constant.cls ≠ "java/lang/invoke/VarHandle" ∧ (parseMethodDescriptor yX11_constant.desc).map (fun d => d.parameters.length) = some 2 := by decide +kernel
theorem cmBd_constant (P W : Int) : CMv (MBd_constant P W) 2 := ⟨⟨q223, q1548, ndBd_constant⟩, q1547, qs70⟩
def MFt_set (P W : Int) : Mt := (ΛC P W, yX4_set, cX4_set, 3, none, 1, 120)
theorem ndFt_set : yX4_set.cls ≠ "java/lang/invoke/MethodHandle" ∧ yX4_set.cls ≠ "java/lang/invoke/VarHandle" ∧ (parseMethodDescriptor yX4_set.desc).map (fun d => d.parameters.length) = some 2 := by decide +kernel
theorem cmFt_set (P W : Int) : CMv (MFt_set P W) 2 := ⟨⟨q215, q1057, ndFt_set⟩, q1055, q1056⟩
def MBd_count (P W : Int) : Mt := (ΛC P W, yX11_count, cX11_count, 1, none, 2, 180)
theorem ndBd_count : yX11_count.cls ≠ "java/lang/invoke/MethodHandle" ∧ yX11_count.cls ≠ "java/lang/invoke/VarHandle" ∧ (parseMethodDescriptor yX11_count.desc).map (fun d => d.parameters.length) = some 0 := by decide +kernel
theorem cmBd_count (P W : Int) : CMv (MBd_count P W) 0 := ⟨⟨q223, q1542, ndBd_count⟩, q1541, qs69⟩
def MBd_bits (P W : Int) : Mt := (ΛC P W, yX11_bits, cX11_bits, 2, (some .int), 1, 120)
theorem ndBd_bits : yX11_bits.cls ≠ "java/lang/invoke/MethodHandle" ∧ yX11_bits.cls ≠ "java/lang/invoke/VarHandle" ∧ (parseMethodDescriptor yX11_bits.desc).map (fun d => d.parameters.length) = some 1 := by decide +kernel
theorem cmBd_bits (P W : Int) : CMv (MBd_bits P W) 1 := ⟨⟨q223, q1479, ndBd_bits⟩, q1478, qs62⟩
def MBd_inputWord (P W : Int) : Mt := (ΛC P W, yX11_inputWord, cX11_inputWord, 4, none, 1, 120)
theorem ndBd_inputWord : yX11_inputWord.cls ≠ "java/lang/invoke/MethodHandle" ∧ yX11_inputWord.cls ≠ "java/lang/invoke/VarHandle" ∧ (parseMethodDescriptor yX11_inputWord.desc).map (fun d => d.parameters.length) = some 2 := by decide +kernel
theorem cmBd_inputWord (P W : Int) : CMv (MBd_inputWord P W) 2 := ⟨⟨q223, q1561, ndBd_inputWord⟩, q1560, qs73⟩
def MBd_fetch (P W : Int) : Mt := (ΛC P W, yX11_fetch, cX11_fetch, 4, none, 2, 180)
theorem ndBd_fetch : yX11_fetch.cls ≠ "java/lang/invoke/MethodHandle" ∧ yX11_fetch.cls ≠ "java/lang/invoke/VarHandle" ∧ (parseMethodDescriptor yX11_fetch.desc).map (fun d => d.parameters.length) = some 3 := by decide +kernel
theorem cmBd_fetch (P W : Int) : CMv (MBd_fetch P W) 3 := ⟨⟨q223, q1569, ndBd_fetch⟩, q1568, qs75⟩
def MCi_levelOf (P W : Int) : Mt := (ΛC P W, yX5_levelOf, cX5_levelOf, 2, (some .int), 1, 120)
theorem ndCi_levelOf : yX5_levelOf.cls ≠ "java/lang/invoke/MethodHandle" ∧ yX5_levelOf.cls ≠ "java/lang/invoke/VarHandle" ∧ (parseMethodDescriptor yX5_levelOf.desc).map (fun d => d.parameters.length) = some 1 := by decide +kernel
theorem cmCi_levelOf (P W : Int) : CMv (MCi_levelOf P W) 1 := ⟨⟨q216, q1461, ndCi_levelOf⟩, q1459, q1460⟩
def MCi_gate (P W : Int) : Mt := (ΛC P W, yX5_gate, cX5_gate, 5, (some .int), 2, 180)
theorem ndCi_gate : yX5_gate.cls ≠ "java/lang/invoke/MethodHandle" ∧ yX5_gate.cls ≠ "java/lang/invoke/VarHandle" ∧ (parseMethodDescriptor yX5_gate.desc).map (fun d => d.parameters.length) = some 3 := by decide +kernel
theorem cmCi_gate (P W : Int) : CMv (MCi_gate P W) 3 := ⟨⟨q216, q1457, ndCi_gate⟩, q1456, qs59⟩
def MCi_and (P W : Int) : Mt := (ΛC P W, yX5_and, cX5_and, 3, (some .int), 3, 240)
theorem ndCi_and : yX5_and.cls ≠ "java/lang/invoke/MethodHandle" ∧ yX5_and.cls ≠ "java/lang/invoke/VarHandle" ∧ (parseMethodDescriptor yX5_and.desc).map (fun d => d.parameters.length) = some 2 := by decide +kernel
theorem cmCi_and (P W : Int) : CMv (MCi_and P W) 2 := ⟨⟨q216, q1466, ndCi_and⟩, q1464, q1465⟩
def MCi_xor (P W : Int) : Mt := (ΛC P W, yX5_xor, cX5_xor, 3, (some .int), 3, 240)
theorem ndCi_xor : yX5_xor.cls ≠ "java/lang/invoke/MethodHandle" ∧ yX5_xor.cls ≠ "java/lang/invoke/VarHandle" ∧ (parseMethodDescriptor yX5_xor.desc).map (fun d => d.parameters.length) = some 2 := by decide +kernel
theorem cmCi_xor (P W : Int) : CMv (MCi_xor P W) 2 := ⟨⟨q216, q1453, ndCi_xor⟩, q1451, q1452⟩
def MWo_equal (P W : Int) : Mt := (ΛC P W, yX12_equal, cX12_equal, 9, (some .int), 4, 300)
theorem ndWo_equal : yX12_equal.cls ≠ "java/lang/invoke/MethodHandle" ∧ yX12_equal.cls ≠ "java/lang/invoke/VarHandle" ∧ (parseMethodDescriptor yX12_equal.desc).map (fun d => d.parameters.length) = some 5 := by decide +kernel
theorem cmWo_equal (P W : Int) : CMv (MWo_equal P W) 5 := ⟨⟨q224, q1529, ndWo_equal⟩, q1527, q1528⟩
def MBd_isElement (P W : Int) : Mt := (ΛC P W, yX11_isElement, cX11_isElement, 3, (some .int), 5, 360)
theorem ndBd_isElement : yX11_isElement.cls ≠ "java/lang/invoke/MethodHandle" ∧ yX11_isElement.cls ≠ "java/lang/invoke/VarHandle" ∧ (parseMethodDescriptor yX11_isElement.desc).map (fun d => d.parameters.length) = some 2 := by decide +kernel
theorem cmBd_isElement (P W : Int) : CMv (MBd_isElement P W) 2 := ⟨⟨q223, q1573, ndBd_isElement⟩, q1572, qs76⟩
def MBd_needBelow (P W : Int) : Mt := (ΛC P W, yX11_needBelow, cX11_needBelow, 5, none, 2, 180)
theorem ndBd_needBelow : yX11_needBelow.cls ≠ "java/lang/invoke/MethodHandle" ∧ yX11_needBelow.cls ≠ "java/lang/invoke/VarHandle" ∧ (parseMethodDescriptor yX11_needBelow.desc).map (fun d => d.parameters.length) = some 3 := by decide +kernel
theorem cmBd_needBelow (P W : Int) : CMv (MBd_needBelow P W) 3 := ⟨⟨q223, q1509, ndBd_needBelow⟩, q1508, qs65⟩
def MBd_place (P W : Int) : Mt := (ΛC P W, yX11_place, cX11_place, 2, (some .int), 1, 120)
theorem ndBd_place : yX11_place.cls ≠ "java/lang/invoke/MethodHandle" ∧ yX11_place.cls ≠ "java/lang/invoke/VarHandle" ∧ (parseMethodDescriptor yX11_place.desc).map (fun d => d.parameters.length) = some 1 := by decide +kernel
theorem cmBd_place (P W : Int) : CMv (MBd_place P W) 1 := ⟨⟨q223, q1445, ndBd_place⟩, q1444, qs58⟩
def MBd_push (P W : Int) : Mt := (ΛC P W, yX11_push, cX11_push, 4, none, 2, 180)
theorem ndBd_push : yX11_push.cls ≠ "java/lang/invoke/MethodHandle" ∧ yX11_push.cls ≠ "java/lang/invoke/VarHandle" ∧ (parseMethodDescriptor yX11_push.desc).map (fun d => d.parameters.length) = some 3 := by decide +kernel
theorem cmBd_push (P W : Int) : CMv (MBd_push P W) 3 := ⟨⟨q223, q1474, ndBd_push⟩, q1473, qs61⟩
def MBd_settle (P W : Int) : Mt := (ΛC P W, yX11_settle, cX11_settle, 3, none, 3, 240)
theorem ndBd_settle : yX11_settle.cls ≠ "java/lang/invoke/MethodHandle" ∧ yX11_settle.cls ≠ "java/lang/invoke/VarHandle" ∧ (parseMethodDescriptor yX11_settle.desc).map (fun d => d.parameters.length) = some 2 := by decide +kernel
theorem cmBd_settle (P W : Int) : CMv (MBd_settle P W) 2 := ⟨⟨q223, q1470, ndBd_settle⟩, q1469, qs60⟩
def MBd_valueOf (P W : Int) : Mt := (ΛC P W, yX11_valueOf, cX11_valueOf, 5, (some .long), 1, 120)
theorem ndBd_valueOf : yX11_valueOf.cls ≠ "java/lang/invoke/MethodHandle" ∧ yX11_valueOf.cls ≠ "java/lang/invoke/VarHandle" ∧ (parseMethodDescriptor yX11_valueOf.desc).map (fun d => d.parameters.length) = some 1 := by decide +kernel
theorem cmBd_valueOf (P W : Int) : CMv (MBd_valueOf P W) 1 := ⟨⟨q223, q1505, ndBd_valueOf⟩, q1504, qs64⟩
def MFt_is (P W : Int) : Mt := (ΛC P W, yX4_is, cX4_is, 1, (some .boolean), 1, 120)
theorem ndFt_is : yX4_is.cls ≠ "java/lang/invoke/MethodHandle" ∧ yX4_is.cls ≠ "java/lang/invoke/VarHandle" ∧ (parseMethodDescriptor yX4_is.desc).map (fun d => d.parameters.length) = some 0 := by decide +kernel
theorem cmFt_is (P W : Int) : CMv (MFt_is P W) 0 := ⟨⟨q215, q958, ndFt_is⟩, q956, q957⟩
def MBd_element (P W : Int) : Mt := (ΛC P W, yX11_element, cX11_element, 9, none, 6, 420)
theorem ndBd_element : yX11_element.cls ≠ "java/lang/invoke/MethodHandle" ∧ yX11_element.cls ≠ "java/lang/invoke/VarHandle" ∧ (parseMethodDescriptor yX11_element.desc).map (fun d => d.parameters.length) = some 1 := by decide +kernel
theorem cmBd_element (P W : Int) : CMv (MBd_element P W) 1 := ⟨⟨q223, q1565, ndBd_element⟩, q1564, qs74⟩
def MBd_pushBit (P W : Int) : Mt := (ΛC P W, yX11_pushBit, cX11_pushBit, 2, none, 1, 120)
theorem ndBd_pushBit : yX11_pushBit.cls ≠ "java/lang/invoke/MethodHandle" ∧ yX11_pushBit.cls ≠ "java/lang/invoke/VarHandle" ∧ (parseMethodDescriptor yX11_pushBit.desc).map (fun d => d.parameters.length) = some 1 := by decide +kernel
theorem cmBd_pushBit (P W : Int) : CMv (MBd_pushBit P W) 1 := ⟨⟨q223, q1553, ndBd_pushBit⟩, q1552, qs71⟩
def MBd_read (P W : Int) : Mt := (ΛC P W, yX11_read, cX11_read, 5, none, 3, 240)
theorem ndBd_read : yX11_read.cls ≠ "java/lang/invoke/MethodHandle" ∧ yX11_read.cls ≠ "java/lang/invoke/VarHandle" ∧ (parseMethodDescriptor yX11_read.desc).map (fun d => d.parameters.length) = some 1 := by decide +kernel
theorem cmBd_read (P W : Int) : CMv (MBd_read P W) 1 := ⟨⟨q223, q1557, ndBd_read⟩, q1556, qs72⟩
def MBd_factor (P W : Int) : Mt := (ΛC P W, yX11_factor, cX11_factor, 5, none, 7, 480)
theorem ndBd_factor : yX11_factor.cls ≠ "java/lang/invoke/MethodHandle" ∧ yX11_factor.cls ≠ "java/lang/invoke/VarHandle" ∧ (parseMethodDescriptor yX11_factor.desc).map (fun d => d.parameters.length) = some 1 := by decide +kernel
theorem cmBd_factor (P W : Int) : CMv (MBd_factor P W) 1 := ⟨⟨q223, q1538, ndBd_factor⟩, q1537, qs68⟩
def MWo_less (P W : Int) : Mt := (ΛC P W, yX12_less, cX12_less, 10, (some .int), 4, 300)
theorem ndWo_less : yX12_less.cls ≠ "java/lang/invoke/MethodHandle" ∧ yX12_less.cls ≠ "java/lang/invoke/VarHandle" ∧ (parseMethodDescriptor yX12_less.desc).map (fun d => d.parameters.length) = some 4 := by decide +kernel
theorem cmWo_less (P W : Int) : CMv (MWo_less P W) 4 := ⟨⟨q224, q1533, ndWo_less⟩, q1531, q1532⟩
def MBd_compared (P W : Int) : Mt := (ΛC P W, yX11_compared, cX11_compared, 5, (some .int), 5, 360)
theorem ndBd_compared : yX11_compared.cls ≠ "java/lang/invoke/MethodHandle" ∧ yX11_compared.cls ≠ "java/lang/invoke/VarHandle" ∧ (parseMethodDescriptor yX11_compared.desc).map (fun d => d.parameters.length) = some 4 := by decide +kernel
theorem cmBd_compared (P W : Int) : CMv (MBd_compared P W) 4 := ⟨⟨q223, q1525, ndBd_compared⟩, q1524, qs67⟩
def MCi_or (P W : Int) : Mt := (ΛC P W, yX5_or, cX5_or, 3, (some .int), 4, 300)
theorem ndCi_or : yX5_or.cls ≠ "java/lang/invoke/MethodHandle" ∧ yX5_or.cls ≠ "java/lang/invoke/VarHandle" ∧ (parseMethodDescriptor yX5_or.desc).map (fun d => d.parameters.length) = some 2 := by decide +kernel
theorem cmCi_or (P W : Int) : CMv (MCi_or P W) 2 := ⟨⟨q216, q1519, ndCi_or⟩, q1517, q1518⟩
def MBd_bitwise (P W : Int) : Mt := (ΛC P W, yX11_bitwise, cX11_bitwise, 6, none, 6, 420)
theorem ndBd_bitwise : yX11_bitwise.cls ≠ "java/lang/invoke/MethodHandle" ∧ yX11_bitwise.cls ≠ "java/lang/invoke/VarHandle" ∧ (parseMethodDescriptor yX11_bitwise.desc).map (fun d => d.parameters.length) = some 3 := by decide +kernel
theorem cmBd_bitwise (P W : Int) : CMv (MBd_bitwise P W) 3 := ⟨⟨q223, q1515, ndBd_bitwise⟩, q1514, qs66⟩
def MBd_shift (P W : Int) : Mt := (ΛC P W, yX11_shift, cX11_shift, 7, none, 4, 300)
theorem ndBd_shift : yX11_shift.cls ≠ "java/lang/invoke/MethodHandle" ∧ yX11_shift.cls ≠ "java/lang/invoke/VarHandle" ∧ (parseMethodDescriptor yX11_shift.desc).map (fun d => d.parameters.length) = some 2 := by decide +kernel
theorem cmBd_shift (P W : Int) : CMv (MBd_shift P W) 2 := ⟨⟨q223, q1501, ndBd_shift⟩, q1500, qs63⟩
def MCi_mux (P W : Int) : Mt := (ΛC P W, yX5_mux, cX5_mux, 4, (some .int), 4, 300)
theorem ndCi_mux : yX5_mux.cls ≠ "java/lang/invoke/MethodHandle" ∧ yX5_mux.cls ≠ "java/lang/invoke/VarHandle" ∧ (parseMethodDescriptor yX5_mux.desc).map (fun d => d.parameters.length) = some 3 := by decide +kernel
theorem cmCi_mux (P W : Int) : CMv (MCi_mux P W) 3 := ⟨⟨q216, q1483, ndCi_mux⟩, q1481, q1482⟩
def MWo_sum (P W : Int) : Mt := (ΛC P W, yX12_sum, cX12_sum, 15, none, 4, 300)
theorem ndWo_sum : yX12_sum.cls ≠ "java/lang/invoke/MethodHandle" ∧ yX12_sum.cls ≠ "java/lang/invoke/VarHandle" ∧ (parseMethodDescriptor yX12_sum.desc).map (fun d => d.parameters.length) = some 9 := by decide +kernel
theorem cmWo_sum (P W : Int) : CMv (MWo_sum P W) 9 := ⟨⟨q224, q1449, ndWo_sum⟩, q1447, q1448⟩
def MWo_product (P W : Int) : Mt := (ΛC P W, yX12_product, cX12_product, 9, none, 5, 360)
theorem ndWo_product : yX12_product.cls ≠ "java/lang/invoke/MethodHandle" ∧ yX12_product.cls ≠ "java/lang/invoke/VarHandle" ∧ (parseMethodDescriptor yX12_product.desc).map (fun d => d.parameters.length) = some 6 := by decide +kernel
theorem cmWo_product (P W : Int) : CMv (MWo_product P W) 6 := ⟨⟨q224, q1490, ndWo_product⟩, q1488, q1489⟩
def MWo_quotient (P W : Int) : Mt := (ΛC P W, yX12_quotient, cX12_quotient, 13, none, 5, 360)
theorem ndWo_quotient : yX12_quotient.cls ≠ "java/lang/invoke/MethodHandle" ∧ yX12_quotient.cls ≠ "java/lang/invoke/VarHandle" ∧ (parseMethodDescriptor yX12_quotient.desc).map (fun d => d.parameters.length) = some 7 := by decide +kernel
theorem cmWo_quotient (P W : Int) : CMv (MWo_quotient P W) 7 := ⟨⟨q224, q1496, ndWo_quotient⟩, q1494, q1495⟩
def MBd_operator (P W : Int) : Mt := (ΛC P W, yX11_operator, cX11_operator, 6, none, 7, 480)
theorem ndBd_operator : yX11_operator.cls ≠ "java/lang/invoke/MethodHandle" ∧ yX11_operator.cls ≠ "java/lang/invoke/VarHandle" ∧ (parseMethodDescriptor yX11_operator.desc).map (fun d => d.parameters.length) = some 1 := by decide +kernel
theorem cmBd_operator (P W : Int) : CMv (MBd_operator P W) 1 := ⟨⟨q223, q1441, ndBd_operator⟩, q1440, qs57⟩
def MBd_assign (P W : Int) : Mt := (ΛC P W, yX11_assign, cX11_assign, 10, none, 6, 420)
theorem ndBd_assign : yX11_assign.cls ≠ "java/lang/invoke/MethodHandle" ∧ yX11_assign.cls ≠ "java/lang/invoke/VarHandle" ∧ (parseMethodDescriptor yX11_assign.desc).map (fun d => d.parameters.length) = some 1 := by decide +kernel
theorem cmBd_assign (P W : Int) : CMv (MBd_assign P W) 1 := ⟨⟨q223, q1598, ndBd_assign⟩, q1597, qs82⟩
def MBd_back (P W : Int) : Mt := (ΛC P W, yX11_back, cX11_back, 2, none, 2, 180)
theorem ndBd_back : yX11_back.cls ≠ "java/lang/invoke/MethodHandle" ∧ yX11_back.cls ≠ "java/lang/invoke/VarHandle" ∧ (parseMethodDescriptor yX11_back.desc).map (fun d => d.parameters.length) = some 0 := by decide +kernel
theorem cmBd_back (P W : Int) : CMv (MBd_back P W) 0 := ⟨⟨q223, q1586, ndBd_back⟩, q1585, qs79⟩
def MBd_input (P W : Int) : Mt := (ΛC P W, yX11_input, cX11_input, 5, none, 2, 180)
theorem ndBd_input : yX11_input.cls ≠ "java/lang/invoke/MethodHandle" ∧ yX11_input.cls ≠ "java/lang/invoke/VarHandle" ∧ (parseMethodDescriptor yX11_input.desc).map (fun d => d.parameters.length) = some 1 := by decide +kernel
theorem cmBd_input (P W : Int) : CMv (MBd_input P W) 1 := ⟨⟨q223, q1581, ndBd_input⟩, q1580, qs78⟩
def MBd_loop (P W : Int) : Mt := (ΛC P W, yX11_loop, cX11_loop, 7, none, 2, 180)
theorem ndBd_loop : yX11_loop.cls ≠ "java/lang/invoke/MethodHandle" ∧ yX11_loop.cls ≠ "java/lang/invoke/VarHandle" ∧ (parseMethodDescriptor yX11_loop.desc).map (fun d => d.parameters.length) = some 1 := by decide +kernel
theorem cmBd_loop (P W : Int) : CMv (MBd_loop P W) 1 := ⟨⟨q223, q1614, ndBd_loop⟩, q1613, qs86⟩
def MBd_merge (P W : Int) : Mt := (ΛC P W, yX11_merge, cX11_merge, 4, none, 5, 360)
theorem ndBd_merge : yX11_merge.cls ≠ "java/lang/invoke/MethodHandle" ∧ yX11_merge.cls ≠ "java/lang/invoke/VarHandle" ∧ (parseMethodDescriptor yX11_merge.desc).map (fun d => d.parameters.length) = some 0 := by decide +kernel
theorem cmBd_merge (P W : Int) : CMv (MBd_merge P W) 0 := ⟨⟨q223, q1610, ndBd_merge⟩, q1609, qs85⟩
def MBd_open (P W : Int) : Mt := (ΛC P W, yX11_open, cX11_open, 2, none, 2, 180)
theorem ndBd_open : yX11_open.cls ≠ "java/lang/invoke/MethodHandle" ∧ yX11_open.cls ≠ "java/lang/invoke/VarHandle" ∧ (parseMethodDescriptor yX11_open.desc).map (fun d => d.parameters.length) = some 1 := by decide +kernel
theorem cmBd_open (P W : Int) : CMv (MBd_open P W) 1 := ⟨⟨q223, q1602, ndBd_open⟩, q1601, qs83⟩
def MBd_output (P W : Int) : Mt := (ΛC P W, yX11_output, cX11_output, 3, none, 2, 180)
theorem ndBd_output : yX11_output.cls ≠ "java/lang/invoke/MethodHandle" ∧ yX11_output.cls ≠ "java/lang/invoke/VarHandle" ∧ (parseMethodDescriptor yX11_output.desc).map (fun d => d.parameters.length) = some 1 := by decide +kernel
theorem cmBd_output (P W : Int) : CMv (MBd_output P W) 1 := ⟨⟨q223, q1590, ndBd_output⟩, q1589, qs80⟩
def MBd_turnOver (P W : Int) : Mt := (ΛC P W, yX11_turnOver, cX11_turnOver, 2, none, 2, 180)
theorem ndBd_turnOver : yX11_turnOver.cls ≠ "java/lang/invoke/MethodHandle" ∧ yX11_turnOver.cls ≠ "java/lang/invoke/VarHandle" ∧ (parseMethodDescriptor yX11_turnOver.desc).map (fun d => d.parameters.length) = some 0 := by decide +kernel
theorem cmBd_turnOver (P W : Int) : CMv (MBd_turnOver P W) 0 := ⟨⟨q223, q1606, ndBd_turnOver⟩, q1605, qs84⟩
def MBd_variable (P W : Int) : Mt := (ΛC P W, yX11_variable, cX11_variable, 7, none, 2, 180)
theorem ndBd_variable : yX11_variable.cls ≠ "java/lang/invoke/MethodHandle" ∧ yX11_variable.cls ≠ "java/lang/invoke/VarHandle" ∧ (parseMethodDescriptor yX11_variable.desc).map (fun d => d.parameters.length) = some 1 := by decide +kernel
theorem cmBd_variable (P W : Int) : CMv (MBd_variable P W) 1 := ⟨⟨q223, q1594, ndBd_variable⟩, q1593, qs81⟩
def MBd_statement (P W : Int) : Mt := (ΛC P W, yX11_statement, cX11_statement, 3, none, 7, 480)
theorem ndBd_statement : yX11_statement.cls ≠ "java/lang/invoke/MethodHandle" ∧ yX11_statement.cls ≠ "java/lang/invoke/VarHandle" ∧ (parseMethodDescriptor yX11_statement.desc).map (fun d => d.parameters.length) = some 1 := by decide +kernel
theorem cmBd_statement (P W : Int) : CMv (MBd_statement P W) 1 := ⟨⟨q223, q1577, ndBd_statement⟩, q1576, qs77⟩
def MBd_step (P W : Int) : Mt := (ΛC P W, yX11_step, cX11_step, 3, none, 8, 540)
theorem ndBd_step : yX11_step.cls ≠ "java/lang/invoke/MethodHandle" ∧ yX11_step.cls ≠ "java/lang/invoke/VarHandle" ∧ (parseMethodDescriptor yX11_step.desc).map (fun d => d.parameters.length) = some 1 := by decide +kernel
theorem cmBd_step (P W : Int) : CMv (MBd_step P W) 1 := ⟨⟨q223, q1435, ndBd_step⟩, q1434, qs56⟩
def MCi_clear (P W : Int) : Mt := (ΛC P W, yX5_clear, cX5_clear, 2, none, 1, 120)
theorem ndCi_clear : yX5_clear.cls ≠ "java/lang/invoke/MethodHandle" ∧ yX5_clear.cls ≠ "java/lang/invoke/VarHandle" ∧ (parseMethodDescriptor yX5_clear.desc).map (fun d => d.parameters.length) = some 1 := by decide +kernel
theorem cmCi_clear (P W : Int) : CMv (MCi_clear P W) 1 := ⟨⟨q216, q1430, ndCi_clear⟩, q1428, q1429⟩
def MBd_build (P W : Int) : Mt := (ΛC P W, yX11_build, cX11_build, 3, none, 9, 600)
theorem ndBd_build : yX11_build.cls ≠ "java/lang/invoke/MethodHandle" ∧ yX11_build.cls ≠ "java/lang/invoke/VarHandle" ∧ (parseMethodDescriptor yX11_build.desc).map (fun d => d.parameters.length) = some 1 := by decide +kernel
theorem cmBd_build (P W : Int) : CMv (MBd_build P W) 1 := ⟨⟨q223, q1426, ndBd_build⟩, q1424, q1425⟩
def MCk_become (P W : Int) : Mt := (ΛC P W, yX9_become, cX9_become, 3, none, 1, 120)
theorem ndCk_become : yX9_become.cls ≠ "java/lang/invoke/MethodHandle" ∧ yX9_become.cls ≠ "java/lang/invoke/VarHandle" ∧ (parseMethodDescriptor yX9_become.desc).map (fun d => d.parameters.length) = some 2 := by decide +kernel
theorem cmCk_become (P W : Int) : CMv (MCk_become P W) 2 := ⟨⟨q221, q1335, ndCk_become⟩, q1334, qs39⟩
def MCk_push (P W : Int) : Mt := (ΛC P W, yX9_push, cX9_push, 4, none, 1, 120)
theorem ndCk_push : yX9_push.cls ≠ "java/lang/invoke/MethodHandle" ∧ yX9_push.cls ≠ "java/lang/invoke/VarHandle" ∧ (parseMethodDescriptor yX9_push.desc).map (fun d => d.parameters.length) = some 3 := by decide +kernel
theorem cmCk_push (P W : Int) : CMv (MCk_push P W) 3 := ⟨⟨q221, q1360, ndCk_push⟩, q1359, qs42⟩
def MSc_find (P W : Int) : Mt := (ΛC P W, yX10_find, cX10_find, 4, (some .int), 1, 120)
theorem ndSc_find : yX10_find.cls ≠ "java/lang/invoke/MethodHandle" ∧ yX10_find.cls ≠ "java/lang/invoke/VarHandle" ∧ (parseMethodDescriptor yX10_find.desc).map (fun d => d.parameters.length) = some 2 := by decide +kernel
theorem cmSc_find (P W : Int) : CMv (MSc_find P W) 2 := ⟨⟨q222, q1372, ndSc_find⟩, q1370, q1371⟩
def MCk_endCall (P W : Int) : Mt := (ΛC P W, yX9_endCall, cX9_endCall, 3, none, 2, 180)
theorem ndCk_endCall : yX9_endCall.cls ≠ "java/lang/invoke/MethodHandle" ∧ yX9_endCall.cls ≠ "java/lang/invoke/VarHandle" ∧ (parseMethodDescriptor yX9_endCall.desc).map (fun d => d.parameters.length) = some 1 := by decide +kernel
theorem cmCk_endCall (P W : Int) : CMv (MCk_endCall P W) 1 := ⟨⟨q221, q1380, ndCk_endCall⟩, q1379, qs46⟩
def MCk_index (P W : Int) : Mt := (ΛC P W, yX9_index, cX9_index, 3, none, 2, 180)
theorem ndCk_index : yX9_index.cls ≠ "java/lang/invoke/MethodHandle" ∧ yX9_index.cls ≠ "java/lang/invoke/VarHandle" ∧ (parseMethodDescriptor yX9_index.desc).map (fun d => d.parameters.length) = some 1 := by decide +kernel
theorem cmCk_index (P W : Int) : CMv (MCk_index P W) 1 := ⟨⟨q221, q1376, ndCk_index⟩, q1375, qs45⟩
def MCk_need (P W : Int) : Mt := (ΛC P W, yX9_need, cX9_need, 3, none, 2, 180)
theorem ndCk_need : yX9_need.cls ≠ "java/lang/invoke/MethodHandle" ∧ yX9_need.cls ≠ "java/lang/invoke/VarHandle" ∧ (parseMethodDescriptor yX9_need.desc).map (fun d => d.parameters.length) = some 2 := by decide +kernel
theorem cmCk_need (P W : Int) : CMv (MCk_need P W) 2 := ⟨⟨q221, q1330, ndCk_need⟩, q1329, qs38⟩
def MCk_visible (P W : Int) : Mt := (ΛC P W, yX9_visible, cX9_visible, 4, (some .int), 2, 180)
theorem ndCk_visible : yX9_visible.cls ≠ "java/lang/invoke/MethodHandle" ∧ yX9_visible.cls ≠ "java/lang/invoke/VarHandle" ∧ (parseMethodDescriptor yX9_visible.desc).map (fun d => d.parameters.length) = some 2 := by decide +kernel
theorem cmCk_visible (P W : Int) : CMv (MCk_visible P W) 2 := ⟨⟨q221, q1368, ndCk_visible⟩, q1367, qs44⟩
def MCk_read (P W : Int) : Mt := (ΛC P W, yX9_read, cX9_read, 3, none, 3, 240)
theorem ndCk_read : yX9_read.cls ≠ "java/lang/invoke/MethodHandle" ∧ yX9_read.cls ≠ "java/lang/invoke/VarHandle" ∧ (parseMethodDescriptor yX9_read.desc).map (fun d => d.parameters.length) = some 1 := by decide +kernel
theorem cmCk_read (P W : Int) : CMv (MCk_read P W) 1 := ⟨⟨q221, q1364, ndCk_read⟩, q1363, qs43⟩
def MCk_factor (P W : Int) : Mt := (ΛC P W, yX9_factor, cX9_factor, 7, none, 4, 300)
theorem ndCk_factor : yX9_factor.cls ≠ "java/lang/invoke/MethodHandle" ∧ yX9_factor.cls ≠ "java/lang/invoke/VarHandle" ∧ (parseMethodDescriptor yX9_factor.desc).map (fun d => d.parameters.length) = some 1 := by decide +kernel
theorem cmCk_factor (P W : Int) : CMv (MCk_factor P W) 1 := ⟨⟨q221, q1356, ndCk_factor⟩, q1355, qs41⟩
def MCk_two (P W : Int) : Mt := (ΛC P W, yX9_two, cX9_two, 10, none, 3, 240)
theorem ndCk_two : yX9_two.cls ≠ "java/lang/invoke/MethodHandle" ∧ yX9_two.cls ≠ "java/lang/invoke/VarHandle" ∧ (parseMethodDescriptor yX9_two.desc).map (fun d => d.parameters.length) = some 1 := by decide +kernel
theorem cmCk_two (P W : Int) : CMv (MCk_two P W) 1 := ⟨⟨q221, q1339, ndCk_two⟩, q1338, qs40⟩
def MCk_operator (P W : Int) : Mt := (ΛC P W, yX9_operator, cX9_operator, 5, none, 4, 300)
theorem ndCk_operator : yX9_operator.cls ≠ "java/lang/invoke/MethodHandle" ∧ yX9_operator.cls ≠ "java/lang/invoke/VarHandle" ∧ (parseMethodDescriptor yX9_operator.desc).map (fun d => d.parameters.length) = some 1 := by decide +kernel
theorem cmCk_operator (P W : Int) : CMv (MCk_operator P W) 1 := ⟨⟨q221, q1326, ndCk_operator⟩, q1325, qs37⟩
def MCk_assign (P W : Int) : Mt := (ΛC P W, yX9_assign, cX9_assign, 4, none, 3, 240)
theorem ndCk_assign : yX9_assign.cls ≠ "java/lang/invoke/MethodHandle" ∧ yX9_assign.cls ≠ "java/lang/invoke/VarHandle" ∧ (parseMethodDescriptor yX9_assign.desc).map (fun d => d.parameters.length) = some 1 := by decide +kernel
theorem cmCk_assign (P W : Int) : CMv (MCk_assign P W) 1 := ⟨⟨q221, q1414, ndCk_assign⟩, q1413, qs53⟩
def MCk_comesIn (P W : Int) : Mt := (ΛC P W, yX9_comesIn, cX9_comesIn, 3, none, 2, 180)
theorem ndCk_comesIn : yX9_comesIn.cls ≠ "java/lang/invoke/MethodHandle" ∧ yX9_comesIn.cls ≠ "java/lang/invoke/VarHandle" ∧ (parseMethodDescriptor yX9_comesIn.desc).map (fun d => d.parameters.length) = some 2 := by decide +kernel
theorem cmCk_comesIn (P W : Int) : CMv (MCk_comesIn P W) 2 := ⟨⟨q221, q1392, ndCk_comesIn⟩, q1391, qs49⟩
def MSc_add (P W : Int) : Mt := (ΛC P W, yX10_add, cX10_add, 6, none, 1, 120)
theorem ndSc_add : yX10_add.cls ≠ "java/lang/invoke/MethodHandle" ∧ yX10_add.cls ≠ "java/lang/invoke/VarHandle" ∧ (parseMethodDescriptor yX10_add.desc).map (fun d => d.parameters.length) = some 5 := by decide +kernel
theorem cmSc_add (P W : Int) : CMv (MSc_add P W) 5 := ⟨⟨q222, q1396, ndSc_add⟩, q1394, q1395⟩
def MCk_endDef (P W : Int) : Mt := (ΛC P W, yX9_endDef, cX9_endDef, 2, none, 3, 240)
theorem ndCk_endDef : yX9_endDef.cls ≠ "java/lang/invoke/MethodHandle" ∧ yX9_endDef.cls ≠ "java/lang/invoke/VarHandle" ∧ (parseMethodDescriptor yX9_endDef.desc).map (fun d => d.parameters.length) = some 1 := by decide +kernel
theorem cmCk_endDef (P W : Int) : CMv (MCk_endDef P W) 1 := ⟨⟨q221, q1401, ndCk_endDef⟩, q1400, qs50⟩
def MCk_endVar (P W : Int) : Mt := (ΛC P W, yX9_endVar, cX9_endVar, 4, none, 3, 240)
theorem ndCk_endVar : yX9_endVar.cls ≠ "java/lang/invoke/MethodHandle" ∧ yX9_endVar.cls ≠ "java/lang/invoke/VarHandle" ∧ (parseMethodDescriptor yX9_endVar.desc).map (fun d => d.parameters.length) = some 1 := by decide +kernel
theorem cmCk_endVar (P W : Int) : CMv (MCk_endVar P W) 1 := ⟨⟨q221, q1405, ndCk_endVar⟩, q1404, qs51⟩
def MCk_input (P W : Int) : Mt := (ΛC P W, yX9_input, cX9_input, 4, none, 3, 240)
theorem ndCk_input : yX9_input.cls ≠ "java/lang/invoke/MethodHandle" ∧ yX9_input.cls ≠ "java/lang/invoke/VarHandle" ∧ (parseMethodDescriptor yX9_input.desc).map (fun d => d.parameters.length) = some 1 := by decide +kernel
theorem cmCk_input (P W : Int) : CMv (MCk_input P W) 1 := ⟨⟨q221, q1388, ndCk_input⟩, q1387, qs48⟩
def MCk_mark (P W : Int) : Mt := (ΛC P W, yX9_mark, cX9_mark, 1, none, 1, 120)
theorem ndCk_mark : yX9_mark.cls ≠ "java/lang/invoke/MethodHandle" ∧ yX9_mark.cls ≠ "java/lang/invoke/VarHandle" ∧ (parseMethodDescriptor yX9_mark.desc).map (fun d => d.parameters.length) = some 0 := by decide +kernel
theorem cmCk_mark (P W : Int) : CMv (MCk_mark P W) 0 := ⟨⟨q221, q1418, ndCk_mark⟩, q1417, qs54⟩
def MCk_release (P W : Int) : Mt := (ΛC P W, yX9_release, cX9_release, 1, none, 1, 120)
theorem ndCk_release : yX9_release.cls ≠ "java/lang/invoke/MethodHandle" ∧ yX9_release.cls ≠ "java/lang/invoke/VarHandle" ∧ (parseMethodDescriptor yX9_release.desc).map (fun d => d.parameters.length) = some 0 := by decide +kernel
theorem cmCk_release (P W : Int) : CMv (MCk_release P W) 0 := ⟨⟨q221, q1422, ndCk_release⟩, q1421, qs55⟩
def MCk_target (P W : Int) : Mt := (ΛC P W, yX9_target, cX9_target, 4, none, 3, 240)
theorem ndCk_target : yX9_target.cls ≠ "java/lang/invoke/MethodHandle" ∧ yX9_target.cls ≠ "java/lang/invoke/VarHandle" ∧ (parseMethodDescriptor yX9_target.desc).map (fun d => d.parameters.length) = some 1 := by decide +kernel
theorem cmCk_target (P W : Int) : CMv (MCk_target P W) 1 := ⟨⟨q221, q1409, ndCk_target⟩, q1408, qs52⟩
def MCk_statement (P W : Int) : Mt := (ΛC P W, yX9_statement, cX9_statement, 4, none, 4, 300)
theorem ndCk_statement : yX9_statement.cls ≠ "java/lang/invoke/MethodHandle" ∧ yX9_statement.cls ≠ "java/lang/invoke/VarHandle" ∧ (parseMethodDescriptor yX9_statement.desc).map (fun d => d.parameters.length) = some 1 := by decide +kernel
theorem cmCk_statement (P W : Int) : CMv (MCk_statement P W) 1 := ⟨⟨q221, q1384, ndCk_statement⟩, q1383, qs47⟩
def MCk_step (P W : Int) : Mt := (ΛC P W, yX9_step, cX9_step, 3, none, 5, 360)
theorem ndCk_step : yX9_step.cls ≠ "java/lang/invoke/MethodHandle" ∧ yX9_step.cls ≠ "java/lang/invoke/VarHandle" ∧ (parseMethodDescriptor yX9_step.desc).map (fun d => d.parameters.length) = some 1 := by decide +kernel
theorem cmCk_step (P W : Int) : CMv (MCk_step P W) 1 := ⟨⟨q221, q1315, ndCk_step⟩, q1314, qs36⟩
def MCk_check (P W : Int) : Mt := (ΛC P W, yX9_check, cX9_check, 2, none, 6, 420)
theorem ndCk_check : yX9_check.cls ≠ "java/lang/invoke/MethodHandle" ∧ yX9_check.cls ≠ "java/lang/invoke/VarHandle" ∧ (parseMethodDescriptor yX9_check.desc).map (fun d => d.parameters.length) = some 0 := by decide +kernel
theorem cmCk_check (P W : Int) : CMv (MCk_check P W) 0 := ⟨⟨q221, q1310, ndCk_check⟩, q1308, q1309⟩
def MCd_clear (P W : Int) : Mt := (ΛC P W, yX2_clear, cX2_clear, 1, none, 1, 120)
theorem ndCd_clear : yX2_clear.cls ≠ "java/lang/invoke/MethodHandle" ∧ yX2_clear.cls ≠ "java/lang/invoke/VarHandle" ∧ (parseMethodDescriptor yX2_clear.desc).map (fun d => d.parameters.length) = some 0 := by decide +kernel
theorem cmCd_clear (P W : Int) : CMv (MCd_clear P W) 0 := ⟨⟨q213, q945, ndCd_clear⟩, q943, q944⟩
def MFt_clear (P W : Int) : Mt := (ΛC P W, yX4_clear, cX4_clear, 1, none, 1, 120)
theorem ndFt_clear : yX4_clear.cls ≠ "java/lang/invoke/MethodHandle" ∧ yX4_clear.cls ≠ "java/lang/invoke/VarHandle" ∧ (parseMethodDescriptor yX4_clear.desc).map (fun d => d.parameters.length) = some 0 := by decide +kernel
theorem cmFt_clear (P W : Int) : CMv (MFt_clear P W) 0 := ⟨⟨q215, q846, ndFt_clear⟩, q844, q845⟩
def MNm_clear (P W : Int) : Mt := (ΛC P W, yX3_clear, cX3_clear, 1, none, 1, 120)
theorem ndNm_clear : yX3_clear.cls ≠ "java/lang/invoke/MethodHandle" ∧ yX3_clear.cls ≠ "java/lang/invoke/VarHandle" ∧ (parseMethodDescriptor yX3_clear.desc).map (fun d => d.parameters.length) = some 0 := by decide +kernel
theorem cmNm_clear (P W : Int) : CMv (MNm_clear P W) 0 := ⟨⟨q214, q941, ndNm_clear⟩, q939, q940⟩
def MPl_sort (P W : Int) : Mt := (ΛC P W, yX13_sort, cX13_sort, 3, none, 1, 120)
theorem ndPl_sort : yX13_sort.cls ≠ "java/lang/invoke/MethodHandle" ∧ yX13_sort.cls ≠ "java/lang/invoke/VarHandle" ∧ (parseMethodDescriptor yX13_sort.desc).map (fun d => d.parameters.length) = some 0 := by decide +kernel
theorem cmPl_sort (P W : Int) : CMv (MPl_sort P W) 0 := ⟨⟨q225, q1623, ndPl_sort⟩, q1622, qs87⟩
def MPl_make (P W : Int) : Mt := (ΛC P W, yX13_make, cX13_make, 5, none, 2, 180)
theorem ndPl_make : yX13_make.cls ≠ "java/lang/invoke/MethodHandle" ∧ yX13_make.cls ≠ "java/lang/invoke/VarHandle" ∧ (parseMethodDescriptor yX13_make.desc).map (fun d => d.parameters.length) = some 0 := by decide +kernel
theorem cmPl_make (P W : Int) : CMv (MPl_make P W) 0 := ⟨⟨q225, q1619, ndPl_make⟩, q1617, q1618⟩
def MCd_add (P W : Int) : Mt := (ΛC P W, yX2_add, cX2_add, 5, (some .int), 1, 120)
theorem ndCd_add : yX2_add.cls ≠ "java/lang/invoke/MethodHandle" ∧ yX2_add.cls ≠ "java/lang/invoke/VarHandle" ∧ (parseMethodDescriptor yX2_add.desc).map (fun d => d.parameters.length) = some 4 := by decide +kernel
theorem cmCd_add (P W : Int) : CMv (MCd_add P W) 4 := ⟨⟨q213, q1108, ndCd_add⟩, q1106, q1107⟩
def MRd_enter (P W : Int) : Mt := (ΛC P W, yX8_enter, cX8_enter, 2, none, 2, 180)
theorem ndRd_enter : yX8_enter.cls ≠ "java/lang/invoke/MethodHandle" ∧ yX8_enter.cls ≠ "java/lang/invoke/VarHandle" ∧ (parseMethodDescriptor yX8_enter.desc).map (fun d => d.parameters.length) = some 1 := by decide +kernel
theorem cmRd_enter (P W : Int) : CMv (MRd_enter P W) 1 := ⟨⟨q220, q1136, ndRd_enter⟩, q1135, qs22⟩
def MRd_look (P W : Int) : Mt := (ΛC P W, yX8_look, cX8_look, 2, (some .int), 1, 120)
theorem ndRd_look : yX8_look.cls ≠ "java/lang/invoke/MethodHandle" ∧ yX8_look.cls ≠ "java/lang/invoke/VarHandle" ∧ (parseMethodDescriptor yX8_look.desc).map (fun d => d.parameters.length) = some 1 := by decide +kernel
theorem cmRd_look (P W : Int) : CMv (MRd_look P W) 1 := ⟨⟨q220, q1078, ndRd_look⟩, q1077, qs11⟩
def MRd_skip (P W : Int) : Mt := (ΛC P W, yX8_skip, cX8_skip, 2, none, 1, 120)
theorem ndRd_skip : yX8_skip.cls ≠ "java/lang/invoke/MethodHandle" ∧ yX8_skip.cls ≠ "java/lang/invoke/VarHandle" ∧ (parseMethodDescriptor yX8_skip.desc).map (fun d => d.parameters.length) = some 0 := by decide +kernel
theorem cmRd_skip (P W : Int) : CMv (MRd_skip P W) 0 := ⟨⟨q220, q954, ndRd_skip⟩, q953, qs0⟩
def MRd_isSign (P W : Int) : Mt := (ΛC P W, yX8_isSign, cX8_isSign, 2, (some .boolean), 2, 180)
theorem ndRd_isSign : yX8_isSign.cls ≠ "java/lang/invoke/MethodHandle" ∧ yX8_isSign.cls ≠ "java/lang/invoke/VarHandle" ∧ (parseMethodDescriptor yX8_isSign.desc).map (fun d => d.parameters.length) = some 1 := by decide +kernel
theorem cmRd_isSign (P W : Int) : CMv (MRd_isSign P W) 1 := ⟨⟨q220, q1092, ndRd_isSign⟩, q1091, qs14⟩
def MRd_bad (P W : Int) : Mt := (ΛC P W, yX8_bad, cX8_bad, 1, none, 2, 180)
theorem ndRd_bad : yX8_bad.cls ≠ "java/lang/invoke/MethodHandle" ∧ yX8_bad.cls ≠ "java/lang/invoke/VarHandle" ∧ (parseMethodDescriptor yX8_bad.desc).map (fun d => d.parameters.length) = some 0 := by decide +kernel
theorem cmRd_bad (P W : Int) : CMv (MRd_bad P W) 0 := ⟨⟨q220, q1053, ndRd_bad⟩, q1052, qs7⟩
def MRd_isAlone (P W : Int) : Mt := (ΛC P W, yX8_isAlone, cX8_isAlone, 3, (some .boolean), 3, 240)
theorem ndRd_isAlone : yX8_isAlone.cls ≠ "java/lang/invoke/MethodHandle" ∧ yX8_isAlone.cls ≠ "java/lang/invoke/VarHandle" ∧ (parseMethodDescriptor yX8_isAlone.desc).map (fun d => d.parameters.length) = some 2 := by decide +kernel
theorem cmRd_isAlone (P W : Int) : CMv (MRd_isAlone P W) 2 := ⟨⟨q220, q1088, ndRd_isAlone⟩, q1087, qs13⟩
def MRd_sign (P W : Int) : Mt := (ΛC P W, yX8_sign, cX8_sign, 3, none, 4, 300)
theorem ndRd_sign : yX8_sign.cls ≠ "java/lang/invoke/MethodHandle" ∧ yX8_sign.cls ≠ "java/lang/invoke/VarHandle" ∧ (parseMethodDescriptor yX8_sign.desc).map (fun d => d.parameters.length) = some 1 := by decide +kernel
theorem cmRd_sign (P W : Int) : CMv (MRd_sign P W) 1 := ⟨⟨q220, q1084, ndRd_sign⟩, q1083, qs12⟩
def MRd_is (P W : Int) : Mt := (ΛC P W, yX8_is, cX8_is, 4, none, 1, 120)
theorem ndRd_is : yX8_is.cls ≠ "java/lang/invoke/MethodHandle" ∧ yX8_is.cls ≠ "java/lang/invoke/VarHandle" ∧ (parseMethodDescriptor yX8_is.desc).map (fun d => d.parameters.length) = some 3 := by decide +kernel
theorem cmRd_is (P W : Int) : CMv (MRd_is P W) 3 := ⟨⟨q220, q1201, ndRd_is⟩, q1200, qs28⟩
def MRd_findOperator (P W : Int) : Mt := (ΛC P W, yX8_findOperator, cX8_findOperator, 3, none, 2, 180)
theorem ndRd_findOperator : yX8_findOperator.cls ≠ "java/lang/invoke/MethodHandle" ∧ yX8_findOperator.cls ≠ "java/lang/invoke/VarHandle" ∧ (parseMethodDescriptor yX8_findOperator.desc).map (fun d => d.parameters.length) = some 0 := by decide +kernel
theorem cmRd_findOperator (P W : Int) : CMv (MRd_findOperator P W) 0 := ⟨⟨q220, q1195, ndRd_findOperator⟩, q1194, qs27⟩
def MRd_isDigit (P W : Int) : Mt := (ΛC P W, yX8_isDigit, cX8_isDigit, 1, (some .boolean), 1, 120)
theorem ndRd_isDigit : yX8_isDigit.cls ≠ "java/lang/invoke/MethodHandle" ∧ yX8_isDigit.cls ≠ "java/lang/invoke/VarHandle" ∧ (parseMethodDescriptor yX8_isDigit.desc).map (fun d => d.parameters.length) = some 1 := by decide +kernel
theorem cmRd_isDigit (P W : Int) : CMs (MRd_isDigit P W) 1 := ⟨⟨q220, q987, ndRd_isDigit⟩, q986⟩
def MRd_isLetter (P W : Int) : Mt := (ΛC P W, yX8_isLetter, cX8_isLetter, 1, (some .boolean), 1, 120)
theorem ndRd_isLetter : yX8_isLetter.cls ≠ "java/lang/invoke/MethodHandle" ∧ yX8_isLetter.cls ≠ "java/lang/invoke/VarHandle" ∧ (parseMethodDescriptor yX8_isLetter.desc).map (fun d => d.parameters.length) = some 1 := by decide +kernel
theorem cmRd_isLetter (P W : Int) : CMs (MRd_isLetter P W) 1 := ⟨⟨q220, q984, ndRd_isLetter⟩, q983⟩
def MRd_wordEnd (P W : Int) : Mt := (ΛC P W, yX8_wordEnd, cX8_wordEnd, 2, (some .int), 2, 180)
theorem ndRd_wordEnd : yX8_wordEnd.cls ≠ "java/lang/invoke/MethodHandle" ∧ yX8_wordEnd.cls ≠ "java/lang/invoke/VarHandle" ∧ (parseMethodDescriptor yX8_wordEnd.desc).map (fun d => d.parameters.length) = some 0 := by decide +kernel
theorem cmRd_wordEnd (P W : Int) : CMv (MRd_wordEnd P W) 0 := ⟨⟨q220, q981, ndRd_wordEnd⟩, q980, qs3⟩
def MRd_isWord (P W : Int) : Mt := (ΛC P W, yX8_isWord, cX8_isWord, 4, (some .boolean), 7, 480)
theorem ndRd_isWord : yX8_isWord.cls ≠ "java/lang/invoke/MethodHandle" ∧ yX8_isWord.cls ≠ "java/lang/invoke/VarHandle" ∧ (parseMethodDescriptor yX8_isWord.desc).map (fun d => d.parameters.length) = some 1 := by decide +kernel
theorem cmRd_isWord (P W : Int) : CMv (MRd_isWord P W) 1 := ⟨⟨q220, q967, ndRd_isWord⟩, q966, qs2⟩
def MRd_number (P W : Int) : Mt := (ΛC P W, yX8_number, cX8_number, 8, (some .int), 3, 240)
theorem ndRd_number : yX8_number.cls ≠ "java/lang/invoke/MethodHandle" ∧ yX8_number.cls ≠ "java/lang/invoke/VarHandle" ∧ (parseMethodDescriptor yX8_number.desc).map (fun d => d.parameters.length) = some 2 := by decide +kernel
theorem cmRd_number (P W : Int) : CMv (MRd_number P W) 2 := ⟨⟨q220, q1074, ndRd_number⟩, q1073, qs10⟩
def MNm_is (P W : Int) : Mt := (ΛC P W, yX3_is, cX3_is, 6, (some .boolean), 1, 120)
theorem ndNm_is : yX3_is.cls ≠ "java/lang/invoke/MethodHandle" ∧ yX3_is.cls ≠ "java/lang/invoke/VarHandle" ∧ (parseMethodDescriptor yX3_is.desc).map (fun d => d.parameters.length) = some 4 := by decide +kernel
theorem cmNm_is (P W : Int) : CMv (MNm_is P W) 4 := ⟨⟨q214, q1065, ndNm_is⟩, q1064, qs8⟩
def MNm_number (P W : Int) : Mt := (ΛC P W, yX3_number, cX3_number, 5, (some .int), 2, 180)
theorem ndNm_number : yX3_number.cls ≠ "java/lang/invoke/MethodHandle" ∧ yX3_number.cls ≠ "java/lang/invoke/VarHandle" ∧ (parseMethodDescriptor yX3_number.desc).map (fun d => d.parameters.length) = some 3 := by decide +kernel
theorem cmNm_number (P W : Int) : CMv (MNm_number P W) 3 := ⟨⟨q214, q1061, ndNm_number⟩, q1059, q1060⟩
def MRd_isKeyword (P W : Int) : Mt := (ΛC P W, yX8_isKeyword, cX8_isKeyword, 1, (some .boolean), 8, 540)
theorem ndRd_isKeyword : yX8_isKeyword.cls ≠ "java/lang/invoke/MethodHandle" ∧ yX8_isKeyword.cls ≠ "java/lang/invoke/VarHandle" ∧ (parseMethodDescriptor yX8_isKeyword.desc).map (fun d => d.parameters.length) = some 0 := by decide +kernel
theorem cmRd_isKeyword (P W : Int) : CMv (MRd_isKeyword P W) 0 := ⟨⟨q220, q1037, ndRd_isKeyword⟩, q1036, qs6⟩
def MRd_name (P W : Int) : Mt := (ΛC P W, yX8_name, cX8_name, 3, (some .int), 9, 600)
theorem ndRd_name : yX8_name.cls ≠ "java/lang/invoke/MethodHandle" ∧ yX8_name.cls ≠ "java/lang/invoke/VarHandle" ∧ (parseMethodDescriptor yX8_name.desc).map (fun d => d.parameters.length) = some 0 := by decide +kernel
theorem cmRd_name (P W : Int) : CMv (MRd_name P W) 0 := ⟨⟨q220, q1033, ndRd_name⟩, q1032, qs5⟩
def MRd_expr (P W : Int) (d : Nat) : Mt := (ΛC P W, yX8_expr, cX8_expr, 3, none, 10 + d, 60 * (10 + d) + 60)
theorem ndRd_expr : yX8_expr.cls ≠ "java/lang/invoke/MethodHandle" ∧ yX8_expr.cls ≠ "java/lang/invoke/VarHandle" ∧ (parseMethodDescriptor yX8_expr.desc).map (fun d => d.parameters.length) = some 0 := by decide +kernel
theorem cmRd_expr (P W : Int) (d : Nat) : CMv (MRd_expr P W d) 0 := ⟨⟨q220, q1124, ndRd_expr⟩, q1123, qs19⟩
def MRd_row (P W : Int) (d : Nat) : Mt := (ΛC P W, yX8_row, cX8_row, 6, none, 10 + d, 60 * (10 + d) + 60)
theorem ndRd_row : yX8_row.cls ≠ "java/lang/invoke/MethodHandle" ∧ yX8_row.cls ≠ "java/lang/invoke/VarHandle" ∧ (parseMethodDescriptor yX8_row.desc).map (fun d => d.parameters.length) = some 1 := by decide +kernel
theorem cmRd_row (P W : Int) (d : Nat) : CMv (MRd_row P W d) 1 := ⟨⟨q220, q1128, ndRd_row⟩, q1127, qs20⟩
def MRd_factor (P W : Int) (d : Nat) : Mt := (ΛC P W, yX8_factor, cX8_factor, 5, none, 10 + d, 60 * (10 + d) + 60)
theorem ndRd_factor : yX8_factor.cls ≠ "java/lang/invoke/MethodHandle" ∧ yX8_factor.cls ≠ "java/lang/invoke/VarHandle" ∧ (parseMethodDescriptor yX8_factor.desc).map (fun d => d.parameters.length) = some 0 := by decide +kernel
theorem cmRd_factor (P W : Int) (d : Nat) : CMv (MRd_factor P W d) 0 := ⟨⟨q220, q1132, ndRd_factor⟩, q1131, qs21⟩
def MRd_around (P W : Int) (d : Nat) : Mt := (ΛC P W, yX8_around, cX8_around, 1, none, 10 + d, 60 * (10 + d) + 60)
theorem ndRd_around : yX8_around.cls ≠ "java/lang/invoke/MethodHandle" ∧ yX8_around.cls ≠ "java/lang/invoke/VarHandle" ∧ (parseMethodDescriptor yX8_around.desc).map (fun d => d.parameters.length) = some 0 := by decide +kernel
theorem cmRd_around (P W : Int) (d : Nat) : CMv (MRd_around P W d) 0 := ⟨⟨q220, q1148, ndRd_around⟩, q1147, qs23⟩
def MRd_bitOf (P W : Int) (d : Nat) : Mt := (ΛC P W, yX8_bitOf, cX8_bitOf, 3, none, 10 + d, 60 * (10 + d) + 60)
theorem ndRd_bitOf : yX8_bitOf.cls ≠ "java/lang/invoke/MethodHandle" ∧ yX8_bitOf.cls ≠ "java/lang/invoke/VarHandle" ∧ (parseMethodDescriptor yX8_bitOf.desc).map (fun d => d.parameters.length) = some 1 := by decide +kernel
theorem cmRd_bitOf (P W : Int) (d : Nat) : CMv (MRd_bitOf P W d) 1 := ⟨⟨q220, q1165, ndRd_bitOf⟩, q1164, qs24⟩
def MRd_named (P W : Int) (d : Nat) : Mt := (ΛC P W, yX8_named, cX8_named, 4, none, 10 + d, 60 * (10 + d) + 60)
theorem ndRd_named : yX8_named.cls ≠ "java/lang/invoke/MethodHandle" ∧ yX8_named.cls ≠ "java/lang/invoke/VarHandle" ∧ (parseMethodDescriptor yX8_named.desc).map (fun d => d.parameters.length) = some 1 := by decide +kernel
theorem cmRd_named (P W : Int) (d : Nat) : CMv (MRd_named P W d) 1 := ⟨⟨q220, q1175, ndRd_named⟩, q1174, qs25⟩
def MRd_call (P W : Int) (d : Nat) : Mt := (ΛC P W, yX8_call, cX8_call, 7, none, 10 + d, 60 * (10 + d) + 60)
theorem ndRd_call : yX8_call.cls ≠ "java/lang/invoke/MethodHandle" ∧ yX8_call.cls ≠ "java/lang/invoke/VarHandle" ∧ (parseMethodDescriptor yX8_call.desc).map (fun d => d.parameters.length) = some 2 := by decide +kernel
theorem cmRd_call (P W : Int) (d : Nat) : CMv (MRd_call P W d) 2 := ⟨⟨q220, q1183, ndRd_call⟩, q1182, qs26⟩
def MRd_sort (P W : Int) : Mt := (ΛC P W, yX8_sort, cX8_sort, 2, (some .int), 8, 540)
theorem ndRd_sort : yX8_sort.cls ≠ "java/lang/invoke/MethodHandle" ∧ yX8_sort.cls ≠ "java/lang/invoke/VarHandle" ∧ (parseMethodDescriptor yX8_sort.desc).map (fun d => d.parameters.length) = some 0 := by decide +kernel
theorem cmRd_sort (P W : Int) : CMv (MRd_sort P W) 0 := ⟨⟨q220, q1100, ndRd_sort⟩, q1099, qs16⟩
def MRd_params (P W : Int) : Mt := (ΛC P W, yX8_params, cX8_params, 5, none, 10, 660)
theorem ndRd_params : yX8_params.cls ≠ "java/lang/invoke/MethodHandle" ∧ yX8_params.cls ≠ "java/lang/invoke/VarHandle" ∧ (parseMethodDescriptor yX8_params.desc).map (fun d => d.parameters.length) = some 0 := by decide +kernel
theorem cmRd_params (P W : Int) : CMv (MRd_params P W) 0 := ⟨⟨q220, q1118, ndRd_params⟩, q1117, qs18⟩
def MRd_def (P W : Int) : Mt := (ΛC P W, yX8_def, cX8_def, 5, none, 611, 36720)
theorem ndRd_def : yX8_def.cls ≠ "java/lang/invoke/MethodHandle" ∧ yX8_def.cls ≠ "java/lang/invoke/VarHandle" ∧ (parseMethodDescriptor yX8_def.desc).map (fun d => d.parameters.length) = some 0 := by decide +kernel
theorem cmRd_def (P W : Int) : CMv (MRd_def P W) 0 := ⟨⟨q220, q1112, ndRd_def⟩, q1111, qs17⟩
def MRd_type (P W : Int) : Mt := (ΛC P W, yX8_type, cX8_type, 1, none, 9, 600)
theorem ndRd_type : yX8_type.cls ≠ "java/lang/invoke/MethodHandle" ∧ yX8_type.cls ≠ "java/lang/invoke/VarHandle" ∧ (parseMethodDescriptor yX8_type.desc).map (fun d => d.parameters.length) = some 0 := by decide +kernel
theorem cmRd_type (P W : Int) : CMv (MRd_type P W) 0 := ⟨⟨q220, q1096, ndRd_type⟩, q1095, qs15⟩
def MRd_word (P W : Int) : Mt := (ΛC P W, yX8_word, cX8_word, 2, none, 8, 540)
theorem ndRd_word : yX8_word.cls ≠ "java/lang/invoke/MethodHandle" ∧ yX8_word.cls ≠ "java/lang/invoke/VarHandle" ∧ (parseMethodDescriptor yX8_word.desc).map (fun d => d.parameters.length) = some 1 := by decide +kernel
theorem cmRd_word (P W : Int) : CMv (MRd_word P W) 1 := ⟨⟨q220, q1070, ndRd_word⟩, q1069, qs9⟩
def MRd_input (P W : Int) : Mt := (ΛC P W, yX8_input, cX8_input, 5, none, 10, 660)
theorem ndRd_input : yX8_input.cls ≠ "java/lang/invoke/MethodHandle" ∧ yX8_input.cls ≠ "java/lang/invoke/VarHandle" ∧ (parseMethodDescriptor yX8_input.desc).map (fun d => d.parameters.length) = some 0 := by decide +kernel
theorem cmRd_input (P W : Int) : CMv (MRd_input P W) 0 := ⟨⟨q220, q1029, ndRd_input⟩, q1028, qs4⟩
def MRd_output (P W : Int) : Mt := (ΛC P W, yX8_output, cX8_output, 2, none, 611, 36720)
theorem ndRd_output : yX8_output.cls ≠ "java/lang/invoke/MethodHandle" ∧ yX8_output.cls ≠ "java/lang/invoke/VarHandle" ∧ (parseMethodDescriptor yX8_output.desc).map (fun d => d.parameters.length) = some 0 := by decide +kernel
theorem cmRd_output (P W : Int) : CMv (MRd_output P W) 0 := ⟨⟨q220, q1245, ndRd_output⟩, q1244, qs29⟩
def MRd_assignment (P W : Int) : Mt := (ΛC P W, yX8_assignment, cX8_assignment, 5, none, 611, 36720)
theorem ndRd_assignment : yX8_assignment.cls ≠ "java/lang/invoke/MethodHandle" ∧ yX8_assignment.cls ≠ "java/lang/invoke/VarHandle" ∧ (parseMethodDescriptor yX8_assignment.desc).map (fun d => d.parameters.length) = some 0 := by decide +kernel
theorem cmRd_assignment (P W : Int) : CMv (MRd_assignment P W) 0 := ⟨⟨q220, q1297, ndRd_assignment⟩, q1296, qs35⟩
def MRd_variable (P W : Int) : Mt := (ΛC P W, yX8_variable, cX8_variable, 7, none, 611, 36720)
theorem ndRd_variable : yX8_variable.cls ≠ "java/lang/invoke/MethodHandle" ∧ yX8_variable.cls ≠ "java/lang/invoke/VarHandle" ∧ (parseMethodDescriptor yX8_variable.desc).map (fun d => d.parameters.length) = some 0 := by decide +kernel
theorem cmRd_variable (P W : Int) : CMv (MRd_variable P W) 0 := ⟨⟨q220, q1259, ndRd_variable⟩, q1258, qs31⟩
def MRd_statement (P W : Int) (d : Nat) : Mt := (ΛC P W, yX8_statement, cX8_statement, 3, none, 612 + d, 60 * (612 + d) + 60)
theorem ndRd_statement : yX8_statement.cls ≠ "java/lang/invoke/MethodHandle" ∧ yX8_statement.cls ≠ "java/lang/invoke/VarHandle" ∧ (parseMethodDescriptor yX8_statement.desc).map (fun d => d.parameters.length) = some 0 := by decide +kernel
theorem cmRd_statement (P W : Int) (d : Nat) : CMv (MRd_statement P W d) 0 := ⟨⟨q220, q1253, ndRd_statement⟩, q1252, qs30⟩
def MRd_block (P W : Int) (d : Nat) : Mt := (ΛC P W, yX8_block, cX8_block, 2, none, 612 + d, 60 * (612 + d) + 60)
theorem ndRd_block : yX8_block.cls ≠ "java/lang/invoke/MethodHandle" ∧ yX8_block.cls ≠ "java/lang/invoke/VarHandle" ∧ (parseMethodDescriptor yX8_block.desc).map (fun d => d.parameters.length) = some 0 := by decide +kernel
theorem cmRd_block (P W : Int) (d : Nat) : CMv (MRd_block P W d) 0 := ⟨⟨q220, q1273, ndRd_block⟩, q1272, qs33⟩
def MRd_condition (P W : Int) (d : Nat) : Mt := (ΛC P W, yX8_condition, cX8_condition, 6, none, 612 + d, 60 * (612 + d) + 60)
theorem ndRd_condition : yX8_condition.cls ≠ "java/lang/invoke/MethodHandle" ∧ yX8_condition.cls ≠ "java/lang/invoke/VarHandle" ∧ (parseMethodDescriptor yX8_condition.desc).map (fun d => d.parameters.length) = some 0 := by decide +kernel
theorem cmRd_condition (P W : Int) (d : Nat) : CMv (MRd_condition P W d) 0 := ⟨⟨q220, q1267, ndRd_condition⟩, q1266, qs32⟩
def MRd_loop (P W : Int) (d : Nat) : Mt := (ΛC P W, yX8_loop, cX8_loop, 6, none, 612 + d, 60 * (612 + d) + 60)
theorem ndRd_loop : yX8_loop.cls ≠ "java/lang/invoke/MethodHandle" ∧ yX8_loop.cls ≠ "java/lang/invoke/VarHandle" ∧ (parseMethodDescriptor yX8_loop.desc).map (fun d => d.parameters.length) = some 0 := by decide +kernel
theorem cmRd_loop (P W : Int) (d : Nat) : CMv (MRd_loop P W d) 0 := ⟨⟨q220, q1285, ndRd_loop⟩, q1284, qs34⟩
def MRd_item (P W : Int) : Mt := (ΛC P W, yX8_item, cX8_item, 1, none, 1213, 72840)
theorem ndRd_item : yX8_item.cls ≠ "java/lang/invoke/MethodHandle" ∧ yX8_item.cls ≠ "java/lang/invoke/VarHandle" ∧ (parseMethodDescriptor yX8_item.desc).map (fun d => d.parameters.length) = some 0 := by decide +kernel
theorem cmRd_item (P W : Int) : CMv (MRd_item P W) 0 := ⟨⟨q220, q962, ndRd_item⟩, q961, qs1⟩
def MRd_read (P W : Int) : Mt := (ΛC P W, yX8_read, cX8_read, 4, none, 1214, 72900)
theorem ndRd_read : yX8_read.cls ≠ "java/lang/invoke/MethodHandle" ∧ yX8_read.cls ≠ "java/lang/invoke/VarHandle" ∧ (parseMethodDescriptor yX8_read.desc).map (fun d => d.parameters.length) = some 2 := by decide +kernel
theorem cmRd_read (P W : Int) : CMv (MRd_read P W) 2 := ⟨⟨q220, q949, ndRd_read⟩, q947, q948⟩
def MHo_compile (P W : Int) : Mt := (ΛC P W, yX1_compile, cX1_compile, 3, (some .int), 1215, 72960)
theorem ndHo_compile : yX1_compile.cls ≠ "java/lang/invoke/MethodHandle" ∧ yX1_compile.cls ≠ "java/lang/invoke/VarHandle" ∧ (parseMethodDescriptor yX1_compile.desc).map (fun d => d.parameters.length) = some 0 := by decide +kernel
theorem cmHo_compile (P W : Int) : CMv (MHo_compile P W) 0 := ⟨⟨q212, q937, ndHo_compile⟩, q935, q936⟩
def MHo_circuitLook (P W : Int) : Mt := (ΛC P W, yX1_circuitLook, cX1_circuitLook, 2, (some .int), 1, 120)
theorem ndHo_circuitLook : yX1_circuitLook.cls ≠ "java/lang/invoke/MethodHandle" ∧ yX1_circuitLook.cls ≠ "java/lang/invoke/VarHandle" ∧ (parseMethodDescriptor yX1_circuitLook.desc).map (fun d => d.parameters.length) = some 1 := by decide +kernel
theorem cmHo_circuitLook (P W : Int) : CMv (MHo_circuitLook P W) 1 := ⟨⟨q212, q1631, ndHo_circuitLook⟩, q1630, qs88⟩
def MPa_isDone (P W : Int) : Mt := (ΛC P W, yX14_isDone, cX14_isDone, 1, (some .boolean), 1, 120)
theorem ndPa_isDone : yX14_isDone.cls ≠ "java/lang/invoke/MethodHandle" ∧ yX14_isDone.cls ≠ "java/lang/invoke/VarHandle" ∧ (parseMethodDescriptor yX14_isDone.desc).map (fun d => d.parameters.length) = some 0 := by decide +kernel
theorem cmPa_isDone (P W : Int) : CMv (MPa_isDone P W) 0 := ⟨⟨q226, q1639, ndPa_isDone⟩, q1638, qs90⟩
def MHo_done (P W : Int) : Mt := (ΛC P W, yX1_done, cX1_done, 3, (some .int), 2, 180)
theorem ndHo_done : yX1_done.cls ≠ "java/lang/invoke/MethodHandle" ∧ yX1_done.cls ≠ "java/lang/invoke/VarHandle" ∧ (parseMethodDescriptor yX1_done.desc).map (fun d => d.parameters.length) = some 0 := by decide +kernel
theorem cmHo_done (P W : Int) : CMv (MHo_done P W) 0 := ⟨⟨q212, q1635, ndHo_done⟩, q1634, qs89⟩
def MHo_look (P W : Int) : Mt := (ΛC P W, yX1_look, cX1_look, 2, (some .int), 3, 240)
theorem ndHo_look : yX1_look.cls ≠ "java/lang/invoke/MethodHandle" ∧ yX1_look.cls ≠ "java/lang/invoke/VarHandle" ∧ (parseMethodDescriptor yX1_look.desc).map (fun d => d.parameters.length) = some 1 := by decide +kernel
theorem cmHo_look (P W : Int) : CMv (MHo_look P W) 1 := ⟨⟨q212, q1627, ndHo_look⟩, q1625, q1626⟩
def MHo_gate (P W : Int) : Mt := (ΛC P W, yX1_gate, cX1_gate, 3, (some .int), 1, 120)
theorem ndHo_gate : yX1_gate.cls ≠ "java/lang/invoke/MethodHandle" ∧ yX1_gate.cls ≠ "java/lang/invoke/VarHandle" ∧ (parseMethodDescriptor yX1_gate.desc).map (fun d => d.parameters.length) = some 2 := by decide +kernel
theorem cmHo_gate (P W : Int) : CMv (MHo_gate P W) 2 := ⟨⟨q212, q1643, ndHo_gate⟩, q1641, q1642⟩
def MHo_isOutput (P W : Int) : Mt := (ΛC P W, yX1_isOutput, cX1_isOutput, 2, (some .boolean), 1, 120)
theorem ndHo_isOutput : yX1_isOutput.cls ≠ "java/lang/invoke/MethodHandle" ∧ yX1_isOutput.cls ≠ "java/lang/invoke/VarHandle" ∧ (parseMethodDescriptor yX1_isOutput.desc).map (fun d => d.parameters.length) = some 1 := by decide +kernel
theorem cmHo_isOutput (P W : Int) : CMv (MHo_isOutput P W) 1 := ⟨⟨q212, q1651, ndHo_isOutput⟩, q1650, qs91⟩
def MHo_literal (P W : Int) : Mt := (ΛC P W, yX1_literal, cX1_literal, 3, (some .int), 2, 180)
theorem ndHo_literal : yX1_literal.cls ≠ "java/lang/invoke/MethodHandle" ∧ yX1_literal.cls ≠ "java/lang/invoke/VarHandle" ∧ (parseMethodDescriptor yX1_literal.desc).map (fun d => d.parameters.length) = some 2 := by decide +kernel
theorem cmHo_literal (P W : Int) : CMv (MHo_literal P W) 2 := ⟨⟨q212, q1647, ndHo_literal⟩, q1645, q1646⟩
def MHo_isInput (P W : Int) : Mt := (ΛC P W, yX1_isInput, cX1_isInput, 2, (some .boolean), 1, 120)
theorem ndHo_isInput : yX1_isInput.cls ≠ "java/lang/invoke/MethodHandle" ∧ yX1_isInput.cls ≠ "java/lang/invoke/VarHandle" ∧ (parseMethodDescriptor yX1_isInput.desc).map (fun d => d.parameters.length) = some 1 := by decide +kernel
theorem cmHo_isInput (P W : Int) : CMv (MHo_isInput P W) 1 := ⟨⟨q212, q1659, ndHo_isInput⟩, q1658, qs92⟩
def MHo_input (P W : Int) : Mt := (ΛC P W, yX1_input, cX1_input, 3, (some .long), 2, 180)
theorem ndHo_input : yX1_input.cls ≠ "java/lang/invoke/MethodHandle" ∧ yX1_input.cls ≠ "java/lang/invoke/VarHandle" ∧ (parseMethodDescriptor yX1_input.desc).map (fun d => d.parameters.length) = some 2 := by decide +kernel
theorem cmHo_input (P W : Int) : CMv (MHo_input P W) 2 := ⟨⟨q212, q1655, ndHo_input⟩, q1653, q1654⟩
def MHo_give (P W : Int) : Mt := (ΛC P W, yX1_give, cX1_give, 3, (some .boolean), 2, 180)
theorem ndHo_give : yX1_give.cls ≠ "java/lang/invoke/MethodHandle" ∧ yX1_give.cls ≠ "java/lang/invoke/VarHandle" ∧ (parseMethodDescriptor yX1_give.desc).map (fun d => d.parameters.length) = some 2 := by decide +kernel
theorem cmHo_give (P W : Int) : CMv (MHo_give P W) 2 := ⟨⟨q212, q1664, ndHo_give⟩, q1662, q1663⟩
def MHo_seed (P W : Int) : Mt := (ΛC P W, yX1_seed, cX1_seed, 2, none, 1, 120)
theorem ndHo_seed : yX1_seed.cls ≠ "java/lang/invoke/MethodHandle" ∧ yX1_seed.cls ≠ "java/lang/invoke/VarHandle" ∧ (parseMethodDescriptor yX1_seed.desc).map (fun d => d.parameters.length) = some 1 := by decide +kernel
theorem cmHo_seed (P W : Int) : CMv (MHo_seed P W) 1 := ⟨⟨q212, q1668, ndHo_seed⟩, q1666, q1667⟩
def MBt_set (P W : Int) : Mt := (ΛC P W, yX7_set, cX7_set, 3, none, 1, 120)
theorem ndBt_set : yX7_set.cls ≠ "java/lang/invoke/MethodHandle" ∧ yX7_set.cls ≠ "java/lang/invoke/VarHandle" ∧ (parseMethodDescriptor yX7_set.desc).map (fun d => d.parameters.length) = some 2 := by decide +kernel
theorem cmBt_set (P W : Int) : CMv (MBt_set P W) 2 := ⟨⟨q218, q1680, ndBt_set⟩, q1678, q1679⟩
def MDr_add (P W : Int) : Mt := (ΛC P W, yX6_add, cX6_add, 5, (some .boolean), 2, 180)
theorem ndDr_add : yX6_add.cls ≠ "java/lang/invoke/MethodHandle" ∧ yX6_add.cls ≠ "java/lang/invoke/VarHandle" ∧ (parseMethodDescriptor yX6_add.desc).map (fun d => d.parameters.length) = some 2 := by decide +kernel
theorem cmDr_add (P W : Int) : CMv (MDr_add P W) 2 := ⟨⟨q217, q1676, ndDr_add⟩, q1674, q1675⟩
def MHo_draws (P W : Int) : Mt := (ΛC P W, yX1_draws, cX1_draws, 4, (some .int), 3, 240)
theorem ndHo_draws : yX1_draws.cls ≠ "java/lang/invoke/MethodHandle" ∧ yX1_draws.cls ≠ "java/lang/invoke/VarHandle" ∧ (parseMethodDescriptor yX1_draws.desc).map (fun d => d.parameters.length) = some 2 := by decide +kernel
theorem cmHo_draws (P W : Int) : CMv (MHo_draws P W) 2 := ⟨⟨q212, q1672, ndHo_draws⟩, q1670, q1671⟩
def MBt_get (P W : Int) : Mt := (ΛC P W, yX7_get, cX7_get, 2, (some .int), 1, 120)
theorem ndBt_get : yX7_get.cls ≠ "java/lang/invoke/MethodHandle" ∧ yX7_get.cls ≠ "java/lang/invoke/VarHandle" ∧ (parseMethodDescriptor yX7_get.desc).map (fun d => d.parameters.length) = some 1 := by decide +kernel
theorem cmBt_get (P W : Int) : CMv (MBt_get P W) 1 := ⟨⟨q218, q1698, ndBt_get⟩, q1696, q1697⟩
def MDr_draw (P W : Int) : Mt := (ΛC P W, yX6_draw, cX6_draw, 2, (some .int), 2, 180)
theorem ndDr_draw : yX6_draw.cls ≠ "java/lang/invoke/MethodHandle" ∧ yX6_draw.cls ≠ "java/lang/invoke/VarHandle" ∧ (parseMethodDescriptor yX6_draw.desc).map (fun d => d.parameters.length) = some 0 := by decide +kernel
theorem cmDr_draw (P W : Int) : CMv (MDr_draw P W) 0 := ⟨⟨q217, q1694, ndDr_draw⟩, q1692, q1693⟩
def MHo_cutInputs (P W : Int) : Mt := (ΛC P W, yX1_cutInputs, cX1_cutInputs, 8, none, 3, 240)
theorem ndHo_cutInputs : yX1_cutInputs.cls ≠ "java/lang/invoke/MethodHandle" ∧ yX1_cutInputs.cls ≠ "java/lang/invoke/VarHandle" ∧ (parseMethodDescriptor yX1_cutInputs.desc).map (fun d => d.parameters.length) = some 0 := by decide +kernel
theorem cmHo_cutInputs (P W : Int) : CMv (MHo_cutInputs P W) 0 := ⟨⟨q212, q1689, ndHo_cutInputs⟩, q1688, qs93⟩
def MHo_cutTriple (P W : Int) : Mt := (ΛC P W, yX1_cutTriple, cX1_cutTriple, 7, none, 3, 240)
theorem ndHo_cutTriple : yX1_cutTriple.cls ≠ "java/lang/invoke/MethodHandle" ∧ yX1_cutTriple.cls ≠ "java/lang/invoke/VarHandle" ∧ (parseMethodDescriptor yX1_cutTriple.desc).map (fun d => d.parameters.length) = some 1 := by decide +kernel
theorem cmHo_cutTriple (P W : Int) : CMv (MHo_cutTriple P W) 1 := ⟨⟨q212, q1703, ndHo_cutTriple⟩, q1702, qs94⟩
def MHo_send (P W : Int) : Mt := (ΛC P W, yX1_send, cX1_send, 3, (some .int), 1, 120)
theorem ndHo_send : yX1_send.cls ≠ "java/lang/invoke/MethodHandle" ∧ yX1_send.cls ≠ "java/lang/invoke/VarHandle" ∧ (parseMethodDescriptor yX1_send.desc).map (fun d => d.parameters.length) = some 1 := by decide +kernel
theorem cmHo_send (P W : Int) : CMv (MHo_send P W) 1 := ⟨⟨q212, q1711, ndHo_send⟩, q1710, qs95⟩
def MPa_begin (P W : Int) : Mt := (ΛC P W, yX14_begin, cX14_begin, 1, none, 1, 120)
theorem ndPa_begin : yX14_begin.cls ≠ "java/lang/invoke/MethodHandle" ∧ yX14_begin.cls ≠ "java/lang/invoke/VarHandle" ∧ (parseMethodDescriptor yX14_begin.desc).map (fun d => d.parameters.length) = some 0 := by decide +kernel
theorem cmPa_begin (P W : Int) : CMv (MPa_begin P W) 0 := ⟨⟨q226, q1707, ndPa_begin⟩, q1705, q1706⟩
def MHo_deal (P W : Int) : Mt := (ΛC P W, yX1_deal, cX1_deal, 3, (some .boolean), 4, 300)
theorem ndHo_deal : yX1_deal.cls ≠ "java/lang/invoke/MethodHandle" ∧ yX1_deal.cls ≠ "java/lang/invoke/VarHandle" ∧ (parseMethodDescriptor yX1_deal.desc).map (fun d => d.parameters.length) = some 0 := by decide +kernel
theorem cmHo_deal (P W : Int) : CMv (MHo_deal P W) 0 := ⟨⟨q212, q1685, ndHo_deal⟩, q1683, q1684⟩
def MPa_shareOf (P W : Int) : Mt := (ΛC P W, yX14_shareOf, cX14_shareOf, 3, (some .int), 2, 180)
theorem ndPa_shareOf : yX14_shareOf.cls ≠ "java/lang/invoke/MethodHandle" ∧ yX14_shareOf.cls ≠ "java/lang/invoke/VarHandle" ∧ (parseMethodDescriptor yX14_shareOf.desc).map (fun d => d.parameters.length) = some 1 := by decide +kernel
theorem cmPa_shareOf (P W : Int) : CMv (MPa_shareOf P W) 1 := ⟨⟨q226, q1736, ndPa_shareOf⟩, q1735, qs96⟩
def MPl_wireOf (P W : Int) : Mt := (ΛC P W, yX13_wireOf, cX13_wireOf, 3, (some .int), 1, 120)
theorem ndPl_wireOf : yX13_wireOf.cls ≠ "java/lang/invoke/MethodHandle" ∧ yX13_wireOf.cls ≠ "java/lang/invoke/VarHandle" ∧ (parseMethodDescriptor yX13_wireOf.desc).map (fun d => d.parameters.length) = some 2 := by decide +kernel
theorem cmPl_wireOf (P W : Int) : CMv (MPl_wireOf P W) 2 := ⟨⟨q225, q1731, ndPl_wireOf⟩, q1729, q1730⟩
def MPa_bit (P W : Int) : Mt := (ΛC P W, yX14_bit, cX14_bit, 5, (some .int), 3, 240)
theorem ndPa_bit : yX14_bit.cls ≠ "java/lang/invoke/MethodHandle" ∧ yX14_bit.cls ≠ "java/lang/invoke/VarHandle" ∧ (parseMethodDescriptor yX14_bit.desc).map (fun d => d.parameters.length) = some 3 := by decide +kernel
theorem cmPa_bit (P W : Int) : CMv (MPa_bit P W) 3 := ⟨⟨q226, q1727, ndPa_bit⟩, q1725, q1726⟩
def MPl_owned (P W : Int) : Mt := (ΛC P W, yX13_owned, cX13_owned, 2, (some .int), 1, 120)
theorem ndPl_owned : yX13_owned.cls ≠ "java/lang/invoke/MethodHandle" ∧ yX13_owned.cls ≠ "java/lang/invoke/VarHandle" ∧ (parseMethodDescriptor yX13_owned.desc).map (fun d => d.parameters.length) = some 1 := by decide +kernel
theorem cmPl_owned (P W : Int) : CMv (MPl_owned P W) 1 := ⟨⟨q225, q1723, ndPl_owned⟩, q1721, q1722⟩
def MPl_length (P W : Int) : Mt := (ΛC P W, yX13_length, cX13_length, 3, (some .int), 2, 180)
theorem ndPl_length : yX13_length.cls ≠ "java/lang/invoke/MethodHandle" ∧ yX13_length.cls ≠ "java/lang/invoke/VarHandle" ∧ (parseMethodDescriptor yX13_length.desc).map (fun d => d.parameters.length) = some 2 := by decide +kernel
theorem cmPl_length (P W : Int) : CMv (MPl_length P W) 2 := ⟨⟨q225, q1719, ndPl_length⟩, q1717, q1718⟩
def MHo_message (P W : Int) : Mt := (ΛC P W, yX1_message, cX1_message, 4, (some .int), 4, 300)
theorem ndHo_message : yX1_message.cls ≠ "java/lang/invoke/MethodHandle" ∧ yX1_message.cls ≠ "java/lang/invoke/VarHandle" ∧ (parseMethodDescriptor yX1_message.desc).map (fun d => d.parameters.length) = some 2 := by decide +kernel
theorem cmHo_message (P W : Int) : CMv (MHo_message P W) 2 := ⟨⟨q212, q1715, ndHo_message⟩, q1713, q1714⟩
def MPa_product (P W : Int) : Mt := (ΛC P W, yX14_product, cX14_product, 7, (some .int), 4, 300)
theorem ndPa_product : yX14_product.cls ≠ "java/lang/invoke/MethodHandle" ∧ yX14_product.cls ≠ "java/lang/invoke/VarHandle" ∧ (parseMethodDescriptor yX14_product.desc).map (fun d => d.parameters.length) = some 3 := by decide +kernel
theorem cmPa_product (P W : Int) : CMv (MPa_product P W) 3 := ⟨⟨q226, q1770, ndPa_product⟩, q1769, qs98⟩
def MPa_learn (P W : Int) : Mt := (ΛC P W, yX14_learn, cX14_learn, 7, none, 5, 360)
theorem ndPa_learn : yX14_learn.cls ≠ "java/lang/invoke/MethodHandle" ∧ yX14_learn.cls ≠ "java/lang/invoke/VarHandle" ∧ (parseMethodDescriptor yX14_learn.desc).map (fun d => d.parameters.length) = some 1 := by decide +kernel
theorem cmPa_learn (P W : Int) : CMv (MPa_learn P W) 1 := ⟨⟨q226, q1765, ndPa_learn⟩, q1764, qs97⟩
def MPa_goes (P W : Int) : Mt := (ΛC P W, yX14_goes, cX14_goes, 3, (some .boolean), 6, 420)
theorem ndPa_goes : yX14_goes.cls ≠ "java/lang/invoke/MethodHandle" ∧ yX14_goes.cls ≠ "java/lang/invoke/VarHandle" ∧ (parseMethodDescriptor yX14_goes.desc).map (fun d => d.parameters.length) = some 1 := by decide +kernel
theorem cmPa_goes (P W : Int) : CMv (MPa_goes P W) 1 := ⟨⟨q226, q1760, ndPa_goes⟩, q1758, q1759⟩
def MAr_copyOf (P W : Int) : Mt := (ΛC P W, yJ7_copyOf, cJ7_copyOf, 3, (some (.array .int)), 2, 180)
theorem ndAr_copyOf : yJ7_copyOf.cls ≠ "java/lang/invoke/MethodHandle" ∧ yJ7_copyOf.cls ≠ "java/lang/invoke/VarHandle" ∧ (parseMethodDescriptor yJ7_copyOf.desc).map (fun d => d.parameters.length) = some 2 := by decide +kernel
theorem cmAr_copyOf (P W : Int) : CMs (MAr_copyOf P W) 2 := ⟨⟨q236, q1747, ndAr_copyOf⟩, q1746⟩
def MPa_take (P W : Int) : Mt := (ΛC P W, yX14_take, cX14_take, 3, none, 5, 360)
theorem ndPa_take : yX14_take.cls ≠ "java/lang/invoke/MethodHandle" ∧ yX14_take.cls ≠ "java/lang/invoke/VarHandle" ∧ (parseMethodDescriptor yX14_take.desc).map (fun d => d.parameters.length) = some 2 := by decide +kernel
theorem cmPa_take (P W : Int) : CMv (MPa_take P W) 2 := ⟨⟨q226, q1744, ndPa_take⟩, q1742, q1743⟩
def MHo_deliver (P W : Int) : Mt := (ΛC P W, yX1_deliver, cX1_deliver, 6, (some .int), 7, 480)
theorem ndHo_deliver : yX1_deliver.cls ≠ "java/lang/invoke/MethodHandle" ∧ yX1_deliver.cls ≠ "java/lang/invoke/VarHandle" ∧ (parseMethodDescriptor yX1_deliver.desc).map (fun d => d.parameters.length) = some 1 := by decide +kernel
theorem cmHo_deliver (P W : Int) : CMv (MHo_deliver P W) 1 := ⟨⟨q212, q1740, ndHo_deliver⟩, q1738, q1739⟩
def MHo_rush (P W : Int) : Mt := (ΛC P W, yX1_rush, cX1_rush, 5, (some .int), 8, 540)
theorem ndHo_rush : yX1_rush.cls ≠ "java/lang/invoke/MethodHandle" ∧ yX1_rush.cls ≠ "java/lang/invoke/VarHandle" ∧ (parseMethodDescriptor yX1_rush.desc).map (fun d => d.parameters.length) = some 2 := by decide +kernel
theorem cmHo_rush (P W : Int) : CMv (MHo_rush P W) 2 := ⟨⟨q212, q1775, ndHo_rush⟩, q1773, q1774⟩
def MHo_isParty (P W : Int) : Mt := (ΛC P W, yX1_isParty, cX1_isParty, 2, (some .boolean), 1, 120)
theorem ndHo_isParty : yX1_isParty.cls ≠ "java/lang/invoke/MethodHandle" ∧ yX1_isParty.cls ≠ "java/lang/invoke/VarHandle" ∧ (parseMethodDescriptor yX1_isParty.desc).map (fun d => d.parameters.length) = some 1 := by decide +kernel
theorem cmHo_isParty (P W : Int) : CMv (MHo_isParty P W) 1 := ⟨⟨q212, q1785, ndHo_isParty⟩, q1784, qs99⟩
def MPa_ownBits (P W : Int) : Mt := (ΛC P W, yX14_ownBits, cX14_ownBits, 1, (some .int), 2, 180)
theorem ndPa_ownBits : yX14_ownBits.cls ≠ "java/lang/invoke/MethodHandle" ∧ yX14_ownBits.cls ≠ "java/lang/invoke/VarHandle" ∧ (parseMethodDescriptor yX14_ownBits.desc).map (fun d => d.parameters.length) = some 0 := by decide +kernel
theorem cmPa_ownBits (P W : Int) : CMv (MPa_ownBits P W) 0 := ⟨⟨q226, q1793, ndPa_ownBits⟩, q1792, qs100⟩
def MPa_viewSize (P W : Int) : Mt := (ΛC P W, yX14_viewSize, cX14_viewSize, 3, (some .int), 3, 240)
theorem ndPa_viewSize : yX14_viewSize.cls ≠ "java/lang/invoke/MethodHandle" ∧ yX14_viewSize.cls ≠ "java/lang/invoke/VarHandle" ∧ (parseMethodDescriptor yX14_viewSize.desc).map (fun d => d.parameters.length) = some 0 := by decide +kernel
theorem cmPa_viewSize (P W : Int) : CMv (MPa_viewSize P W) 0 := ⟨⟨q226, q1789, ndPa_viewSize⟩, q1787, q1788⟩
def MHo_party (P W : Int) : Mt := (ΛC P W, yX1_party, cX1_party, 3, (some .int), 4, 300)
theorem ndHo_party : yX1_party.cls ≠ "java/lang/invoke/MethodHandle" ∧ yX1_party.cls ≠ "java/lang/invoke/VarHandle" ∧ (parseMethodDescriptor yX1_party.desc).map (fun d => d.parameters.length) = some 2 := by decide +kernel
theorem cmHo_party (P W : Int) : CMv (MHo_party P W) 2 := ⟨⟨q212, q1781, ndHo_party⟩, q1779, q1780⟩
def MHo_dealt (P W : Int) : Mt := (ΛC P W, yX1_dealt, cX1_dealt, 4, (some .int), 2, 180)
theorem ndHo_dealt : yX1_dealt.cls ≠ "java/lang/invoke/MethodHandle" ∧ yX1_dealt.cls ≠ "java/lang/invoke/VarHandle" ∧ (parseMethodDescriptor yX1_dealt.desc).map (fun d => d.parameters.length) = some 3 := by decide +kernel
theorem cmHo_dealt (P W : Int) : CMv (MHo_dealt P W) 3 := ⟨⟨q212, q1799, ndHo_dealt⟩, q1797, q1798⟩
def MHo_share (P W : Int) : Mt := (ΛC P W, yX1_share, cX1_share, 4, (some .int), 2, 180)
theorem ndHo_share : yX1_share.cls ≠ "java/lang/invoke/MethodHandle" ∧ yX1_share.cls ≠ "java/lang/invoke/VarHandle" ∧ (parseMethodDescriptor yX1_share.desc).map (fun d => d.parameters.length) = some 2 := by decide +kernel
theorem cmHo_share (P W : Int) : CMv (MHo_share P W) 2 := ⟨⟨q212, q1804, ndHo_share⟩, q1802, q1803⟩
def MPa_and (P W : Int) : Mt := (ΛC P W, yX14_and, cX14_and, 4, (some .int), 1, 120)
theorem ndPa_and : yX14_and.cls ≠ "java/lang/invoke/MethodHandle" ∧ yX14_and.cls ≠ "java/lang/invoke/VarHandle" ∧ (parseMethodDescriptor yX14_and.desc).map (fun d => d.parameters.length) = some 1 := by decide +kernel
theorem cmPa_and (P W : Int) : CMv (MPa_and P W) 1 := ⟨⟨q226, q1816, ndPa_and⟩, q1815, qs101⟩
def MPa_view (P W : Int) : Mt := (ΛC P W, yX14_view, cX14_view, 8, (some .int), 4, 300)
theorem ndPa_view : yX14_view.cls ≠ "java/lang/invoke/MethodHandle" ∧ yX14_view.cls ≠ "java/lang/invoke/VarHandle" ∧ (parseMethodDescriptor yX14_view.desc).map (fun d => d.parameters.length) = some 3 := by decide +kernel
theorem cmPa_view (P W : Int) : CMv (MPa_view P W) 3 := ⟨⟨q226, q1812, ndPa_view⟩, q1810, q1811⟩
def MHo_view (P W : Int) : Mt := (ΛC P W, yX1_view, cX1_view, 3, (some .int), 5, 360)
theorem ndHo_view : yX1_view.cls ≠ "java/lang/invoke/MethodHandle" ∧ yX1_view.cls ≠ "java/lang/invoke/VarHandle" ∧ (parseMethodDescriptor yX1_view.desc).map (fun d => d.parameters.length) = some 2 := by decide +kernel
theorem cmHo_view (P W : Int) : CMv (MHo_view P W) 2 := ⟨⟨q212, q1808, ndHo_view⟩, q1806, q1807⟩
def MHo_told (P W : Int) : Mt := (ΛC P W, yX1_told, cX1_told, 8, (some .long), 3, 240)
theorem ndHo_told : yX1_told.cls ≠ "java/lang/invoke/MethodHandle" ∧ yX1_told.cls ≠ "java/lang/invoke/VarHandle" ∧ (parseMethodDescriptor yX1_told.desc).map (fun d => d.parameters.length) = some 2 := by decide +kernel
theorem cmHo_told (P W : Int) : CMv (MHo_told P W) 2 := ⟨⟨q212, q1820, ndHo_told⟩, q1818, q1819⟩
def MHo_plainOf (P W : Int) : Mt := (ΛC P W, yX1_plainOf, cX1_plainOf, 2, (some .int), 2, 180)
theorem ndHo_plainOf : yX1_plainOf.cls ≠ "java/lang/invoke/MethodHandle" ∧ yX1_plainOf.cls ≠ "java/lang/invoke/VarHandle" ∧ (parseMethodDescriptor yX1_plainOf.desc).map (fun d => d.parameters.length) = some 1 := by decide +kernel
theorem cmHo_plainOf (P W : Int) : CMv (MHo_plainOf P W) 1 := ⟨⟨q212, q1829, ndHo_plainOf⟩, q1828, qs102⟩
def MHo_truth (P W : Int) : Mt := (ΛC P W, yX1_truth, cX1_truth, 5, (some .long), 3, 240)
theorem ndHo_truth : yX1_truth.cls ≠ "java/lang/invoke/MethodHandle" ∧ yX1_truth.cls ≠ "java/lang/invoke/VarHandle" ∧ (parseMethodDescriptor yX1_truth.desc).map (fun d => d.parameters.length) = some 1 := by decide +kernel
theorem cmHo_truth (P W : Int) : CMv (MHo_truth P W) 1 := ⟨⟨q212, q1825, ndHo_truth⟩, q1823, q1824⟩
def MTw_word (P W : Int) : Mt := (ΛT P W, yX15_word, cX15_word, 4, none, 1, 120)
theorem ndTw_word : yX15_word.cls ≠ "java/lang/invoke/MethodHandle" ∧ yX15_word.cls ≠ "java/lang/invoke/VarHandle" ∧ (parseMethodDescriptor yX15_word.desc).map (fun d => d.parameters.length) = some 2 := by decide +kernel
theorem cmTw_word (P W : Int) : CMv (MTw_word P W) 2 := ⟨⟨q227, q2290, ndTw_word⟩, q2289, qs103⟩
def MTw_feed (P W : Int) : Mt := (ΛT P W, yX15_feed, cX15_feed, 6, none, 2, 180)
theorem ndTw_feed : yX15_feed.cls ≠ "java/lang/invoke/MethodHandle" ∧ yX15_feed.cls ≠ "java/lang/invoke/VarHandle" ∧ (parseMethodDescriptor yX15_feed.desc).map (fun d => d.parameters.length) = some 5 := by decide +kernel
theorem cmTw_feed (P W : Int) : CMv (MTw_feed P W) 5 := ⟨⟨q227, q2286, ndTw_feed⟩, q2284, q2285⟩
def MTw_end (P W : Int) : Mt := (ΛT P W, yX15_end, cX15_end, 3, (some .int), 1, 120)
theorem ndTw_end : yX15_end.cls ≠ "java/lang/invoke/MethodHandle" ∧ yX15_end.cls ≠ "java/lang/invoke/VarHandle" ∧ (parseMethodDescriptor yX15_end.desc).map (fun d => d.parameters.length) = some 1 := by decide +kernel
theorem cmTw_end (P W : Int) : CMv (MTw_end P W) 1 := ⟨⟨q227, q2294, ndTw_end⟩, q2292, q2293⟩
def MTw_widthOf (P W : Int) : Mt := (ΛT P W, yX15_widthOf, cX15_widthOf, 2, (some .int), 1, 120)
theorem ndTw_widthOf : yX15_widthOf.cls ≠ "java/lang/invoke/MethodHandle" ∧ yX15_widthOf.cls ≠ "java/lang/invoke/VarHandle" ∧ (parseMethodDescriptor yX15_widthOf.desc).map (fun d => d.parameters.length) = some 1 := by decide +kernel
theorem cmTw_widthOf (P W : Int) : CMv (MTw_widthOf P W) 1 := ⟨⟨q227, q2561, ndTw_widthOf⟩, q2560, qs161⟩
def MTw_inputsOfAll (P W : Int) : Mt := (ΛT P W, yX15_inputsOfAll, cX15_inputsOfAll, 4, none, 2, 180)
theorem ndTw_inputsOfAll : yX15_inputsOfAll.cls ≠ "java/lang/invoke/MethodHandle" ∧ yX15_inputsOfAll.cls ≠ "java/lang/invoke/VarHandle" ∧ (parseMethodDescriptor yX15_inputsOfAll.desc).map (fun d => d.parameters.length) = some 0 := by decide +kernel
theorem cmTw_inputsOfAll (P W : Int) : CMv (MTw_inputsOfAll P W) 0 := ⟨⟨q227, q2557, ndTw_inputsOfAll⟩, q2556, qs160⟩
def MTw_levelOf (P W : Int) : Mt := (ΛT P W, yX15_levelOf, cX15_levelOf, 3, (some .int), 1, 120)
theorem ndTw_levelOf : yX15_levelOf.cls ≠ "java/lang/invoke/MethodHandle" ∧ yX15_levelOf.cls ≠ "java/lang/invoke/VarHandle" ∧ (parseMethodDescriptor yX15_levelOf.desc).map (fun d => d.parameters.length) = some 1 := by decide +kernel
theorem cmTw_levelOf (P W : Int) : CMv (MTw_levelOf P W) 1 := ⟨⟨q227, q2618, ndTw_levelOf⟩, q2617, qs175⟩
def MTw_fail (P W : Int) : Mt := (ΛT P W, yX15_fail, cX15_fail, 3, none, 1, 120)
theorem ndTw_fail : yX15_fail.cls ≠ "java/lang/invoke/MethodHandle" ∧ yX15_fail.cls ≠ "java/lang/invoke/VarHandle" ∧ (parseMethodDescriptor yX15_fail.desc).map (fun d => d.parameters.length) = some 2 := by decide +kernel
theorem cmTw_fail (P W : Int) : CMv (MTw_fail P W) 2 := ⟨⟨q227, q2318, ndTw_fail⟩, q2317, qs108⟩
def MTw_statementPlace (P W : Int) : Mt := (ΛT P W, yX15_statementPlace, cX15_statementPlace, 1, (some .int), 1, 120)
theorem ndTw_statementPlace : yX15_statementPlace.cls ≠ "java/lang/invoke/MethodHandle" ∧ yX15_statementPlace.cls ≠ "java/lang/invoke/VarHandle" ∧ (parseMethodDescriptor yX15_statementPlace.desc).map (fun d => d.parameters.length) = some 0 := by decide +kernel
theorem cmTw_statementPlace (P W : Int) : CMv (MTw_statementPlace P W) 0 := ⟨⟨q227, q2574, ndTw_statementPlace⟩, q2573, qs164⟩
def MTw_newGate (P W : Int) : Mt := (ΛT P W, yX15_newGate, cX15_newGate, 5, (some .int), 2, 180)
theorem ndTw_newGate : yX15_newGate.cls ≠ "java/lang/invoke/MethodHandle" ∧ yX15_newGate.cls ≠ "java/lang/invoke/VarHandle" ∧ (parseMethodDescriptor yX15_newGate.desc).map (fun d => d.parameters.length) = some 4 := by decide +kernel
theorem cmTw_newGate (P W : Int) : CMv (MTw_newGate P W) 4 := ⟨⟨q227, q2622, ndTw_newGate⟩, q2621, qs176⟩
def MTw_and (P W : Int) : Mt := (ΛT P W, yX15_and, cX15_and, 5, (some .int), 3, 240)
theorem ndTw_and : yX15_and.cls ≠ "java/lang/invoke/MethodHandle" ∧ yX15_and.cls ≠ "java/lang/invoke/VarHandle" ∧ (parseMethodDescriptor yX15_and.desc).map (fun d => d.parameters.length) = some 2 := by decide +kernel
theorem cmTw_and (P W : Int) : CMv (MTw_and P W) 2 := ⟨⟨q227, q2626, ndTw_and⟩, q2625, qs177⟩
def MTw_xor (P W : Int) : Mt := (ΛT P W, yX15_xor, cX15_xor, 6, (some .int), 3, 240)
theorem ndTw_xor : yX15_xor.cls ≠ "java/lang/invoke/MethodHandle" ∧ yX15_xor.cls ≠ "java/lang/invoke/VarHandle" ∧ (parseMethodDescriptor yX15_xor.desc).map (fun d => d.parameters.length) = some 2 := by decide +kernel
theorem cmTw_xor (P W : Int) : CMv (MTw_xor P W) 2 := ⟨⟨q227, q2614, ndTw_xor⟩, q2613, qs174⟩
def MTw_mux (P W : Int) : Mt := (ΛT P W, yX15_mux, cX15_mux, 4, (some .int), 4, 300)
theorem ndTw_mux : yX15_mux.cls ≠ "java/lang/invoke/MethodHandle" ∧ yX15_mux.cls ≠ "java/lang/invoke/VarHandle" ∧ (parseMethodDescriptor yX15_mux.desc).map (fun d => d.parameters.length) = some 3 := by decide +kernel
theorem cmTw_mux (P W : Int) : CMv (MTw_mux P W) 3 := ⟨⟨q227, q2666, ndTw_mux⟩, q2665, qs187⟩
def MTw_divide (P W : Int) : Mt := (ΛT P W, yX15_divide, cX15_divide, 6, none, 5, 360)
theorem ndTw_divide : yX15_divide.cls ≠ "java/lang/invoke/MethodHandle" ∧ yX15_divide.cls ≠ "java/lang/invoke/VarHandle" ∧ (parseMethodDescriptor yX15_divide.desc).map (fun d => d.parameters.length) = some 0 := by decide +kernel
theorem cmTw_divide (P W : Int) : CMv (MTw_divide P W) 0 := ⟨⟨q227, q2662, ndTw_divide⟩, q2661, qs186⟩
def MTw_equal (P W : Int) : Mt := (ΛT P W, yX15_equal, cX15_equal, 5, (some .int), 4, 300)
theorem ndTw_equal : yX15_equal.cls ≠ "java/lang/invoke/MethodHandle" ∧ yX15_equal.cls ≠ "java/lang/invoke/VarHandle" ∧ (parseMethodDescriptor yX15_equal.desc).map (fun d => d.parameters.length) = some 1 := by decide +kernel
theorem cmTw_equal (P W : Int) : CMv (MTw_equal P W) 1 := ⟨⟨q227, q2610, ndTw_equal⟩, q2609, qs173⟩
def MTw_less (P W : Int) : Mt := (ΛT P W, yX15_less, cX15_less, 5, (some .int), 4, 300)
theorem ndTw_less : yX15_less.cls ≠ "java/lang/invoke/MethodHandle" ∧ yX15_less.cls ≠ "java/lang/invoke/VarHandle" ∧ (parseMethodDescriptor yX15_less.desc).map (fun d => d.parameters.length) = some 0 := by decide +kernel
theorem cmTw_less (P W : Int) : CMv (MTw_less P W) 0 := ⟨⟨q227, q2650, ndTw_less⟩, q2649, qs183⟩
def MTw_sum (P W : Int) : Mt := (ΛT P W, yX15_sum, cX15_sum, 7, none, 4, 300)
theorem ndTw_sum : yX15_sum.cls ≠ "java/lang/invoke/MethodHandle" ∧ yX15_sum.cls ≠ "java/lang/invoke/VarHandle" ∧ (parseMethodDescriptor yX15_sum.desc).map (fun d => d.parameters.length) = some 2 := by decide +kernel
theorem cmTw_sum (P W : Int) : CMv (MTw_sum P W) 2 := ⟨⟨q227, q2638, ndTw_sum⟩, q2637, qs180⟩
def MTw_multiply (P W : Int) : Mt := (ΛT P W, yX15_multiply, cX15_multiply, 3, none, 5, 360)
theorem ndTw_multiply : yX15_multiply.cls ≠ "java/lang/invoke/MethodHandle" ∧ yX15_multiply.cls ≠ "java/lang/invoke/VarHandle" ∧ (parseMethodDescriptor yX15_multiply.desc).map (fun d => d.parameters.length) = some 0 := by decide +kernel
theorem cmTw_multiply (P W : Int) : CMv (MTw_multiply P W) 0 := ⟨⟨q227, q2658, ndTw_multiply⟩, q2657, qs185⟩
def MTw_popX (P W : Int) : Mt := (ΛT P W, yX15_popX, cX15_popX, 3, none, 1, 120)
theorem ndTw_popX : yX15_popX.cls ≠ "java/lang/invoke/MethodHandle" ∧ yX15_popX.cls ≠ "java/lang/invoke/VarHandle" ∧ (parseMethodDescriptor yX15_popX.desc).map (fun d => d.parameters.length) = some 1 := by decide +kernel
theorem cmTw_popX (P W : Int) : CMv (MTw_popX P W) 1 := ⟨⟨q227, q2602, ndTw_popX⟩, q2601, qs171⟩
def MTw_popY (P W : Int) : Mt := (ΛT P W, yX15_popY, cX15_popY, 3, none, 1, 120)
theorem ndTw_popY : yX15_popY.cls ≠ "java/lang/invoke/MethodHandle" ∧ yX15_popY.cls ≠ "java/lang/invoke/VarHandle" ∧ (parseMethodDescriptor yX15_popY.desc).map (fun d => d.parameters.length) = some 1 := by decide +kernel
theorem cmTw_popY (P W : Int) : CMv (MTw_popY P W) 1 := ⟨⟨q227, q2646, ndTw_popY⟩, q2645, qs182⟩
def MTw_pushZ (P W : Int) : Mt := (ΛT P W, yX15_pushZ, cX15_pushZ, 3, none, 1, 120)
theorem ndTw_pushZ : yX15_pushZ.cls ≠ "java/lang/invoke/MethodHandle" ∧ yX15_pushZ.cls ≠ "java/lang/invoke/VarHandle" ∧ (parseMethodDescriptor yX15_pushZ.desc).map (fun d => d.parameters.length) = some 1 := by decide +kernel
theorem cmTw_pushZ (P W : Int) : CMv (MTw_pushZ P W) 1 := ⟨⟨q227, q2582, ndTw_pushZ⟩, q2581, qs166⟩
def MTw_swap (P W : Int) : Mt := (ΛT P W, yX15_swap, cX15_swap, 3, none, 1, 120)
theorem ndTw_swap : yX15_swap.cls ≠ "java/lang/invoke/MethodHandle" ∧ yX15_swap.cls ≠ "java/lang/invoke/VarHandle" ∧ (parseMethodDescriptor yX15_swap.desc).map (fun d => d.parameters.length) = some 0 := by decide +kernel
theorem cmTw_swap (P W : Int) : CMv (MTw_swap P W) 0 := ⟨⟨q227, q2654, ndTw_swap⟩, q2653, qs184⟩
def MTw_worthOf (P W : Int) : Mt := (ΛT P W, yX15_worthOf, cX15_worthOf, 5, (some .long), 1, 120)
theorem ndTw_worthOf : yX15_worthOf.cls ≠ "java/lang/invoke/MethodHandle" ∧ yX15_worthOf.cls ≠ "java/lang/invoke/VarHandle" ∧ (parseMethodDescriptor yX15_worthOf.desc).map (fun d => d.parameters.length) = some 1 := by decide +kernel
theorem cmTw_worthOf (P W : Int) : CMv (MTw_worthOf P W) 1 := ⟨⟨q227, q2594, ndTw_worthOf⟩, q2593, qs169⟩
def MTw_binary (P W : Int) : Mt := (ΛT P W, yX15_binary, cX15_binary, 8, none, 6, 420)
theorem ndTw_binary : yX15_binary.cls ≠ "java/lang/invoke/MethodHandle" ∧ yX15_binary.cls ≠ "java/lang/invoke/VarHandle" ∧ (parseMethodDescriptor yX15_binary.desc).map (fun d => d.parameters.length) = some 1 := by decide +kernel
theorem cmTw_binary (P W : Int) : CMv (MTw_binary P W) 1 := ⟨⟨q227, q2642, ndTw_binary⟩, q2641, qs181⟩
def MTw_bodyOf (P W : Int) : Mt := (ΛT P W, yX15_bodyOf, cX15_bodyOf, 2, (some .int), 1, 120)
theorem ndTw_bodyOf : yX15_bodyOf.cls ≠ "java/lang/invoke/MethodHandle" ∧ yX15_bodyOf.cls ≠ "java/lang/invoke/VarHandle" ∧ (parseMethodDescriptor yX15_bodyOf.desc).map (fun d => d.parameters.length) = some 1 := by decide +kernel
theorem cmTw_bodyOf (P W : Int) : CMv (MTw_bodyOf P W) 1 := ⟨⟨q227, q2630, ndTw_bodyOf⟩, q2629, qs178⟩
def MTw_constantZ (P W : Int) : Mt := (ΛT P W, yX15_constantZ, cX15_constantZ, 5, none, 1, 120)
theorem ndTw_constantZ : yX15_constantZ.cls ≠ "java/lang/invoke/MethodHandle" ∧ yX15_constantZ.cls ≠ "java/lang/invoke/VarHandle" ∧ (parseMethodDescriptor yX15_constantZ.desc).map (fun d => d.parameters.length) = some 2 := by decide +kernel
theorem cmTw_constantZ (P W : Int) : CMv (MTw_constantZ P W) 2 := ⟨⟨q227, q2578, ndTw_constantZ⟩, q2577, qs165⟩
def MTw_elementBit (P W : Int) : Mt := (ΛT P W, yX15_elementBit, cX15_elementBit, 4, (some .int), 1, 120)
theorem ndTw_elementBit : yX15_elementBit.cls ≠ "java/lang/invoke/MethodHandle" ∧ yX15_elementBit.cls ≠ "java/lang/invoke/VarHandle" ∧ (parseMethodDescriptor yX15_elementBit.desc).map (fun d => d.parameters.length) = some 3 := by decide +kernel
theorem cmTw_elementBit (P W : Int) : CMv (MTw_elementBit P W) 3 := ⟨⟨q227, q2598, ndTw_elementBit⟩, q2597, qs170⟩
def MTw_isIndex (P W : Int) : Mt := (ΛT P W, yX15_isIndex, cX15_isIndex, 3, (some .int), 5, 360)
theorem ndTw_isIndex : yX15_isIndex.cls ≠ "java/lang/invoke/MethodHandle" ∧ yX15_isIndex.cls ≠ "java/lang/invoke/VarHandle" ∧ (parseMethodDescriptor yX15_isIndex.desc).map (fun d => d.parameters.length) = some 1 := by decide +kernel
theorem cmTw_isIndex (P W : Int) : CMv (MTw_isIndex P W) 1 := ⟨⟨q227, q2606, ndTw_isIndex⟩, q2605, qs172⟩
def MTw_indexed (P W : Int) : Mt := (ΛT P W, yX15_indexed, cX15_indexed, 6, none, 6, 420)
theorem ndTw_indexed : yX15_indexed.cls ≠ "java/lang/invoke/MethodHandle" ∧ yX15_indexed.cls ≠ "java/lang/invoke/VarHandle" ∧ (parseMethodDescriptor yX15_indexed.desc).map (fun d => d.parameters.length) = some 1 := by decide +kernel
theorem cmTw_indexed (P W : Int) : CMv (MTw_indexed P W) 1 := ⟨⟨q227, q2590, ndTw_indexed⟩, q2589, qs168⟩
def MTw_named (P W : Int) : Mt := (ΛT P W, yX15_named, cX15_named, 5, none, 2, 180)
theorem ndTw_named : yX15_named.cls ≠ "java/lang/invoke/MethodHandle" ∧ yX15_named.cls ≠ "java/lang/invoke/VarHandle" ∧ (parseMethodDescriptor yX15_named.desc).map (fun d => d.parameters.length) = some 1 := by decide +kernel
theorem cmTw_named (P W : Int) : CMv (MTw_named P W) 1 := ⟨⟨q227, q2586, ndTw_named⟩, q2585, qs167⟩
def MTw_step (P W : Int) : Mt := (ΛT P W, yX15_step, cX15_step, 1, none, 2, 180)
theorem ndTw_step : yX15_step.cls ≠ "java/lang/invoke/MethodHandle" ∧ yX15_step.cls ≠ "java/lang/invoke/VarHandle" ∧ (parseMethodDescriptor yX15_step.desc).map (fun d => d.parameters.length) = some 0 := by decide +kernel
theorem cmTw_step (P W : Int) : CMv (MTw_step P W) 0 := ⟨⟨q227, q2569, ndTw_step⟩, q2568, qs163⟩
def MTw_unary (P W : Int) : Mt := (ΛT P W, yX15_unary, cX15_unary, 4, none, 5, 360)
theorem ndTw_unary : yX15_unary.cls ≠ "java/lang/invoke/MethodHandle" ∧ yX15_unary.cls ≠ "java/lang/invoke/VarHandle" ∧ (parseMethodDescriptor yX15_unary.desc).map (fun d => d.parameters.length) = some 1 := by decide +kernel
theorem cmTw_unary (P W : Int) : CMv (MTw_unary P W) 1 := ⟨⟨q227, q2634, ndTw_unary⟩, q2633, qs179⟩
def MTw_operand (P W : Int) : Mt := (ΛT P W, yX15_operand, cX15_operand, 5, (some .int), 7, 480)
theorem ndTw_operand : yX15_operand.cls ≠ "java/lang/invoke/MethodHandle" ∧ yX15_operand.cls ≠ "java/lang/invoke/VarHandle" ∧ (parseMethodDescriptor yX15_operand.desc).map (fun d => d.parameters.length) = some 1 := by decide +kernel
theorem cmTw_operand (P W : Int) : CMv (MTw_operand P W) 1 := ⟨⟨q227, q2565, ndTw_operand⟩, q2564, qs162⟩
def MTw_bringVars (P W : Int) : Mt := (ΛT P W, yX15_bringVars, cX15_bringVars, 5, none, 1, 120)
theorem ndTw_bringVars : yX15_bringVars.cls ≠ "java/lang/invoke/MethodHandle" ∧ yX15_bringVars.cls ≠ "java/lang/invoke/VarHandle" ∧ (parseMethodDescriptor yX15_bringVars.desc).map (fun d => d.parameters.length) = some 2 := by decide +kernel
theorem cmTw_bringVars (P W : Int) : CMv (MTw_bringVars P W) 2 := ⟨⟨q227, q2686, ndTw_bringVars⟩, q2685, qs192⟩
def MTw_keepVars (P W : Int) : Mt := (ΛT P W, yX15_keepVars, cX15_keepVars, 5, none, 1, 120)
theorem ndTw_keepVars : yX15_keepVars.cls ≠ "java/lang/invoke/MethodHandle" ∧ yX15_keepVars.cls ≠ "java/lang/invoke/VarHandle" ∧ (parseMethodDescriptor yX15_keepVars.desc).map (fun d => d.parameters.length) = some 2 := by decide +kernel
theorem cmTw_keepVars (P W : Int) : CMv (MTw_keepVars P W) 2 := ⟨⟨q227, q2682, ndTw_keepVars⟩, q2681, qs191⟩
def MTw_endOfIf (P W : Int) : Mt := (ΛT P W, yX15_endOfIf, cX15_endOfIf, 5, none, 5, 360)
theorem ndTw_endOfIf : yX15_endOfIf.cls ≠ "java/lang/invoke/MethodHandle" ∧ yX15_endOfIf.cls ≠ "java/lang/invoke/VarHandle" ∧ (parseMethodDescriptor yX15_endOfIf.desc).map (fun d => d.parameters.length) = some 0 := by decide +kernel
theorem cmTw_endOfIf (P W : Int) : CMv (MTw_endOfIf P W) 0 := ⟨⟨q227, q2690, ndTw_endOfIf⟩, q2689, qs193⟩
def MTw_setElement (P W : Int) : Mt := (ΛT P W, yX15_setElement, cX15_setElement, 8, none, 6, 420)
theorem ndTw_setElement : yX15_setElement.cls ≠ "java/lang/invoke/MethodHandle" ∧ yX15_setElement.cls ≠ "java/lang/invoke/VarHandle" ∧ (parseMethodDescriptor yX15_setElement.desc).map (fun d => d.parameters.length) = some 1 := by decide +kernel
theorem cmTw_setElement (P W : Int) : CMv (MTw_setElement P W) 1 := ⟨⟨q227, q2678, ndTw_setElement⟩, q2677, qs190⟩
def MTw_variable (P W : Int) : Mt := (ΛT P W, yX15_variable, cX15_variable, 7, none, 2, 180)
theorem ndTw_variable : yX15_variable.cls ≠ "java/lang/invoke/MethodHandle" ∧ yX15_variable.cls ≠ "java/lang/invoke/VarHandle" ∧ (parseMethodDescriptor yX15_variable.desc).map (fun d => d.parameters.length) = some 1 := by decide +kernel
theorem cmTw_variable (P W : Int) : CMv (MTw_variable P W) 1 := ⟨⟨q227, q2674, ndTw_variable⟩, q2673, qs189⟩
def MTw_statement (P W : Int) : Mt := (ΛT P W, yX15_statement, cX15_statement, 6, (some .int), 7, 480)
theorem ndTw_statement : yX15_statement.cls ≠ "java/lang/invoke/MethodHandle" ∧ yX15_statement.cls ≠ "java/lang/invoke/VarHandle" ∧ (parseMethodDescriptor yX15_statement.desc).map (fun d => d.parameters.length) = some 1 := by decide +kernel
theorem cmTw_statement (P W : Int) : CMv (MTw_statement P W) 1 := ⟨⟨q227, q2670, ndTw_statement⟩, q2669, qs188⟩
def MTw_build (P W : Int) : Mt := (ΛT P W, yX15_build, cX15_build, 2, none, 8, 540)
theorem ndTw_build : yX15_build.cls ≠ "java/lang/invoke/MethodHandle" ∧ yX15_build.cls ≠ "java/lang/invoke/VarHandle" ∧ (parseMethodDescriptor yX15_build.desc).map (fun d => d.parameters.length) = some 0 := by decide +kernel
theorem cmTw_build (P W : Int) : CMv (MTw_build P W) 0 := ⟨⟨q227, q2553, ndTw_build⟩, q2552, qs159⟩
def MTw_forget (P W : Int) : Mt := (ΛT P W, yX15_forget, cX15_forget, 1, none, 1, 120)
theorem ndTw_forget : yX15_forget.cls ≠ "java/lang/invoke/MethodHandle" ∧ yX15_forget.cls ≠ "java/lang/invoke/VarHandle" ∧ (parseMethodDescriptor yX15_forget.desc).map (fun d => d.parameters.length) = some 0 := by decide +kernel
theorem cmTw_forget (P W : Int) : CMv (MTw_forget P W) 0 := ⟨⟨q227, q2302, ndTw_forget⟩, q2301, qs104⟩
def MTw_levels (P W : Int) : Mt := (ΛT P W, yX15_levels, cX15_levels, 4, none, 1, 120)
theorem ndTw_levels : yX15_levels.cls ≠ "java/lang/invoke/MethodHandle" ∧ yX15_levels.cls ≠ "java/lang/invoke/VarHandle" ∧ (parseMethodDescriptor yX15_levels.desc).map (fun d => d.parameters.length) = some 0 := by decide +kernel
theorem cmTw_levels (P W : Int) : CMv (MTw_levels P W) 0 := ⟨⟨q227, q2694, ndTw_levels⟩, q2693, qs194⟩
def MTw_deeper (P W : Int) : Mt := (ΛT P W, yX15_deeper, cX15_deeper, 2, none, 2, 180)
theorem ndTw_deeper : yX15_deeper.cls ≠ "java/lang/invoke/MethodHandle" ∧ yX15_deeper.cls ≠ "java/lang/invoke/VarHandle" ∧ (parseMethodDescriptor yX15_deeper.desc).map (fun d => d.parameters.length) = some 1 := by decide +kernel
theorem cmTw_deeper (P W : Int) : CMv (MTw_deeper P W) 1 := ⟨⟨q227, q2356, ndTw_deeper⟩, q2355, qs115⟩
def MTw_isFresh (P W : Int) : Mt := (ΛT P W, yX15_isFresh, cX15_isFresh, 1, (some .boolean), 1, 120)
theorem ndTw_isFresh : yX15_isFresh.cls ≠ "java/lang/invoke/MethodHandle" ∧ yX15_isFresh.cls ≠ "java/lang/invoke/VarHandle" ∧ (parseMethodDescriptor yX15_isFresh.desc).map (fun d => d.parameters.length) = some 0 := by decide +kernel
theorem cmTw_isFresh (P W : Int) : CMv (MTw_isFresh P W) 0 := ⟨⟨q227, q2414, ndTw_isFresh⟩, q2413, qs126⟩
def MTw_look0 (P W : Int) : Mt := (ΛT P W, yX15_look0, cX15_look0, 2, (some .int), 1, 120)
theorem ndTw_look0 : yX15_look0.cls ≠ "java/lang/invoke/MethodHandle" ∧ yX15_look0.cls ≠ "java/lang/invoke/VarHandle" ∧ (parseMethodDescriptor yX15_look0.desc).map (fun d => d.parameters.length) = some 1 := by decide +kernel
theorem cmTw_look0 (P W : Int) : CMv (MTw_look0 P W) 1 := ⟨⟨q227, q2314, ndTw_look0⟩, q2313, qs107⟩
def MTw_isPair (P W : Int) : Mt := (ΛT P W, yX15_isPair, cX15_isPair, 3, (some .boolean), 2, 180)
theorem ndTw_isPair : yX15_isPair.cls ≠ "java/lang/invoke/MethodHandle" ∧ yX15_isPair.cls ≠ "java/lang/invoke/VarHandle" ∧ (parseMethodDescriptor yX15_isPair.desc).map (fun d => d.parameters.length) = some 0 := by decide +kernel
theorem cmTw_isPair (P W : Int) : CMv (MTw_isPair P W) 0 := ⟨⟨q227, q2326, ndTw_isPair⟩, q2325, qs110⟩
def MTw_isSign (P W : Int) : Mt := (ΛT P W, yX15_isSign, cX15_isSign, 2, (some .boolean), 3, 240)
theorem ndTw_isSign : yX15_isSign.cls ≠ "java/lang/invoke/MethodHandle" ∧ yX15_isSign.cls ≠ "java/lang/invoke/VarHandle" ∧ (parseMethodDescriptor yX15_isSign.desc).map (fun d => d.parameters.length) = some 1 := by decide +kernel
theorem cmTw_isSign (P W : Int) : CMv (MTw_isSign P W) 1 := ⟨⟨q227, q2322, ndTw_isSign⟩, q2321, qs109⟩
def MTw_put (P W : Int) : Mt := (ΛT P W, yX15_put, cX15_put, 5, (some .int), 1, 120)
theorem ndTw_put : yX15_put.cls ≠ "java/lang/invoke/MethodHandle" ∧ yX15_put.cls ≠ "java/lang/invoke/VarHandle" ∧ (parseMethodDescriptor yX15_put.desc).map (fun d => d.parameters.length) = some 4 := by decide +kernel
theorem cmTw_put (P W : Int) : CMv (MTw_put P W) 4 := ⟨⟨q227, q2334, ndTw_put⟩, q2333, qs112⟩
def MTw_rank (P W : Int) : Mt := (ΛT P W, yX15_rank, cX15_rank, 1, (some .int), 1, 120)
theorem ndTw_rank : yX15_rank.cls ≠ "java/lang/invoke/MethodHandle" ∧ yX15_rank.cls ≠ "java/lang/invoke/VarHandle" ∧ (parseMethodDescriptor yX15_rank.desc).map (fun d => d.parameters.length) = some 1 := by decide +kernel
theorem cmTw_rank (P W : Int) : CMs (MTw_rank P W) 1 := ⟨⟨q227, q2417, ndTw_rank⟩, q2416⟩
def MTw_reduce (P W : Int) : Mt := (ΛT P W, yX15_reduce, cX15_reduce, 4, none, 2, 180)
theorem ndTw_reduce : yX15_reduce.cls ≠ "java/lang/invoke/MethodHandle" ∧ yX15_reduce.cls ≠ "java/lang/invoke/VarHandle" ∧ (parseMethodDescriptor yX15_reduce.desc).map (fun d => d.parameters.length) = some 2 := by decide +kernel
theorem cmTw_reduce (P W : Int) : CMv (MTw_reduce P W) 2 := ⟨⟨q227, q2421, ndTw_reduce⟩, q2420, qs127⟩
def MTw_reduceAll (P W : Int) : Mt := (ΛT P W, yX15_reduceAll, cX15_reduceAll, 3, none, 3, 240)
theorem ndTw_reduceAll : yX15_reduceAll.cls ≠ "java/lang/invoke/MethodHandle" ∧ yX15_reduceAll.cls ≠ "java/lang/invoke/VarHandle" ∧ (parseMethodDescriptor yX15_reduceAll.desc).map (fun d => d.parameters.length) = some 1 := by decide +kernel
theorem cmTw_reduceAll (P W : Int) : CMv (MTw_reduceAll P W) 1 := ⟨⟨q227, q2429, ndTw_reduceAll⟩, q2428, qs129⟩
def MTw_signsOver (P W : Int) : Mt := (ΛT P W, yX15_signsOver, cX15_signsOver, 3, none, 2, 180)
theorem ndTw_signsOver : yX15_signsOver.cls ≠ "java/lang/invoke/MethodHandle" ∧ yX15_signsOver.cls ≠ "java/lang/invoke/VarHandle" ∧ (parseMethodDescriptor yX15_signsOver.desc).map (fun d => d.parameters.length) = some 1 := by decide +kernel
theorem cmTw_signsOver (P W : Int) : CMv (MTw_signsOver P W) 1 := ⟨⟨q227, q2406, ndTw_signsOver⟩, q2405, qs124⟩
def MTw_closes (P W : Int) : Mt := (ΛT P W, yX15_closes, cX15_closes, 7, (some .boolean), 4, 300)
theorem ndTw_closes : yX15_closes.cls ≠ "java/lang/invoke/MethodHandle" ∧ yX15_closes.cls ≠ "java/lang/invoke/VarHandle" ∧ (parseMethodDescriptor yX15_closes.desc).map (fun d => d.parameters.length) = some 1 := by decide +kernel
theorem cmTw_closes (P W : Int) : CMv (MTw_closes P W) 1 := ⟨⟨q227, q2425, ndTw_closes⟩, q2424, qs128⟩
def MTw_gap (P W : Int) : Mt := (ΛT P W, yX15_gap, cX15_gap, 3, none, 2, 180)
theorem ndTw_gap : yX15_gap.cls ≠ "java/lang/invoke/MethodHandle" ∧ yX15_gap.cls ≠ "java/lang/invoke/VarHandle" ∧ (parseMethodDescriptor yX15_gap.desc).map (fun d => d.parameters.length) = some 0 := by decide +kernel
theorem cmTw_gap (P W : Int) : CMv (MTw_gap P W) 0 := ⟨⟨q227, q2310, ndTw_gap⟩, q2309, qs106⟩
def MTw_operator (P W : Int) : Mt := (ΛT P W, yX15_operator, cX15_operator, 3, (some .int), 3, 240)
theorem ndTw_operator : yX15_operator.cls ≠ "java/lang/invoke/MethodHandle" ∧ yX15_operator.cls ≠ "java/lang/invoke/VarHandle" ∧ (parseMethodDescriptor yX15_operator.desc).map (fun d => d.parameters.length) = some 0 := by decide +kernel
theorem cmTw_operator (P W : Int) : CMv (MTw_operator P W) 0 := ⟨⟨q227, q2410, ndTw_operator⟩, q2409, qs125⟩
def MTw_push (P W : Int) : Mt := (ΛT P W, yX15_push, cX15_push, 4, none, 1, 120)
theorem ndTw_push : yX15_push.cls ≠ "java/lang/invoke/MethodHandle" ∧ yX15_push.cls ≠ "java/lang/invoke/VarHandle" ∧ (parseMethodDescriptor yX15_push.desc).map (fun d => d.parameters.length) = some 3 := by decide +kernel
theorem cmTw_push (P W : Int) : CMv (MTw_push P W) 3 := ⟨⟨q227, q2376, ndTw_push⟩, q2375, qs120⟩
def MTw_isDigit (P W : Int) : Mt := (ΛT P W, yX15_isDigit, cX15_isDigit, 1, (some .boolean), 1, 120)
theorem ndTw_isDigit : yX15_isDigit.cls ≠ "java/lang/invoke/MethodHandle" ∧ yX15_isDigit.cls ≠ "java/lang/invoke/VarHandle" ∧ (parseMethodDescriptor yX15_isDigit.desc).map (fun d => d.parameters.length) = some 1 := by decide +kernel
theorem cmTw_isDigit (P W : Int) : CMs (MTw_isDigit P W) 1 := ⟨⟨q227, q2349, ndTw_isDigit⟩, q2348⟩
def MTw_isLetter (P W : Int) : Mt := (ΛT P W, yX15_isLetter, cX15_isLetter, 1, (some .boolean), 1, 120)
theorem ndTw_isLetter : yX15_isLetter.cls ≠ "java/lang/invoke/MethodHandle" ∧ yX15_isLetter.cls ≠ "java/lang/invoke/VarHandle" ∧ (parseMethodDescriptor yX15_isLetter.desc).map (fun d => d.parameters.length) = some 1 := by decide +kernel
theorem cmTw_isLetter (P W : Int) : CMs (MTw_isLetter P W) 1 := ⟨⟨q227, q2346, ndTw_isLetter⟩, q2345⟩
def MTw_wordEnd (P W : Int) : Mt := (ΛT P W, yX15_wordEnd, cX15_wordEnd, 2, (some .int), 2, 180)
theorem ndTw_wordEnd : yX15_wordEnd.cls ≠ "java/lang/invoke/MethodHandle" ∧ yX15_wordEnd.cls ≠ "java/lang/invoke/VarHandle" ∧ (parseMethodDescriptor yX15_wordEnd.desc).map (fun d => d.parameters.length) = some 0 := by decide +kernel
theorem cmTw_wordEnd (P W : Int) : CMv (MTw_wordEnd P W) 0 := ⟨⟨q227, q2343, ndTw_wordEnd⟩, q2342, qs114⟩
def MTw_isWord (P W : Int) : Mt := (ΛT P W, yX15_isWord, cX15_isWord, 5, (some .boolean), 7, 480)
theorem ndTw_isWord : yX15_isWord.cls ≠ "java/lang/invoke/MethodHandle" ∧ yX15_isWord.cls ≠ "java/lang/invoke/VarHandle" ∧ (parseMethodDescriptor yX15_isWord.desc).map (fun d => d.parameters.length) = some 1 := by decide +kernel
theorem cmTw_isWord (P W : Int) : CMv (MTw_isWord P W) 1 := ⟨⟨q227, q2339, ndTw_isWord⟩, q2338, qs113⟩
def MTw_isKept (P W : Int) : Mt := (ΛT P W, yX15_isKept, cX15_isKept, 1, (some .boolean), 8, 540)
theorem ndTw_isKept : yX15_isKept.cls ≠ "java/lang/invoke/MethodHandle" ∧ yX15_isKept.cls ≠ "java/lang/invoke/VarHandle" ∧ (parseMethodDescriptor yX15_isKept.desc).map (fun d => d.parameters.length) = some 0 := by decide +kernel
theorem cmTw_isKept (P W : Int) : CMv (MTw_isKept P W) 0 := ⟨⟨q227, q2395, ndTw_isKept⟩, q2394, qs123⟩
def MTw_name (P W : Int) : Mt := (ΛT P W, yX15_name, cX15_name, 6, (some .int), 9, 600)
theorem ndTw_name : yX15_name.cls ≠ "java/lang/invoke/MethodHandle" ∧ yX15_name.cls ≠ "java/lang/invoke/VarHandle" ∧ (parseMethodDescriptor yX15_name.desc).map (fun d => d.parameters.length) = some 0 := by decide +kernel
theorem cmTw_name (P W : Int) : CMv (MTw_name P W) 0 := ⟨⟨q227, q2391, ndTw_name⟩, q2390, qs122⟩
def MTw_number (P W : Int) : Mt := (ΛT P W, yX15_number, cX15_number, 6, none, 3, 240)
theorem ndTw_number : yX15_number.cls ≠ "java/lang/invoke/MethodHandle" ∧ yX15_number.cls ≠ "java/lang/invoke/VarHandle" ∧ (parseMethodDescriptor yX15_number.desc).map (fun d => d.parameters.length) = some 2 := by decide +kernel
theorem cmTw_number (P W : Int) : CMv (MTw_number P W) 2 := ⟨⟨q227, q2381, ndTw_number⟩, q2380, qs121⟩
def MTw_sign (P W : Int) : Mt := (ΛT P W, yX15_sign, cX15_sign, 2, none, 4, 300)
theorem ndTw_sign : yX15_sign.cls ≠ "java/lang/invoke/MethodHandle" ∧ yX15_sign.cls ≠ "java/lang/invoke/VarHandle" ∧ (parseMethodDescriptor yX15_sign.desc).map (fun d => d.parameters.length) = some 1 := by decide +kernel
theorem cmTw_sign (P W : Int) : CMv (MTw_sign P W) 1 := ⟨⟨q227, q2364, ndTw_sign⟩, q2363, qs117⟩
def MTw_takeOperand (P W : Int) : Mt := (ΛT P W, yX15_takeOperand, cX15_takeOperand, 6, (some .boolean), 10, 660)
theorem ndTw_takeOperand : yX15_takeOperand.cls ≠ "java/lang/invoke/MethodHandle" ∧ yX15_takeOperand.cls ≠ "java/lang/invoke/VarHandle" ∧ (parseMethodDescriptor yX15_takeOperand.desc).map (fun d => d.parameters.length) = some 0 := by decide +kernel
theorem cmTw_takeOperand (P W : Int) : CMv (MTw_takeOperand P W) 0 := ⟨⟨q227, q2372, ndTw_takeOperand⟩, q2371, qs119⟩
def MTw_expression (P W : Int) : Mt := (ΛT P W, yX15_expression, cX15_expression, 6, none, 11, 720)
theorem ndTw_expression : yX15_expression.cls ≠ "java/lang/invoke/MethodHandle" ∧ yX15_expression.cls ≠ "java/lang/invoke/VarHandle" ∧ (parseMethodDescriptor yX15_expression.desc).map (fun d => d.parameters.length) = some 0 := by decide +kernel
theorem cmTw_expression (P W : Int) : CMv (MTw_expression P W) 0 := ⟨⟨q227, q2368, ndTw_expression⟩, q2367, qs118⟩
def MTw_assignment (P W : Int) : Mt := (ΛT P W, yX15_assignment, cX15_assignment, 5, none, 12, 780)
theorem ndTw_assignment : yX15_assignment.cls ≠ "java/lang/invoke/MethodHandle" ∧ yX15_assignment.cls ≠ "java/lang/invoke/VarHandle" ∧ (parseMethodDescriptor yX15_assignment.desc).map (fun d => d.parameters.length) = some 1 := by decide +kernel
theorem cmTw_assignment (P W : Int) : CMv (MTw_assignment P W) 1 := ⟨⟨q227, q2476, ndTw_assignment⟩, q2475, qs140⟩
def MTw_endIf (P W : Int) : Mt := (ΛT P W, yX15_endIf, cX15_endIf, 3, none, 2, 180)
theorem ndTw_endIf : yX15_endIf.cls ≠ "java/lang/invoke/MethodHandle" ∧ yX15_endIf.cls ≠ "java/lang/invoke/VarHandle" ∧ (parseMethodDescriptor yX15_endIf.desc).map (fun d => d.parameters.length) = some 1 := by decide +kernel
theorem cmTw_endIf (P W : Int) : CMv (MTw_endIf P W) 1 := ⟨⟨q227, q2437, ndTw_endIf⟩, q2436, qs131⟩
def MTw_openBlock (P W : Int) : Mt := (ΛT P W, yX15_openBlock, cX15_openBlock, 3, none, 4, 300)
theorem ndTw_openBlock : yX15_openBlock.cls ≠ "java/lang/invoke/MethodHandle" ∧ yX15_openBlock.cls ≠ "java/lang/invoke/VarHandle" ∧ (parseMethodDescriptor yX15_openBlock.desc).map (fun d => d.parameters.length) = some 2 := by decide +kernel
theorem cmTw_openBlock (P W : Int) : CMv (MTw_openBlock P W) 2 := ⟨⟨q227, q2433, ndTw_openBlock⟩, q2432, qs130⟩
def MTw_ifStatement (P W : Int) : Mt := (ΛT P W, yX15_ifStatement, cX15_ifStatement, 4, none, 12, 780)
theorem ndTw_ifStatement : yX15_ifStatement.cls ≠ "java/lang/invoke/MethodHandle" ∧ yX15_ifStatement.cls ≠ "java/lang/invoke/VarHandle" ∧ (parseMethodDescriptor yX15_ifStatement.desc).map (fun d => d.parameters.length) = some 1 := by decide +kernel
theorem cmTw_ifStatement (P W : Int) : CMv (MTw_ifStatement P W) 1 := ⟨⟨q227, q2360, ndTw_ifStatement⟩, q2359, qs116⟩
def MTw_closeBlock (P W : Int) : Mt := (ΛT P W, yX15_closeBlock, cX15_closeBlock, 4, none, 13, 840)
theorem ndTw_closeBlock : yX15_closeBlock.cls ≠ "java/lang/invoke/MethodHandle" ∧ yX15_closeBlock.cls ≠ "java/lang/invoke/VarHandle" ∧ (parseMethodDescriptor yX15_closeBlock.desc).map (fun d => d.parameters.length) = some 0 := by decide +kernel
theorem cmTw_closeBlock (P W : Int) : CMv (MTw_closeBlock P W) 0 := ⟨⟨q227, q2330, ndTw_closeBlock⟩, q2329, qs111⟩
def MTw_sortWord (P W : Int) : Mt := (ΛT P W, yX15_sortWord, cX15_sortWord, 1, none, 8, 540)
theorem ndTw_sortWord : yX15_sortWord.cls ≠ "java/lang/invoke/MethodHandle" ∧ yX15_sortWord.cls ≠ "java/lang/invoke/VarHandle" ∧ (parseMethodDescriptor yX15_sortWord.desc).map (fun d => d.parameters.length) = some 0 := by decide +kernel
theorem cmTw_sortWord (P W : Int) : CMv (MTw_sortWord P W) 0 := ⟨⟨q227, q2449, ndTw_sortWord⟩, q2448, qs134⟩
def MTw_defItem (P W : Int) : Mt := (ΛT P W, yX15_defItem, cX15_defItem, 9, none, 12, 780)
theorem ndTw_defItem : yX15_defItem.cls ≠ "java/lang/invoke/MethodHandle" ∧ yX15_defItem.cls ≠ "java/lang/invoke/VarHandle" ∧ (parseMethodDescriptor yX15_defItem.desc).map (fun d => d.parameters.length) = some 1 := by decide +kernel
theorem cmTw_defItem (P W : Int) : CMv (MTw_defItem P W) 1 := ⟨⟨q227, q2468, ndTw_defItem⟩, q2467, qs138⟩
def MTw_keyword (P W : Int) : Mt := (ΛT P W, yX15_keyword, cX15_keyword, 2, none, 8, 540)
theorem ndTw_keyword : yX15_keyword.cls ≠ "java/lang/invoke/MethodHandle" ∧ yX15_keyword.cls ≠ "java/lang/invoke/VarHandle" ∧ (parseMethodDescriptor yX15_keyword.desc).map (fun d => d.parameters.length) = some 1 := by decide +kernel
theorem cmTw_keyword (P W : Int) : CMv (MTw_keyword P W) 1 := ⟨⟨q227, q2460, ndTw_keyword⟩, q2459, qs136⟩
def MTw_forStatement (P W : Int) : Mt := (ΛT P W, yX15_forStatement, cX15_forStatement, 5, none, 12, 780)
theorem ndTw_forStatement : yX15_forStatement.cls ≠ "java/lang/invoke/MethodHandle" ∧ yX15_forStatement.cls ≠ "java/lang/invoke/VarHandle" ∧ (parseMethodDescriptor yX15_forStatement.desc).map (fun d => d.parameters.length) = some 1 := by decide +kernel
theorem cmTw_forStatement (P W : Int) : CMv (MTw_forStatement P W) 1 := ⟨⟨q227, q2456, ndTw_forStatement⟩, q2455, qs135⟩
def MTw_type (P W : Int) : Mt := (ΛT P W, yX15_type, cX15_type, 1, none, 9, 600)
theorem ndTw_type : yX15_type.cls ≠ "java/lang/invoke/MethodHandle" ∧ yX15_type.cls ≠ "java/lang/invoke/VarHandle" ∧ (parseMethodDescriptor yX15_type.desc).map (fun d => d.parameters.length) = some 0 := by decide +kernel
theorem cmTw_type (P W : Int) : CMv (MTw_type P W) 0 := ⟨⟨q227, q2445, ndTw_type⟩, q2444, qs133⟩
def MTw_inputItem (P W : Int) : Mt := (ΛT P W, yX15_inputItem, cX15_inputItem, 7, none, 10, 660)
theorem ndTw_inputItem : yX15_inputItem.cls ≠ "java/lang/invoke/MethodHandle" ∧ yX15_inputItem.cls ≠ "java/lang/invoke/VarHandle" ∧ (parseMethodDescriptor yX15_inputItem.desc).map (fun d => d.parameters.length) = some 1 := by decide +kernel
theorem cmTw_inputItem (P W : Int) : CMv (MTw_inputItem P W) 1 := ⟨⟨q227, q2464, ndTw_inputItem⟩, q2463, qs137⟩
def MTw_outputItem (P W : Int) : Mt := (ΛT P W, yX15_outputItem, cX15_outputItem, 3, none, 12, 780)
theorem ndTw_outputItem : yX15_outputItem.cls ≠ "java/lang/invoke/MethodHandle" ∧ yX15_outputItem.cls ≠ "java/lang/invoke/VarHandle" ∧ (parseMethodDescriptor yX15_outputItem.desc).map (fun d => d.parameters.length) = some 1 := by decide +kernel
theorem cmTw_outputItem (P W : Int) : CMv (MTw_outputItem P W) 1 := ⟨⟨q227, q2472, ndTw_outputItem⟩, q2471, qs139⟩
def MTw_varStatement (P W : Int) : Mt := (ΛT P W, yX15_varStatement, cX15_varStatement, 9, none, 12, 780)
theorem ndTw_varStatement : yX15_varStatement.cls ≠ "java/lang/invoke/MethodHandle" ∧ yX15_varStatement.cls ≠ "java/lang/invoke/VarHandle" ∧ (parseMethodDescriptor yX15_varStatement.desc).map (fun d => d.parameters.length) = some 1 := by decide +kernel
theorem cmTw_varStatement (P W : Int) : CMv (MTw_varStatement P W) 1 := ⟨⟨q227, q2441, ndTw_varStatement⟩, q2440, qs132⟩
def MTw_program (P W : Int) : Mt := (ΛT P W, yX15_program, cX15_program, 3, none, 14, 900)
theorem ndTw_program : yX15_program.cls ≠ "java/lang/invoke/MethodHandle" ∧ yX15_program.cls ≠ "java/lang/invoke/VarHandle" ∧ (parseMethodDescriptor yX15_program.desc).map (fun d => d.parameters.length) = some 0 := by decide +kernel
theorem cmTw_program (P W : Int) : CMv (MTw_program P W) 0 := ⟨⟨q227, q2306, ndTw_program⟩, q2305, qs105⟩
def MTw_mustPublic (P W : Int) : Mt := (ΛT P W, yX15_mustPublic, cX15_mustPublic, 1, none, 2, 180)
theorem ndTw_mustPublic : yX15_mustPublic.cls ≠ "java/lang/invoke/MethodHandle" ∧ yX15_mustPublic.cls ≠ "java/lang/invoke/VarHandle" ∧ (parseMethodDescriptor yX15_mustPublic.desc).map (fun d => d.parameters.length) = some 0 := by decide +kernel
theorem cmTw_mustPublic (P W : Int) : CMv (MTw_mustPublic P W) 0 := ⟨⟨q227, q2512, ndTw_mustPublic⟩, q2511, qs149⟩
def MTw_binarySort (P W : Int) : Mt := (ΛT P W, yX15_binarySort, cX15_binarySort, 8, none, 3, 240)
theorem ndTw_binarySort : yX15_binarySort.cls ≠ "java/lang/invoke/MethodHandle" ∧ yX15_binarySort.cls ≠ "java/lang/invoke/VarHandle" ∧ (parseMethodDescriptor yX15_binarySort.desc).map (fun d => d.parameters.length) = some 1 := by decide +kernel
theorem cmTw_binarySort (P W : Int) : CMv (MTw_binarySort P W) 1 := ⟨⟨q227, q2520, ndTw_binarySort⟩, q2519, qs151⟩
def MTw_must (P W : Int) : Mt := (ΛT P W, yX15_must, cX15_must, 2, none, 2, 180)
theorem ndTw_must : yX15_must.cls ≠ "java/lang/invoke/MethodHandle" ∧ yX15_must.cls ≠ "java/lang/invoke/VarHandle" ∧ (parseMethodDescriptor yX15_must.desc).map (fun d => d.parameters.length) = some 1 := by decide +kernel
theorem cmTw_must (P W : Int) : CMv (MTw_must P W) 1 := ⟨⟨q227, q2504, ndTw_must⟩, q2503, qs147⟩
def MTw_bitSort (P W : Int) : Mt := (ΛT P W, yX15_bitSort, cX15_bitSort, 2, none, 3, 240)
theorem ndTw_bitSort : yX15_bitSort.cls ≠ "java/lang/invoke/MethodHandle" ∧ yX15_bitSort.cls ≠ "java/lang/invoke/VarHandle" ∧ (parseMethodDescriptor yX15_bitSort.desc).map (fun d => d.parameters.length) = some 1 := by decide +kernel
theorem cmTw_bitSort (P W : Int) : CMv (MTw_bitSort P W) 1 := ⟨⟨q227, q2508, ndTw_bitSort⟩, q2507, qs148⟩
def MTw_pile (P W : Int) : Mt := (ΛT P W, yX15_pile, cX15_pile, 4, none, 1, 120)
theorem ndTw_pile : yX15_pile.cls ≠ "java/lang/invoke/MethodHandle" ∧ yX15_pile.cls ≠ "java/lang/invoke/VarHandle" ∧ (parseMethodDescriptor yX15_pile.desc).map (fun d => d.parameters.length) = some 3 := by decide +kernel
theorem cmTw_pile (P W : Int) : CMv (MTw_pile P W) 3 := ⟨⟨q227, q2488, ndTw_pile⟩, q2487, qs143⟩
def MTw_refer (P W : Int) : Mt := (ΛT P W, yX15_refer, cX15_refer, 3, none, 1, 120)
theorem ndTw_refer : yX15_refer.cls ≠ "java/lang/invoke/MethodHandle" ∧ yX15_refer.cls ≠ "java/lang/invoke/VarHandle" ∧ (parseMethodDescriptor yX15_refer.desc).map (fun d => d.parameters.length) = some 2 := by decide +kernel
theorem cmTw_refer (P W : Int) : CMv (MTw_refer P W) 2 := ⟨⟨q227, q2500, ndTw_refer⟩, q2499, qs146⟩
def MTw_selectSort (P W : Int) : Mt := (ΛT P W, yX15_selectSort, cX15_selectSort, 3, none, 2, 180)
theorem ndTw_selectSort : yX15_selectSort.cls ≠ "java/lang/invoke/MethodHandle" ∧ yX15_selectSort.cls ≠ "java/lang/invoke/VarHandle" ∧ (parseMethodDescriptor yX15_selectSort.desc).map (fun d => d.parameters.length) = some 1 := by decide +kernel
theorem cmTw_selectSort (P W : Int) : CMv (MTw_selectSort P W) 1 := ⟨⟨q227, q2524, ndTw_selectSort⟩, q2523, qs152⟩
def MTw_unarySort (P W : Int) : Mt := (ΛT P W, yX15_unarySort, cX15_unarySort, 3, none, 2, 180)
theorem ndTw_unarySort : yX15_unarySort.cls ≠ "java/lang/invoke/MethodHandle" ∧ yX15_unarySort.cls ≠ "java/lang/invoke/VarHandle" ∧ (parseMethodDescriptor yX15_unarySort.desc).map (fun d => d.parameters.length) = some 1 := by decide +kernel
theorem cmTw_unarySort (P W : Int) : CMv (MTw_unarySort P W) 1 := ⟨⟨q227, q2516, ndTw_unarySort⟩, q2515, qs150⟩
def MTw_visible (P W : Int) : Mt := (ΛT P W, yX15_visible, cX15_visible, 5, (some .int), 1, 120)
theorem ndTw_visible : yX15_visible.cls ≠ "java/lang/invoke/MethodHandle" ∧ yX15_visible.cls ≠ "java/lang/invoke/VarHandle" ∧ (parseMethodDescriptor yX15_visible.desc).map (fun d => d.parameters.length) = some 1 := by decide +kernel
theorem cmTw_visible (P W : Int) : CMv (MTw_visible P W) 1 := ⟨⟨q227, q2496, ndTw_visible⟩, q2495, qs145⟩
def MTw_used (P W : Int) : Mt := (ΛT P W, yX15_used, cX15_used, 3, (some .int), 2, 180)
theorem ndTw_used : yX15_used.cls ≠ "java/lang/invoke/MethodHandle" ∧ yX15_used.cls ≠ "java/lang/invoke/VarHandle" ∧ (parseMethodDescriptor yX15_used.desc).map (fun d => d.parameters.length) = some 1 := by decide +kernel
theorem cmTw_used (P W : Int) : CMv (MTw_used P W) 1 := ⟨⟨q227, q2492, ndTw_used⟩, q2491, qs144⟩
def MTw_operandSort (P W : Int) : Mt := (ΛT P W, yX15_operandSort, cX15_operandSort, 5, none, 4, 300)
theorem ndTw_operandSort : yX15_operandSort.cls ≠ "java/lang/invoke/MethodHandle" ∧ yX15_operandSort.cls ≠ "java/lang/invoke/VarHandle" ∧ (parseMethodDescriptor yX15_operandSort.desc).map (fun d => d.parameters.length) = some 1 := by decide +kernel
theorem cmTw_operandSort (P W : Int) : CMv (MTw_operandSort P W) 1 := ⟨⟨q227, q2484, ndTw_operandSort⟩, q2483, qs142⟩
def MTw_assigned (P W : Int) : Mt := (ΛT P W, yX15_assigned, cX15_assigned, 4, none, 3, 240)
theorem ndTw_assigned : yX15_assigned.cls ≠ "java/lang/invoke/MethodHandle" ∧ yX15_assigned.cls ≠ "java/lang/invoke/VarHandle" ∧ (parseMethodDescriptor yX15_assigned.desc).map (fun d => d.parameters.length) = some 1 := by decide +kernel
theorem cmTw_assigned (P W : Int) : CMv (MTw_assigned P W) 1 := ⟨⟨q227, q2545, ndTw_assigned⟩, q2544, qs157⟩
def MTw_comes (P W : Int) : Mt := (ΛT P W, yX15_comes, cX15_comes, 2, none, 2, 180)
theorem ndTw_comes : yX15_comes.cls ≠ "java/lang/invoke/MethodHandle" ∧ yX15_comes.cls ≠ "java/lang/invoke/VarHandle" ∧ (parseMethodDescriptor yX15_comes.desc).map (fun d => d.parameters.length) = some 1 := by decide +kernel
theorem cmTw_comes (P W : Int) : CMv (MTw_comes P W) 1 := ⟨⟨q227, q2532, ndTw_comes⟩, q2531, qs154⟩
def MTw_elementSort (P W : Int) : Mt := (ΛT P W, yX15_elementSort, cX15_elementSort, 3, none, 3, 240)
theorem ndTw_elementSort : yX15_elementSort.cls ≠ "java/lang/invoke/MethodHandle" ∧ yX15_elementSort.cls ≠ "java/lang/invoke/VarHandle" ∧ (parseMethodDescriptor yX15_elementSort.desc).map (fun d => d.parameters.length) = some 1 := by decide +kernel
theorem cmTw_elementSort (P W : Int) : CMv (MTw_elementSort P W) 1 := ⟨⟨q227, q2549, ndTw_elementSort⟩, q2548, qs158⟩
def MTw_symbol (P W : Int) : Mt := (ΛT P W, yX15_symbol, cX15_symbol, 6, (some .int), 1, 120)
theorem ndTw_symbol : yX15_symbol.cls ≠ "java/lang/invoke/MethodHandle" ∧ yX15_symbol.cls ≠ "java/lang/invoke/VarHandle" ∧ (parseMethodDescriptor yX15_symbol.desc).map (fun d => d.parameters.length) = some 5 := by decide +kernel
theorem cmTw_symbol (P W : Int) : CMv (MTw_symbol P W) 5 := ⟨⟨q227, q2540, ndTw_symbol⟩, q2539, qs156⟩
def MTw_paramSort (P W : Int) : Mt := (ΛT P W, yX15_paramSort, cX15_paramSort, 5, none, 2, 180)
theorem ndTw_paramSort : yX15_paramSort.cls ≠ "java/lang/invoke/MethodHandle" ∧ yX15_paramSort.cls ≠ "java/lang/invoke/VarHandle" ∧ (parseMethodDescriptor yX15_paramSort.desc).map (fun d => d.parameters.length) = some 1 := by decide +kernel
theorem cmTw_paramSort (P W : Int) : CMv (MTw_paramSort P W) 1 := ⟨⟨q227, q2536, ndTw_paramSort⟩, q2535, qs155⟩
def MTw_statementSort (P W : Int) : Mt := (ΛT P W, yX15_statementSort, cX15_statementSort, 4, none, 4, 300)
theorem ndTw_statementSort : yX15_statementSort.cls ≠ "java/lang/invoke/MethodHandle" ∧ yX15_statementSort.cls ≠ "java/lang/invoke/VarHandle" ∧ (parseMethodDescriptor yX15_statementSort.desc).map (fun d => d.parameters.length) = some 1 := by decide +kernel
theorem cmTw_statementSort (P W : Int) : CMv (MTw_statementSort P W) 1 := ⟨⟨q227, q2528, ndTw_statementSort⟩, q2527, qs153⟩
def MTw_sorts (P W : Int) : Mt := (ΛT P W, yX15_sorts, cX15_sorts, 2, none, 5, 360)
theorem ndTw_sorts : yX15_sorts.cls ≠ "java/lang/invoke/MethodHandle" ∧ yX15_sorts.cls ≠ "java/lang/invoke/VarHandle" ∧ (parseMethodDescriptor yX15_sorts.desc).map (fun d => d.parameters.length) = some 0 := by decide +kernel
theorem cmTw_sorts (P W : Int) : CMv (MTw_sorts P W) 0 := ⟨⟨q227, q2480, ndTw_sorts⟩, q2479, qs141⟩
def MTw_compile (P W : Int) : Mt := (ΛT P W, yX15_compile, cX15_compile, 2, (some .int), 15, 960)
theorem ndTw_compile : yX15_compile.cls ≠ "java/lang/invoke/MethodHandle" ∧ yX15_compile.cls ≠ "java/lang/invoke/VarHandle" ∧ (parseMethodDescriptor yX15_compile.desc).map (fun d => d.parameters.length) = some 0 := by decide +kernel
theorem cmTw_compile (P W : Int) : CMv (MTw_compile P W) 0 := ⟨⟨q227, q2298, ndTw_compile⟩, q2296, q2297⟩
def MTw_done (P W : Int) : Mt := (ΛT P W, yX15_done, cX15_done, 3, (some .int), 1, 120)
theorem ndTw_done : yX15_done.cls ≠ "java/lang/invoke/MethodHandle" ∧ yX15_done.cls ≠ "java/lang/invoke/VarHandle" ∧ (parseMethodDescriptor yX15_done.desc).map (fun d => d.parameters.length) = some 0 := by decide +kernel
theorem cmTw_done (P W : Int) : CMv (MTw_done P W) 0 := ⟨⟨q227, q2702, ndTw_done⟩, q2701, qs195⟩
def MTw_look (P W : Int) : Mt := (ΛT P W, yX15_look, cX15_look, 2, (some .int), 2, 180)
theorem ndTw_look : yX15_look.cls ≠ "java/lang/invoke/MethodHandle" ∧ yX15_look.cls ≠ "java/lang/invoke/VarHandle" ∧ (parseMethodDescriptor yX15_look.desc).map (fun d => d.parameters.length) = some 1 := by decide +kernel
theorem cmTw_look (P W : Int) : CMv (MTw_look P W) 1 := ⟨⟨q227, q2698, ndTw_look⟩, q2696, q2697⟩
def MTw_gate (P W : Int) : Mt := (ΛT P W, yX15_gate, cX15_gate, 3, (some .int), 1, 120)
theorem ndTw_gate : yX15_gate.cls ≠ "java/lang/invoke/MethodHandle" ∧ yX15_gate.cls ≠ "java/lang/invoke/VarHandle" ∧ (parseMethodDescriptor yX15_gate.desc).map (fun d => d.parameters.length) = some 2 := by decide +kernel
theorem cmTw_gate (P W : Int) : CMv (MTw_gate P W) 2 := ⟨⟨q227, q2706, ndTw_gate⟩, q2704, q2705⟩
def MTw_literal (P W : Int) : Mt := (ΛT P W, yX15_literal, cX15_literal, 3, (some .int), 1, 120)
theorem ndTw_literal : yX15_literal.cls ≠ "java/lang/invoke/MethodHandle" ∧ yX15_literal.cls ≠ "java/lang/invoke/VarHandle" ∧ (parseMethodDescriptor yX15_literal.desc).map (fun d => d.parameters.length) = some 2 := by decide +kernel
theorem cmTw_literal (P W : Int) : CMv (MTw_literal P W) 2 := ⟨⟨q227, q2710, ndTw_literal⟩, q2708, q2709⟩
def MTw_input (P W : Int) : Mt := (ΛT P W, yX15_input, cX15_input, 3, (some .long), 1, 120)
theorem ndTw_input : yX15_input.cls ≠ "java/lang/invoke/MethodHandle" ∧ yX15_input.cls ≠ "java/lang/invoke/VarHandle" ∧ (parseMethodDescriptor yX15_input.desc).map (fun d => d.parameters.length) = some 2 := by decide +kernel
theorem cmTw_input (P W : Int) : CMv (MTw_input P W) 2 := ⟨⟨q227, q2714, ndTw_input⟩, q2712, q2713⟩
def MTw_give (P W : Int) : Mt := (ΛT P W, yX15_give, cX15_give, 3, (some .boolean), 1, 120)
theorem ndTw_give : yX15_give.cls ≠ "java/lang/invoke/MethodHandle" ∧ yX15_give.cls ≠ "java/lang/invoke/VarHandle" ∧ (parseMethodDescriptor yX15_give.desc).map (fun d => d.parameters.length) = some 2 := by decide +kernel
theorem cmTw_give (P W : Int) : CMv (MTw_give P W) 2 := ⟨⟨q227, q2719, ndTw_give⟩, q2717, q2718⟩
def MTw_seed (P W : Int) : Mt := (ΛT P W, yX15_seed, cX15_seed, 2, none, 1, 120)
theorem ndTw_seed : yX15_seed.cls ≠ "java/lang/invoke/MethodHandle" ∧ yX15_seed.cls ≠ "java/lang/invoke/VarHandle" ∧ (parseMethodDescriptor yX15_seed.desc).map (fun d => d.parameters.length) = some 1 := by decide +kernel
theorem cmTw_seed (P W : Int) : CMv (MTw_seed P W) 1 := ⟨⟨q227, q2723, ndTw_seed⟩, q2721, q2722⟩
def MTw_draws (P W : Int) : Mt := (ΛT P W, yX15_draws, cX15_draws, 5, (some .int), 1, 120)
theorem ndTw_draws : yX15_draws.cls ≠ "java/lang/invoke/MethodHandle" ∧ yX15_draws.cls ≠ "java/lang/invoke/VarHandle" ∧ (parseMethodDescriptor yX15_draws.desc).map (fun d => d.parameters.length) = some 2 := by decide +kernel
theorem cmTw_draws (P W : Int) : CMv (MTw_draws P W) 2 := ⟨⟨q227, q2727, ndTw_draws⟩, q2725, q2726⟩
def MTw_sendRound (P W : Int) : Mt := (ΛT P W, yX15_sendRound, cX15_sendRound, 3, none, 1, 120)
theorem ndTw_sendRound : yX15_sendRound.cls ≠ "java/lang/invoke/MethodHandle" ∧ yX15_sendRound.cls ≠ "java/lang/invoke/VarHandle" ∧ (parseMethodDescriptor yX15_sendRound.desc).map (fun d => d.parameters.length) = some 1 := by decide +kernel
theorem cmTw_sendRound (P W : Int) : CMv (MTw_sendRound P W) 1 := ⟨⟨q227, q2757, ndTw_sendRound⟩, q2756, qs199⟩
def MTw_draw (P W : Int) : Mt := (ΛT P W, yX15_draw, cX15_draw, 2, (some .int), 1, 120)
theorem ndTw_draw : yX15_draw.cls ≠ "java/lang/invoke/MethodHandle" ∧ yX15_draw.cls ≠ "java/lang/invoke/VarHandle" ∧ (parseMethodDescriptor yX15_draw.desc).map (fun d => d.parameters.length) = some 0 := by decide +kernel
theorem cmTw_draw (P W : Int) : CMv (MTw_draw P W) 0 := ⟨⟨q227, q2739, ndTw_draw⟩, q2738, qs197⟩
def MIn_bitCount (P W : Int) : Mt := (ΛT P W, yJ6_bitCount, cJ6_bitCount, 1, (some .int), 1, 120)
theorem ndIn_bitCount : yJ6_bitCount.cls ≠ "java/lang/invoke/MethodHandle" ∧ yJ6_bitCount.cls ≠ "java/lang/invoke/VarHandle" ∧ (parseMethodDescriptor yJ6_bitCount.desc).map (fun d => d.parameters.length) = some 1 := by decide +kernel
theorem cmIn_bitCount (P W : Int) : CMs (MIn_bitCount P W) 1 := ⟨⟨q235, q2746, ndIn_bitCount⟩, q2745⟩
def MTw_parity (P W : Int) : Mt := (ΛT P W, yX15_parity, cX15_parity, 1, (some .int), 2, 180)
theorem ndTw_parity : yX15_parity.cls ≠ "java/lang/invoke/MethodHandle" ∧ yX15_parity.cls ≠ "java/lang/invoke/VarHandle" ∧ (parseMethodDescriptor yX15_parity.desc).map (fun d => d.parameters.length) = some 1 := by decide +kernel
theorem cmTw_parity (P W : Int) : CMs (MTw_parity P W) 1 := ⟨⟨q227, q2743, ndTw_parity⟩, q2742⟩
def MTw_shareOf (P W : Int) : Mt := (ΛT P W, yX15_shareOf, cX15_shareOf, 2, (some .int), 1, 120)
theorem ndTw_shareOf : yX15_shareOf.cls ≠ "java/lang/invoke/MethodHandle" ∧ yX15_shareOf.cls ≠ "java/lang/invoke/VarHandle" ∧ (parseMethodDescriptor yX15_shareOf.desc).map (fun d => d.parameters.length) = some 1 := by decide +kernel
theorem cmTw_shareOf (P W : Int) : CMv (MTw_shareOf P W) 1 := ⟨⟨q227, q2753, ndTw_shareOf⟩, q2752, qs198⟩
def MTw_shareAll (P W : Int) : Mt := (ΛT P W, yX15_shareAll, cX15_shareAll, 6, none, 3, 240)
theorem ndTw_shareAll : yX15_shareAll.cls ≠ "java/lang/invoke/MethodHandle" ∧ yX15_shareAll.cls ≠ "java/lang/invoke/VarHandle" ∧ (parseMethodDescriptor yX15_shareAll.desc).map (fun d => d.parameters.length) = some 0 := by decide +kernel
theorem cmTw_shareAll (P W : Int) : CMv (MTw_shareAll P W) 0 := ⟨⟨q227, q2735, ndTw_shareAll⟩, q2734, qs196⟩
def MTw_deal (P W : Int) : Mt := (ΛT P W, yX15_deal, cX15_deal, 2, (some .boolean), 4, 300)
theorem ndTw_deal : yX15_deal.cls ≠ "java/lang/invoke/MethodHandle" ∧ yX15_deal.cls ≠ "java/lang/invoke/VarHandle" ∧ (parseMethodDescriptor yX15_deal.desc).map (fun d => d.parameters.length) = some 0 := by decide +kernel
theorem cmTw_deal (P W : Int) : CMv (MTw_deal P W) 0 := ⟨⟨q227, q2731, ndTw_deal⟩, q2729, q2730⟩
def MTw_lengthOf (P W : Int) : Mt := (ΛT P W, yX15_lengthOf, cX15_lengthOf, 3, (some .int), 1, 120)
theorem ndTw_lengthOf : yX15_lengthOf.cls ≠ "java/lang/invoke/MethodHandle" ∧ yX15_lengthOf.cls ≠ "java/lang/invoke/VarHandle" ∧ (parseMethodDescriptor yX15_lengthOf.desc).map (fun d => d.parameters.length) = some 2 := by decide +kernel
theorem cmTw_lengthOf (P W : Int) : CMv (MTw_lengthOf P W) 2 := ⟨⟨q227, q2765, ndTw_lengthOf⟩, q2764, qs200⟩
def MTw_sentBit (P W : Int) : Mt := (ΛT P W, yX15_sentBit, cX15_sentBit, 7, (some .int), 2, 180)
theorem ndTw_sentBit : yX15_sentBit.cls ≠ "java/lang/invoke/MethodHandle" ∧ yX15_sentBit.cls ≠ "java/lang/invoke/VarHandle" ∧ (parseMethodDescriptor yX15_sentBit.desc).map (fun d => d.parameters.length) = some 4 := by decide +kernel
theorem cmTw_sentBit (P W : Int) : CMv (MTw_sentBit P W) 4 := ⟨⟨q227, q2769, ndTw_sentBit⟩, q2768, qs201⟩
def MTw_message (P W : Int) : Mt := (ΛT P W, yX15_message, cX15_message, 4, (some .int), 3, 240)
theorem ndTw_message : yX15_message.cls ≠ "java/lang/invoke/MethodHandle" ∧ yX15_message.cls ≠ "java/lang/invoke/VarHandle" ∧ (parseMethodDescriptor yX15_message.desc).map (fun d => d.parameters.length) = some 2 := by decide +kernel
theorem cmTw_message (P W : Int) : CMv (MTw_message P W) 2 := ⟨⟨q227, q2761, ndTw_message⟩, q2759, q2760⟩
def MTw_takeMessage (P W : Int) : Mt := (ΛT P W, yX15_takeMessage, cX15_takeMessage, 6, (some .int), 2, 180)
theorem ndTw_takeMessage : yX15_takeMessage.cls ≠ "java/lang/invoke/MethodHandle" ∧ yX15_takeMessage.cls ≠ "java/lang/invoke/VarHandle" ∧ (parseMethodDescriptor yX15_takeMessage.desc).map (fun d => d.parameters.length) = some 1 := by decide +kernel
theorem cmTw_takeMessage (P W : Int) : CMv (MTw_takeMessage P W) 1 := ⟨⟨q227, q2777, ndTw_takeMessage⟩, q2776, qs202⟩
def MTw_deliver (P W : Int) : Mt := (ΛT P W, yX15_deliver, cX15_deliver, 2, (some .int), 3, 240)
theorem ndTw_deliver : yX15_deliver.cls ≠ "java/lang/invoke/MethodHandle" ∧ yX15_deliver.cls ≠ "java/lang/invoke/VarHandle" ∧ (parseMethodDescriptor yX15_deliver.desc).map (fun d => d.parameters.length) = some 1 := by decide +kernel
theorem cmTw_deliver (P W : Int) : CMv (MTw_deliver P W) 1 := ⟨⟨q227, q2773, ndTw_deliver⟩, q2771, q2772⟩
def MTw_rush (P W : Int) : Mt := (ΛT P W, yX15_rush, cX15_rush, 5, (some .int), 3, 240)
theorem ndTw_rush : yX15_rush.cls ≠ "java/lang/invoke/MethodHandle" ∧ yX15_rush.cls ≠ "java/lang/invoke/VarHandle" ∧ (parseMethodDescriptor yX15_rush.desc).map (fun d => d.parameters.length) = some 2 := by decide +kernel
theorem cmTw_rush (P W : Int) : CMv (MTw_rush P W) 2 := ⟨⟨q227, q2781, ndTw_rush⟩, q2779, q2780⟩
def MTw_viewBits (P W : Int) : Mt := (ΛT P W, yX15_viewBits, cX15_viewBits, 2, (some .int), 1, 120)
theorem ndTw_viewBits : yX15_viewBits.cls ≠ "java/lang/invoke/MethodHandle" ∧ yX15_viewBits.cls ≠ "java/lang/invoke/VarHandle" ∧ (parseMethodDescriptor yX15_viewBits.desc).map (fun d => d.parameters.length) = some 1 := by decide +kernel
theorem cmTw_viewBits (P W : Int) : CMv (MTw_viewBits P W) 1 := ⟨⟨q227, q2789, ndTw_viewBits⟩, q2788, qs203⟩
def MTw_party (P W : Int) : Mt := (ΛT P W, yX15_party, cX15_party, 3, (some .int), 2, 180)
theorem ndTw_party : yX15_party.cls ≠ "java/lang/invoke/MethodHandle" ∧ yX15_party.cls ≠ "java/lang/invoke/VarHandle" ∧ (parseMethodDescriptor yX15_party.desc).map (fun d => d.parameters.length) = some 2 := by decide +kernel
theorem cmTw_party (P W : Int) : CMv (MTw_party P W) 2 := ⟨⟨q227, q2785, ndTw_party⟩, q2783, q2784⟩
def MTw_dealt (P W : Int) : Mt := (ΛT P W, yX15_dealt, cX15_dealt, 4, (some .int), 1, 120)
theorem ndTw_dealt : yX15_dealt.cls ≠ "java/lang/invoke/MethodHandle" ∧ yX15_dealt.cls ≠ "java/lang/invoke/VarHandle" ∧ (parseMethodDescriptor yX15_dealt.desc).map (fun d => d.parameters.length) = some 3 := by decide +kernel
theorem cmTw_dealt (P W : Int) : CMv (MTw_dealt P W) 3 := ⟨⟨q227, q2793, ndTw_dealt⟩, q2791, q2792⟩
def MTw_share (P W : Int) : Mt := (ΛT P W, yX15_share, cX15_share, 4, (some .int), 1, 120)
theorem ndTw_share : yX15_share.cls ≠ "java/lang/invoke/MethodHandle" ∧ yX15_share.cls ≠ "java/lang/invoke/VarHandle" ∧ (parseMethodDescriptor yX15_share.desc).map (fun d => d.parameters.length) = some 2 := by decide +kernel
theorem cmTw_share (P W : Int) : CMv (MTw_share P W) 2 := ⟨⟨q227, q2797, ndTw_share⟩, q2795, q2796⟩
def MTw_view (P W : Int) : Mt := (ΛT P W, yX15_view, cX15_view, 9, (some .int), 3, 240)
theorem ndTw_view : yX15_view.cls ≠ "java/lang/invoke/MethodHandle" ∧ yX15_view.cls ≠ "java/lang/invoke/VarHandle" ∧ (parseMethodDescriptor yX15_view.desc).map (fun d => d.parameters.length) = some 2 := by decide +kernel
theorem cmTw_view (P W : Int) : CMv (MTw_view P W) 2 := ⟨⟨q227, q2801, ndTw_view⟩, q2799, q2800⟩
def MTw_told (P W : Int) : Mt := (ΛT P W, yX15_told, cX15_told, 6, (some .long), 3, 240)
theorem ndTw_told : yX15_told.cls ≠ "java/lang/invoke/MethodHandle" ∧ yX15_told.cls ≠ "java/lang/invoke/VarHandle" ∧ (parseMethodDescriptor yX15_told.desc).map (fun d => d.parameters.length) = some 2 := by decide +kernel
theorem cmTw_told (P W : Int) : CMv (MTw_told P W) 2 := ⟨⟨q227, q2805, ndTw_told⟩, q2803, q2804⟩
def MTw_inputWord (P W : Int) : Mt := (ΛT P W, yX15_inputWord, cX15_inputWord, 2, (some .long), 1, 120)
theorem ndTw_inputWord : yX15_inputWord.cls ≠ "java/lang/invoke/MethodHandle" ∧ yX15_inputWord.cls ≠ "java/lang/invoke/VarHandle" ∧ (parseMethodDescriptor yX15_inputWord.desc).map (fun d => d.parameters.length) = some 1 := by decide +kernel
theorem cmTw_inputWord (P W : Int) : CMv (MTw_inputWord P W) 1 := ⟨⟨q227, q2825, ndTw_inputWord⟩, q2824, qs207⟩
def MTw_signed (P W : Int) : Mt := (ΛT P W, yX15_signed, cX15_signed, 3, (some .long), 1, 120)
theorem ndTw_signed : yX15_signed.cls ≠ "java/lang/invoke/MethodHandle" ∧ yX15_signed.cls ≠ "java/lang/invoke/VarHandle" ∧ (parseMethodDescriptor yX15_signed.desc).map (fun d => d.parameters.length) = some 1 := by decide +kernel
theorem cmTw_signed (P W : Int) : CMv (MTw_signed P W) 1 := ⟨⟨q227, q2833, ndTw_signed⟩, q2832, qs209⟩
def MTw_meanBinary (P W : Int) : Mt := (ΛT P W, yX15_meanBinary, cX15_meanBinary, 6, (some .long), 2, 180)
theorem ndTw_meanBinary : yX15_meanBinary.cls ≠ "java/lang/invoke/MethodHandle" ∧ yX15_meanBinary.cls ≠ "java/lang/invoke/VarHandle" ∧ (parseMethodDescriptor yX15_meanBinary.desc).map (fun d => d.parameters.length) = some 3 := by decide +kernel
theorem cmTw_meanBinary (P W : Int) : CMv (MTw_meanBinary P W) 3 := ⟨⟨q227, q2829, ndTw_meanBinary⟩, q2828, qs208⟩
def MTw_pushWord (P W : Int) : Mt := (ΛT P W, yX15_pushWord, cX15_pushWord, 3, none, 1, 120)
theorem ndTw_pushWord : yX15_pushWord.cls ≠ "java/lang/invoke/MethodHandle" ∧ yX15_pushWord.cls ≠ "java/lang/invoke/VarHandle" ∧ (parseMethodDescriptor yX15_pushWord.desc).map (fun d => d.parameters.length) = some 1 := by decide +kernel
theorem cmTw_pushWord (P W : Int) : CMv (MTw_pushWord P W) 1 := ⟨⟨q227, q2821, ndTw_pushWord⟩, q2820, qs206⟩
def MTw_meanOperand (P W : Int) : Mt := (ΛT P W, yX15_meanOperand, cX15_meanOperand, 6, (some .int), 3, 240)
theorem ndTw_meanOperand : yX15_meanOperand.cls ≠ "java/lang/invoke/MethodHandle" ∧ yX15_meanOperand.cls ≠ "java/lang/invoke/VarHandle" ∧ (parseMethodDescriptor yX15_meanOperand.desc).map (fun d => d.parameters.length) = some 1 := by decide +kernel
theorem cmTw_meanOperand (P W : Int) : CMv (MTw_meanOperand P W) 1 := ⟨⟨q227, q2817, ndTw_meanOperand⟩, q2816, qs205⟩
def MTw_meanStatement (P W : Int) : Mt := (ΛT P W, yX15_meanStatement, cX15_meanStatement, 6, (some .int), 1, 120)
theorem ndTw_meanStatement : yX15_meanStatement.cls ≠ "java/lang/invoke/MethodHandle" ∧ yX15_meanStatement.cls ≠ "java/lang/invoke/VarHandle" ∧ (parseMethodDescriptor yX15_meanStatement.desc).map (fun d => d.parameters.length) = some 1 := by decide +kernel
theorem cmTw_meanStatement (P W : Int) : CMv (MTw_meanStatement P W) 1 := ⟨⟨q227, q2837, ndTw_meanStatement⟩, q2836, qs210⟩
def MTw_mean (P W : Int) : Mt := (ΛT P W, yX15_mean, cX15_mean, 2, none, 4, 300)
theorem ndTw_mean : yX15_mean.cls ≠ "java/lang/invoke/MethodHandle" ∧ yX15_mean.cls ≠ "java/lang/invoke/VarHandle" ∧ (parseMethodDescriptor yX15_mean.desc).map (fun d => d.parameters.length) = some 0 := by decide +kernel
theorem cmTw_mean (P W : Int) : CMv (MTw_mean P W) 0 := ⟨⟨q227, q2813, ndTw_mean⟩, q2812, qs204⟩
def MTw_truth (P W : Int) : Mt := (ΛT P W, yX15_truth, cX15_truth, 2, (some .long), 5, 360)
theorem ndTw_truth : yX15_truth.cls ≠ "java/lang/invoke/MethodHandle" ∧ yX15_truth.cls ≠ "java/lang/invoke/VarHandle" ∧ (parseMethodDescriptor yX15_truth.desc).map (fun d => d.parameters.length) = some 1 := by decide +kernel
theorem cmTw_truth (P W : Int) : CMv (MTw_truth P W) 1 := ⟨⟨q227, q2809, ndTw_truth⟩, q2807, q2808⟩
def HRE (P W : Int) (d : Nat) (Rf : Nat → List Int → St → Option (Int × St)) : Prop := (∀  (G : St), MG (MRd_expr P W d) [aR 150] G (Rf 0 [] G)) ∧ (∀ (x1 : Int) (G : St), MG (MRd_row P W d) [aR 150, aI x1] G (Rf 1 [x1] G)) ∧ (∀  (G : St), MG (MRd_factor P W d) [aR 150] G (Rf 2 [] G)) ∧ (∀  (G : St), MG (MRd_around P W d) [aR 150] G (Rf 3 [] G)) ∧ (∀ (x1 : Int) (G : St), MG (MRd_bitOf P W d) [aR 150, aI x1] G (Rf 4 [x1] G)) ∧ (∀ (x1 : Int) (G : St), MG (MRd_named P W d) [aR 150, aI x1] G (Rf 5 [x1] G)) ∧ (∀ (x1 : Int) (x2 : Int) (G : St), MG (MRd_call P W d) [aR 150, aI x1, aI x2] G (Rf 6 [x1, x2] G))
def HRS (P W : Int) (d : Nat) (Rf : Nat → List Int → St → Option (Int × St)) : Prop := (∀  (G : St), MG (MRd_statement P W d) [aR 150] G (Rf 0 [] G)) ∧ (∀  (G : St), MG (MRd_block P W d) [aR 150] G (Rf 1 [] G)) ∧ (∀  (G : St), MG (MRd_condition P W d) [aR 150] G (Rf 2 [] G)) ∧ (∀  (G : St), MG (MRd_loop P W d) [aR 150] G (Rf 3 [] G))
