set_option maxRecDepth 100000
/-! FACTS of ids, fields, links, methods -/
theorem nn100 : (0 : Int) ≤ 100 := by decide
theorem nn101 : (0 : Int) ≤ 101 := by decide
theorem nn102 : (0 : Int) ≤ 102 := by decide
theorem nn103 : (0 : Int) ≤ 103 := by decide
theorem nn104 : (0 : Int) ≤ 104 := by decide
theorem nn105 : (0 : Int) ≤ 105 := by decide
theorem nn106 : (0 : Int) ≤ 106 := by decide
theorem nn107 : (0 : Int) ≤ 107 := by decide
theorem nn108 : (0 : Int) ≤ 108 := by decide
theorem nn110 : (0 : Int) ≤ 110 := by decide
theorem nn111 : (0 : Int) ≤ 111 := by decide
theorem nn112 : (0 : Int) ≤ 112 := by decide
theorem nn113 : (0 : Int) ≤ 113 := by decide
theorem nn114 : (0 : Int) ≤ 114 := by decide
theorem nn115 : (0 : Int) ≤ 115 := by decide
theorem nn116 : (0 : Int) ≤ 116 := by decide
theorem nn117 : (0 : Int) ≤ 117 := by decide
theorem nn118 : (0 : Int) ≤ 118 := by decide
theorem nn119 : (0 : Int) ≤ 119 := by decide
theorem nn120 : (0 : Int) ≤ 120 := by decide
theorem nn121 : (0 : Int) ≤ 121 := by decide
theorem nn122 : (0 : Int) ≤ 122 := by decide
theorem nn123 : (0 : Int) ≤ 123 := by decide
theorem nn124 : (0 : Int) ≤ 124 := by decide
theorem nn125 : (0 : Int) ≤ 125 := by decide
theorem nn128 : (0 : Int) ≤ 128 := by decide
theorem nn129 : (0 : Int) ≤ 129 := by decide
theorem nn130 : (0 : Int) ≤ 130 := by decide
theorem nn134 : (0 : Int) ≤ 134 := by decide
theorem nn136 : (0 : Int) ≤ 136 := by decide
theorem nn137 : (0 : Int) ≤ 137 := by decide
theorem nn138 : (0 : Int) ≤ 138 := by decide
theorem nn139 : (0 : Int) ≤ 139 := by decide
theorem nn140 : (0 : Int) ≤ 140 := by decide
theorem nn141 : (0 : Int) ≤ 141 := by decide
theorem nn142 : (0 : Int) ≤ 142 := by decide
theorem nn143 : (0 : Int) ≤ 143 := by decide
theorem nn144 : (0 : Int) ≤ 144 := by decide
theorem nn145 : (0 : Int) ≤ 145 := by decide
theorem nn146 : (0 : Int) ≤ 146 := by decide
theorem nn147 : (0 : Int) ≤ 147 := by decide
theorem nn149 : (0 : Int) ≤ 149 := by decide
theorem nn150 : (0 : Int) ≤ 150 := by decide
theorem nn151 : (0 : Int) ≤ 151 := by decide
theorem nn152 : (0 : Int) ≤ 152 := by decide
theorem nn153 : (0 : Int) ≤ 153 := by decide
theorem nn154 : (0 : Int) ≤ 154 := by decide
theorem nn155 : (0 : Int) ≤ 155 := by decide
theorem nn156 : (0 : Int) ≤ 156 := by decide
theorem nn158 : (0 : Int) ≤ 158 := by decide
theorem nn159 : (0 : Int) ≤ 159 := by decide
theorem nn160 : (0 : Int) ≤ 160 := by decide
theorem nn161 : (0 : Int) ≤ 161 := by decide
theorem nn162 : (0 : Int) ≤ 162 := by decide
theorem nn163 : (0 : Int) ≤ 163 := by decide
theorem nn164 : (0 : Int) ≤ 164 := by decide
theorem nn165 : (0 : Int) ≤ 165 := by decide
theorem nn166 : (0 : Int) ≤ 166 := by decide
theorem nn167 : (0 : Int) ≤ 167 := by decide
theorem nn168 : (0 : Int) ≤ 168 := by decide
theorem nn170 : (0 : Int) ≤ 170 := by decide
theorem nn171 : (0 : Int) ≤ 171 := by decide
theorem nn172 : (0 : Int) ≤ 172 := by decide
theorem nn173 : (0 : Int) ≤ 173 := by decide
theorem nn174 : (0 : Int) ≤ 174 := by decide
theorem nn175 : (0 : Int) ≤ 175 := by decide
theorem nn177 : (0 : Int) ≤ 177 := by decide
theorem nn178 : (0 : Int) ≤ 178 := by decide
theorem nn179 : (0 : Int) ≤ 179 := by decide
theorem nn180 : (0 : Int) ≤ 180 := by decide
theorem nn181 : (0 : Int) ≤ 181 := by decide
theorem nn182 : (0 : Int) ≤ 182 := by decide
theorem nn183 : (0 : Int) ≤ 183 := by decide
theorem nn184 : (0 : Int) ≤ 184 := by decide
theorem nn185 : (0 : Int) ≤ 185 := by decide
theorem nn186 : (0 : Int) ≤ 186 := by decide
theorem nn187 : (0 : Int) ≤ 187 := by decide
theorem nn188 : (0 : Int) ≤ 188 := by decide
theorem nn189 : (0 : Int) ≤ 189 := by decide
theorem nn190 : (0 : Int) ≤ 190 := by decide
theorem nn191 : (0 : Int) ≤ 191 := by decide
theorem nn192 : (0 : Int) ≤ 192 := by decide
theorem nn193 : (0 : Int) ≤ 193 := by decide
theorem nn194 : (0 : Int) ≤ 194 := by decide
theorem nn195 : (0 : Int) ≤ 195 := by decide
theorem nn196 : (0 : Int) ≤ 196 := by decide
theorem nn197 : (0 : Int) ≤ 197 := by decide
theorem nn198 : (0 : Int) ≤ 198 := by decide
theorem nn199 : (0 : Int) ≤ 199 := by decide
theorem nn200 : (0 : Int) ≤ 200 := by decide
theorem nn201 : (0 : Int) ≤ 201 := by decide
theorem nn202 : (0 : Int) ≤ 202 := by decide
theorem nn203 : (0 : Int) ≤ 203 := by decide
theorem nn204 : (0 : Int) ≤ 204 := by decide
theorem nn205 : (0 : Int) ≤ 205 := by decide
theorem nn206 : (0 : Int) ≤ 206 := by decide
theorem nn207 : (0 : Int) ≤ 207 := by decide
theorem nn208 : (0 : Int) ≤ 208 := by decide
theorem nn209 : (0 : Int) ≤ 209 := by decide
theorem nn210 : (0 : Int) ≤ 210 := by decide
theorem nn211 : (0 : Int) ≤ 211 := by decide
theorem nn212 : (0 : Int) ≤ 212 := by decide
theorem nn213 : (0 : Int) ≤ 213 := by decide
theorem nn214 : (0 : Int) ≤ 214 := by decide
theorem nn215 : (0 : Int) ≤ 215 := by decide
theorem nn217 : (0 : Int) ≤ 217 := by decide
theorem nn218 : (0 : Int) ≤ 218 := by decide
theorem nn220 : (0 : Int) ≤ 220 := by decide
theorem nn221 : (0 : Int) ≤ 221 := by decide
theorem nn222 : (0 : Int) ≤ 222 := by decide
theorem nn223 : (0 : Int) ≤ 223 := by decide
theorem nn224 : (0 : Int) ≤ 224 := by decide
theorem nn225 : (0 : Int) ≤ 225 := by decide
theorem nn226 : (0 : Int) ≤ 226 := by decide
theorem nn227 : (0 : Int) ≤ 227 := by decide
theorem nn228 : (0 : Int) ≤ 228 := by decide
theorem nn229 : (0 : Int) ≤ 229 := by decide
theorem nn230 : (0 : Int) ≤ 230 := by decide
theorem nn231 : (0 : Int) ≤ 231 := by decide
theorem nn233 : (0 : Int) ≤ 233 := by decide
theorem nn234 : (0 : Int) ≤ 234 := by decide
theorem nn235 : (0 : Int) ≤ 235 := by decide
theorem nn236 : (0 : Int) ≤ 236 := by decide
theorem nn237 : (0 : Int) ≤ 237 := by decide
theorem nn238 : (0 : Int) ≤ 238 := by decide
theorem nn239 : (0 : Int) ≤ 239 := by decide
theorem nn240 : (0 : Int) ≤ 240 := by decide
theorem nn241 : (0 : Int) ≤ 241 := by decide
theorem nn242 : (0 : Int) ≤ 242 := by decide
theorem nn243 : (0 : Int) ≤ 243 := by decide
theorem nn244 : (0 : Int) ≤ 244 := by decide
theorem nn245 : (0 : Int) ≤ 245 := by decide
theorem dsC_100 (P W : Int) (E : Int → Int) : (ΛC P W).1 E 100 = some (.inl 0) := rfl
theorem dsC_110 (P W : Int) (E : Int → Int) : (ΛC P W).1 E 110 = some (.inl 1) := rfl
theorem dsC_120 (P W : Int) (E : Int → Int) : (ΛC P W).1 E 120 = some (.inl 2) := rfl
theorem dsC_130 (P W : Int) (E : Int → Int) : (ΛC P W).1 E 130 = some (.inl 3) := rfl
theorem dsC_140 (P W : Int) (E : Int → Int) : (ΛC P W).1 E 140 = some (.inl 4) := rfl
theorem dsC_150 (P W : Int) (E : Int → Int) : (ΛC P W).1 E 150 = some (.inl 7) := rfl
theorem dsC_160 (P W : Int) (E : Int → Int) : (ΛC P W).1 E 160 = some (.inl 8) := rfl
theorem dsC_190 (P W : Int) (E : Int → Int) : (ΛC P W).1 E 190 = some (.inl 9) := rfl
theorem dsC_180 (P W : Int) (E : Int → Int) : (ΛC P W).1 E 180 = some (.inl 10) := rfl
theorem dsC_210 (P W : Int) (E : Int → Int) : (ΛC P W).1 E 210 = some (.inl 11) := rfl
theorem dsC_220 (P W : Int) (E : Int → Int) : (ΛC P W).1 E 220 = some (.inl 12) := rfl
theorem dsC_240 (P W : Int) (E : Int → Int) : (ΛC P W).1 E 240 = some (.inl 5) := rfl
theorem dsC_101 (P W : Int) (E : Int → Int) : (ΛC P W).1 E 101 = some (.inr (1, 20)) := rfl
theorem dsC_102 (P W : Int) (E : Int → Int) : (ΛC P W).1 E 102 = some (.inr (1, 4000)) := rfl
theorem dsC_103 (P W : Int) (E : Int → Int) : (ΛC P W).1 E 103 = some (.inr (8, P)) := rfl
theorem dsC_104 (P W : Int) (E : Int → Int) : (ΛC P W).1 E 104 = some (.inr (0, 256)) := rfl
theorem dsC_106 (P W : Int) (E : Int → Int) : (ΛC P W).1 E 106 = some (.inr (4, 129)) := rfl
theorem dsC_108 (P W : Int) (E : Int → Int) : (ΛC P W).1 E 108 = some (.inr (4, 754)) := rfl
theorem dsC_111 (P W : Int) (E : Int → Int) : (ΛC P W).1 E 111 = some (.inr (5, 12000)) := rfl
theorem dsC_112 (P W : Int) (E : Int → Int) : (ΛC P W).1 E 112 = some (.inr (0, 12000)) := rfl
theorem dsC_113 (P W : Int) (E : Int → Int) : (ΛC P W).1 E 113 = some (.inr (0, 12000)) := rfl
theorem dsC_114 (P W : Int) (E : Int → Int) : (ΛC P W).1 E 114 = some (.inr (0, 12000)) := rfl
theorem dsC_121 (P W : Int) (E : Int → Int) : (ΛC P W).1 E 121 = some (.inr (1, 4000)) := rfl
theorem dsC_122 (P W : Int) (E : Int → Int) : (ΛC P W).1 E 122 = some (.inr (0, 2001)) := rfl
theorem dsC_123 (P W : Int) (E : Int → Int) : (ΛC P W).1 E 123 = some (.inr (0, 2001)) := rfl
theorem dsC_141 (P W : Int) (E : Int → Int) : (ΛC P W).1 E 141 = some (.inr (0, 40000)) := rfl
theorem dsC_142 (P W : Int) (E : Int → Int) : (ΛC P W).1 E 142 = some (.inr (0, 40000)) := rfl
theorem dsC_143 (P W : Int) (E : Int → Int) : (ΛC P W).1 E 143 = some (.inr (3, 40000)) := rfl
theorem dsC_144 (P W : Int) (E : Int → Int) : (ΛC P W).1 E 144 = some (.inr (2, 40000)) := rfl
theorem dsC_151 (P W : Int) (E : Int → Int) : (ΛC P W).1 E 151 = some (.inr (1, 4000)) := rfl
theorem dsC_161 (P W : Int) (E : Int → Int) : (ΛC P W).1 E 161 = some (.inr (0, 12000)) := rfl
theorem dsC_162 (P W : Int) (E : Int → Int) : (ΛC P W).1 E 162 = some (.inr (0, 12000)) := rfl
theorem dsC_163 (P W : Int) (E : Int → Int) : (ΛC P W).1 E 163 = some (.inr (2, 12000)) := rfl
theorem dsC_164 (P W : Int) (E : Int → Int) : (ΛC P W).1 E 164 = some (.inr (0, 128)) := rfl
theorem dsC_165 (P W : Int) (E : Int → Int) : (ΛC P W).1 E 165 = some (.inr (0, 4000)) := rfl
theorem dsC_166 (P W : Int) (E : Int → Int) : (ΛC P W).1 E 166 = some (.inr (0, 4000)) := rfl
theorem dsC_167 (P W : Int) (E : Int → Int) : (ΛC P W).1 E 167 = some (.inr (0, 4000)) := rfl
theorem dsC_168 (P W : Int) (E : Int → Int) : (ΛC P W).1 E 168 = some (.inr (0, 4000)) := rfl
theorem dsC_170 (P W : Int) (E : Int → Int) : (ΛC P W).1 E 170 = some (.inr (0, 3 * P * P)) := rfl
theorem dsC_171 (P W : Int) (E : Int → Int) : (ΛC P W).1 E 171 = some (.inr (0, 3 * P * P)) := rfl
theorem dsC_172 (P W : Int) (E : Int → Int) : (ΛC P W).1 E 172 = some (.inr (0, 3 * P * P)) := rfl
theorem dsC_181 (P W : Int) (E : Int → Int) : (ΛC P W).1 E 181 = some (.inr (0, W * 4000)) := rfl
theorem dsC_182 (P W : Int) (E : Int → Int) : (ΛC P W).1 E 182 = some (.inr (0, 256)) := rfl
theorem dsC_183 (P W : Int) (E : Int → Int) : (ΛC P W).1 E 183 = some (.inr (0, 256)) := rfl
theorem dsC_184 (P W : Int) (E : Int → Int) : (ΛC P W).1 E 184 = some (.inr (0, 256)) := rfl
theorem dsC_185 (P W : Int) (E : Int → Int) : (ΛC P W).1 E 185 = some (.inr (0, W * 256)) := rfl
theorem dsC_186 (P W : Int) (E : Int → Int) : (ΛC P W).1 E 186 = some (.inr (0, 256)) := rfl
theorem dsC_187 (P W : Int) (E : Int → Int) : (ΛC P W).1 E 187 = some (.inr (0, 31)) := rfl
theorem dsC_188 (P W : Int) (E : Int → Int) : (ΛC P W).1 E 188 = some (.inr (0, 31)) := rfl
theorem dsC_189 (P W : Int) (E : Int → Int) : (ΛC P W).1 E 189 = some (.inr (0, 31)) := rfl
theorem dsC_191 (P W : Int) (E : Int → Int) : (ΛC P W).1 E 191 = some (.inr (0, 4000)) := rfl
theorem dsC_192 (P W : Int) (E : Int → Int) : (ΛC P W).1 E 192 = some (.inr (0, 4000)) := rfl
theorem dsC_193 (P W : Int) (E : Int → Int) : (ΛC P W).1 E 193 = some (.inr (0, 4000)) := rfl
theorem dsC_194 (P W : Int) (E : Int → Int) : (ΛC P W).1 E 194 = some (.inr (0, 4000)) := rfl
theorem dsC_195 (P W : Int) (E : Int → Int) : (ΛC P W).1 E 195 = some (.inr (0, 4000)) := rfl
theorem dsC_196 (P W : Int) (E : Int → Int) : (ΛC P W).1 E 196 = some (.inr (7, 31)) := rfl
theorem dsC_197 (P W : Int) (E : Int → Int) : (ΛC P W).1 E 197 = some (.inr (7, 31)) := rfl
theorem dsC_198 (P W : Int) (E : Int → Int) : (ΛC P W).1 E 198 = some (.inr (4, 31)) := rfl
theorem dsC_199 (P W : Int) (E : Int → Int) : (ΛC P W).1 E 199 = some (.inr (4, 31)) := rfl
theorem dsC_200 (P W : Int) (E : Int → Int) : (ΛC P W).1 E 200 = some (.inr (0, 4000)) := rfl
theorem dsC_201 (P W : Int) (E : Int → Int) : (ΛC P W).1 E 201 = some (.inr (0, 4000)) := rfl
theorem dsC_202 (P W : Int) (E : Int → Int) : (ΛC P W).1 E 202 = some (.inr (0, 4000)) := rfl
theorem dsC_203 (P W : Int) (E : Int → Int) : (ΛC P W).1 E 203 = some (.inr (0, W * 500)) := rfl
theorem dsC_204 (P W : Int) (E : Int → Int) : (ΛC P W).1 E 204 = some (.inr (0, 4000)) := rfl
theorem dsC_205 (P W : Int) (E : Int → Int) : (ΛC P W).1 E 205 = some (.inr (0, W)) := rfl
theorem dsC_206 (P W : Int) (E : Int → Int) : (ΛC P W).1 E 206 = some (.inr (0, W)) := rfl
theorem dsC_207 (P W : Int) (E : Int → Int) : (ΛC P W).1 E 207 = some (.inr (0, W)) := rfl
theorem dsC_211 (P W : Int) (E : Int → Int) : (ΛC P W).1 E 211 = some (.inr (0, 40)) := rfl
theorem dsC_212 (P W : Int) (E : Int → Int) : (ΛC P W).1 E 212 = some (.inr (0, 40)) := rfl
theorem dsC_213 (P W : Int) (E : Int → Int) : (ΛC P W).1 E 213 = some (.inr (0, 40)) := rfl
theorem dsC_214 (P W : Int) (E : Int → Int) : (ΛC P W).1 E 214 = some (.inr (0, 40)) := rfl
theorem dsC_215 (P W : Int) (E : Int → Int) : (ΛC P W).1 E 215 = some (.inr (0, 40)) := rfl
theorem dsC_221 (P W : Int) (E : Int → Int) : (ΛC P W).1 E 221 = some (.inr (0, 40000)) := rfl
theorem dsC_222 (P W : Int) (E : Int → Int) : (ΛC P W).1 E 222 = some (.inr (0, 40000)) := rfl
theorem dsC_223 (P W : Int) (E : Int → Int) : (ΛC P W).1 E 223 = some (.inr (0, 2002)) := rfl
theorem dsC_224 (P W : Int) (E : Int → Int) : (ΛC P W).1 E 224 = some (.inr (0, 2002)) := rfl
theorem dsC_225 (P W : Int) (E : Int → Int) : (ΛC P W).1 E 225 = some (.inr (0, 2001)) := rfl
theorem dsC_226 (P W : Int) (E : Int → Int) : (ΛC P W).1 E 226 = some (.inr (0, 2001)) := rfl
theorem dsC_227 (P W : Int) (E : Int → Int) : (ΛC P W).1 E 227 = some (.inr (0, W * 256)) := rfl
theorem dsC_228 (P W : Int) (E : Int → Int) : (ΛC P W).1 E 228 = some (.inr (0, P + 1)) := rfl
theorem dsC_229 (P W : Int) (E : Int → Int) : (ΛC P W).1 E 229 = some (.inr (0, W * 500)) := rfl
theorem dsC_242 (P W : Int) (E : Int → Int) : (ΛC P W).1 E 242 = some (.inr (4, 32)) := rfl
theorem dsT_100 (P W : Int) (E : Int → Int) : (ΛT P W).1 E 100 = some (.inl 14) := rfl
theorem dsT_104 (P W : Int) (E : Int → Int) : (ΛT P W).1 E 104 = some (.inr (0, 20)) := rfl
theorem dsT_105 (P W : Int) (E : Int → Int) : (ΛT P W).1 E 105 = some (.inr (0, 4000)) := rfl
theorem dsT_111 (P W : Int) (E : Int → Int) : (ΛT P W).1 E 111 = some (.inr (0, 2000)) := rfl
theorem dsT_112 (P W : Int) (E : Int → Int) : (ΛT P W).1 E 112 = some (.inr (0, 2000)) := rfl
theorem dsT_115 (P W : Int) (E : Int → Int) : (ΛT P W).1 E 115 = some (.inr (0, 12000)) := rfl
theorem dsT_116 (P W : Int) (E : Int → Int) : (ΛT P W).1 E 116 = some (.inr (0, 12000)) := rfl
theorem dsT_117 (P W : Int) (E : Int → Int) : (ΛT P W).1 E 117 = some (.inr (0, 12000)) := rfl
theorem dsT_118 (P W : Int) (E : Int → Int) : (ΛT P W).1 E 118 = some (.inr (0, 12000)) := rfl
theorem dsT_119 (P W : Int) (E : Int → Int) : (ΛT P W).1 E 119 = some (.inr (4, 12000)) := rfl
theorem dsT_122 (P W : Int) (E : Int → Int) : (ΛT P W).1 E 122 = some (.inr (0, 4100)) := rfl
theorem dsT_123 (P W : Int) (E : Int → Int) : (ΛT P W).1 E 123 = some (.inr (0, 4100)) := rfl
theorem dsT_124 (P W : Int) (E : Int → Int) : (ΛT P W).1 E 124 = some (.inr (0, 4100)) := rfl
theorem dsT_125 (P W : Int) (E : Int → Int) : (ΛT P W).1 E 125 = some (.inr (0, 4100)) := rfl
theorem dsT_128 (P W : Int) (E : Int → Int) : (ΛT P W).1 E 128 = some (.inr (0, 70)) := rfl
theorem dsT_129 (P W : Int) (E : Int → Int) : (ΛT P W).1 E 129 = some (.inr (0, 70)) := rfl
theorem dsT_134 (P W : Int) (E : Int → Int) : (ΛT P W).1 E 134 = some (.inr (0, 12000)) := rfl
theorem dsT_136 (P W : Int) (E : Int → Int) : (ΛT P W).1 E 136 = some (.inr (0, 2500)) := rfl
theorem dsT_137 (P W : Int) (E : Int → Int) : (ΛT P W).1 E 137 = some (.inr (0, 2500)) := rfl
theorem dsT_138 (P W : Int) (E : Int → Int) : (ΛT P W).1 E 138 = some (.inr (0, 2500)) := rfl
theorem dsT_139 (P W : Int) (E : Int → Int) : (ΛT P W).1 E 139 = some (.inr (0, 2500)) := rfl
theorem dsT_140 (P W : Int) (E : Int → Int) : (ΛT P W).1 E 140 = some (.inr (0, 2500)) := rfl
theorem dsT_141 (P W : Int) (E : Int → Int) : (ΛT P W).1 E 141 = some (.inr (2, 2500)) := rfl
theorem dsT_142 (P W : Int) (E : Int → Int) : (ΛT P W).1 E 142 = some (.inr (0, 2500)) := rfl
theorem dsT_143 (P W : Int) (E : Int → Int) : (ΛT P W).1 E 143 = some (.inr (0, 2500)) := rfl
theorem dsT_145 (P W : Int) (E : Int → Int) : (ΛT P W).1 E 145 = some (.inr (0, 4200)) := rfl
theorem dsT_146 (P W : Int) (E : Int → Int) : (ΛT P W).1 E 146 = some (.inr (0, 4200)) := rfl
theorem dsT_147 (P W : Int) (E : Int → Int) : (ΛT P W).1 E 147 = some (.inr (2, 4200)) := rfl
theorem dsT_149 (P W : Int) (E : Int → Int) : (ΛT P W).1 E 149 = some (.inr (0, 70)) := rfl
theorem dsT_151 (P W : Int) (E : Int → Int) : (ΛT P W).1 E 151 = some (.inr (0, 12000)) := rfl
theorem dsT_152 (P W : Int) (E : Int → Int) : (ΛT P W).1 E 152 = some (.inr (0, 12000)) := rfl
theorem dsT_153 (P W : Int) (E : Int → Int) : (ΛT P W).1 E 153 = some (.inr (0, 12000)) := rfl
theorem dsT_154 (P W : Int) (E : Int → Int) : (ΛT P W).1 E 154 = some (.inr (0, 12000)) := rfl
theorem dsT_155 (P W : Int) (E : Int → Int) : (ΛT P W).1 E 155 = some (.inr (0, 12000)) := rfl
theorem dsT_156 (P W : Int) (E : Int → Int) : (ΛT P W).1 E 156 = some (.inr (2, 12000)) := rfl
theorem dsT_158 (P W : Int) (E : Int → Int) : (ΛT P W).1 E 158 = some (.inr (0, 400)) := rfl
theorem dsT_159 (P W : Int) (E : Int → Int) : (ΛT P W).1 E 159 = some (.inr (0, 400)) := rfl
theorem dsT_165 (P W : Int) (E : Int → Int) : (ΛT P W).1 E 165 = some (.inr (0, 1000)) := rfl
theorem dsT_172 (P W : Int) (E : Int → Int) : (ΛT P W).1 E 172 = some (.inr (0, 40000)) := rfl
theorem dsT_173 (P W : Int) (E : Int → Int) : (ΛT P W).1 E 173 = some (.inr (0, 40000)) := rfl
theorem dsT_174 (P W : Int) (E : Int → Int) : (ΛT P W).1 E 174 = some (.inr (0, 40000)) := rfl
theorem dsT_175 (P W : Int) (E : Int → Int) : (ΛT P W).1 E 175 = some (.inr (0, 40000)) := rfl
theorem dsT_177 (P W : Int) (E : Int → Int) : (ΛT P W).1 E 177 = some (.inr (0, 256)) := rfl
theorem dsT_178 (P W : Int) (E : Int → Int) : (ΛT P W).1 E 178 = some (.inr (0, 256)) := rfl
theorem dsT_179 (P W : Int) (E : Int → Int) : (ΛT P W).1 E 179 = some (.inr (0, 256)) := rfl
theorem dsT_180 (P W : Int) (E : Int → Int) : (ΛT P W).1 E 180 = some (.inr (4, 256)) := rfl
theorem dsT_181 (P W : Int) (E : Int → Int) : (ΛT P W).1 E 181 = some (.inr (4, 256)) := rfl
theorem dsT_182 (P W : Int) (E : Int → Int) : (ΛT P W).1 E 182 = some (.inr (0, 500)) := rfl
theorem dsT_183 (P W : Int) (E : Int → Int) : (ΛT P W).1 E 183 = some (.inr (0, 16000)) := rfl
theorem dsT_185 (P W : Int) (E : Int → Int) : (ΛT P W).1 E 185 = some (.inr (0, 134400)) := rfl
theorem dsT_187 (P W : Int) (E : Int → Int) : (ΛT P W).1 E 187 = some (.inr (0, 40)) := rfl
theorem dsT_188 (P W : Int) (E : Int → Int) : (ΛT P W).1 E 188 = some (.inr (0, 40)) := rfl
theorem dsT_189 (P W : Int) (E : Int → Int) : (ΛT P W).1 E 189 = some (.inr (0, 40)) := rfl
theorem dsT_190 (P W : Int) (E : Int → Int) : (ΛT P W).1 E 190 = some (.inr (0, 40)) := rfl
theorem dsT_191 (P W : Int) (E : Int → Int) : (ΛT P W).1 E 191 = some (.inr (0, 40)) := rfl
theorem dsT_192 (P W : Int) (E : Int → Int) : (ΛT P W).1 E 192 = some (.inr (0, 40)) := rfl
theorem dsT_193 (P W : Int) (E : Int → Int) : (ΛT P W).1 E 193 = some (.inr (0, 40)) := rfl
theorem dsT_194 (P W : Int) (E : Int → Int) : (ΛT P W).1 E 194 = some (.inr (0, 40)) := rfl
theorem dsT_196 (P W : Int) (E : Int → Int) : (ΛT P W).1 E 196 = some (.inr (0, 80)) := rfl
theorem dsT_197 (P W : Int) (E : Int → Int) : (ΛT P W).1 E 197 = some (.inr (0, 8192)) := rfl
theorem dsT_199 (P W : Int) (E : Int → Int) : (ΛT P W).1 E 199 = some (.inr (0, 300)) := rfl
theorem dsT_200 (P W : Int) (E : Int → Int) : (ΛT P W).1 E 200 = some (.inr (0, 300)) := rfl
theorem dsT_201 (P W : Int) (E : Int → Int) : (ΛT P W).1 E 201 = some (.inr (0, 300)) := rfl
theorem dsT_203 (P W : Int) (E : Int → Int) : (ΛT P W).1 E 203 = some (.inr (0, 40)) := rfl
theorem dsT_204 (P W : Int) (E : Int → Int) : (ΛT P W).1 E 204 = some (.inr (0, 40)) := rfl
theorem dsT_205 (P W : Int) (E : Int → Int) : (ΛT P W).1 E 205 = some (.inr (2, 40)) := rfl
theorem dsT_206 (P W : Int) (E : Int → Int) : (ΛT P W).1 E 206 = some (.inr (0, 327680)) := rfl
theorem dsT_207 (P W : Int) (E : Int → Int) : (ΛT P W).1 E 207 = some (.inr (0, 327680)) := rfl
theorem dsT_208 (P W : Int) (E : Int → Int) : (ΛT P W).1 E 208 = some (.inr (4, 12000)) := rfl
theorem dsT_209 (P W : Int) (E : Int → Int) : (ΛT P W).1 E 209 = some (.inr (4, 12000)) := rfl
theorem dsT_210 (P W : Int) (E : Int → Int) : (ΛT P W).1 E 210 = some (.inr (0, 12000)) := rfl
theorem dsT_212 (P W : Int) (E : Int → Int) : (ΛT P W).1 E 212 = some (.inr (0, 400)) := rfl
theorem dsT_213 (P W : Int) (E : Int → Int) : (ΛT P W).1 E 213 = some (.inr (0, 400)) := rfl
theorem dsT_214 (P W : Int) (E : Int → Int) : (ΛT P W).1 E 214 = some (.inr (0, 40)) := rfl
theorem dsT_215 (P W : Int) (E : Int → Int) : (ΛT P W).1 E 215 = some (.inr (4, 4200)) := rfl
theorem dsT_217 (P W : Int) (E : Int → Int) : (ΛT P W).1 E 217 = some (.inr (4, 256)) := rfl
theorem dsT_218 (P W : Int) (E : Int → Int) : (ΛT P W).1 E 218 = some (.inr (4, 500)) := rfl
theorem dsT_224 (P W : Int) (E : Int → Int) : (ΛT P W).1 E 224 = some (.inr (0, 2000)) := rfl
theorem dsT_226 (P W : Int) (E : Int → Int) : (ΛT P W).1 E 226 = some (.inr (0, 48192)) := rfl
theorem dsT_227 (P W : Int) (E : Int → Int) : (ΛT P W).1 E 227 = some (.inr (0, 40000)) := rfl
theorem dsT_228 (P W : Int) (E : Int → Int) : (ΛT P W).1 E 228 = some (.inr (0, 40000)) := rfl
theorem dsT_229 (P W : Int) (E : Int → Int) : (ΛT P W).1 E 229 = some (.inr (0, 40000)) := rfl
theorem dsT_230 (P W : Int) (E : Int → Int) : (ΛT P W).1 E 230 = some (.inr (0, 2003)) := rfl
theorem dsT_231 (P W : Int) (E : Int → Int) : (ΛT P W).1 E 231 = some (.inr (0, 40000)) := rfl
theorem dsT_233 (P W : Int) (E : Int → Int) : (ΛT P W).1 E 233 = some (.inr (0, 16)) := rfl
theorem dsT_234 (P W : Int) (E : Int → Int) : (ΛT P W).1 E 234 = some (.inr (0, 16)) := rfl
theorem dsT_235 (P W : Int) (E : Int → Int) : (ΛT P W).1 E 235 = some (.inr (0, 16)) := rfl
theorem dsT_236 (P W : Int) (E : Int → Int) : (ΛT P W).1 E 236 = some (.inr (0, 16)) := rfl
theorem dsT_237 (P W : Int) (E : Int → Int) : (ΛT P W).1 E 237 = some (.inr (0, 16)) := rfl
theorem dsT_238 (P W : Int) (E : Int → Int) : (ΛT P W).1 E 238 = some (.inr (0, 481000)) := rfl
theorem dsT_239 (P W : Int) (E : Int → Int) : (ΛT P W).1 E 239 = some (.inr (0, 481000)) := rfl
theorem dsT_242 (P W : Int) (E : Int → Int) : (ΛT P W).1 E 242 = some (.inr (0, 1000)) := rfl
theorem dsT_243 (P W : Int) (E : Int → Int) : (ΛT P W).1 E 243 = some (.inr (0, 1000)) := rfl
theorem dsT_244 (P W : Int) (E : Int → Int) : (ΛT P W).1 E 244 = some (.inr (0, 1000)) := rfl
theorem dsT_245 (P W : Int) (E : Int → Int) : (ΛT P W).1 E 245 = some (.inr (0, 16)) := rfl
theorem lkp_no {o : Int} : ∀ {l : List (Int × Dsc)}, (∀ e ∈ l, e.1 ≠ o) → lkp o l = none := by
  intro l
  induction l with
  | nil => intro _; rfl
  | cons a t ih =>
    intro h
    obtain ⟨i, d⟩ := a
    show (if o = i then some d else lkp o t) = none
    rw [if_neg (fun e => h (i, d) List.mem_cons_self e.symm)]
    exact ih (fun e he => h e (List.mem_cons_of_mem _ he))
theorem lkp_mem {o : Int} {d : Dsc} : ∀ {l : List (Int × Dsc)}, lkp o l = some d → (o, d) ∈ l := by
  intro l
  induction l with
  | nil => intro h; cases h
  | cons a t ih =>
    intro h
    obtain ⟨i, d'⟩ := a
    have h : (if o = i then some d' else lkp o t) = some d := h
    by_cases e : o = i
    · rw [if_pos e] at h
      cases h
      rw [e]
      exact List.mem_cons_self
    · rw [if_neg e] at h
      exact List.mem_cons_of_mem _ (ih h)
theorem tabC_ids (P W : Int) : (tabC P W).map (fun e => e.1) = [100, 101, 102, 103, 104, 105, 106, 107, 108, 110, 111, 112, 113, 114, 120, 121, 122, 123, 130, 140, 141, 142, 143, 144, 150, 151, 160, 161, 162, 163, 164, 165, 166, 167, 168, 170, 171, 172, 180, 181, 182, 183, 184, 185, 186, 187, 188, 189, 190, 191, 192, 193, 194, 195, 196, 197, 198, 199, 200, 201, 202, 203, 204, 205, 206, 207, 210, 211, 212, 213, 214, 215, 220, 221, 222, 223, 224, 225, 226, 227, 228, 229, 240, 241, 242] := rfl
theorem tabT_ids : tabT.map (fun e => e.1) = [100, 104, 105, 111, 112, 115, 116, 117, 118, 119, 122, 123, 124, 125, 128, 129, 134, 136, 137, 138, 139, 140, 141, 142, 143, 145, 146, 147, 149, 151, 152, 153, 154, 155, 156, 158, 159, 165, 172, 173, 174, 175, 177, 178, 179, 180, 181, 182, 183, 185, 187, 188, 189, 190, 191, 192, 193, 194, 196, 197, 199, 200, 201, 203, 204, 205, 206, 207, 208, 209, 210, 212, 213, 214, 215, 217, 218, 224, 226, 227, 228, 229, 230, 231, 233, 234, 235, 236, 237, 238, 239, 242, 243, 244, 245] := rfl
theorem tabC_ge {P W : Int} {e : Int × Dsc} (h : e ∈ tabC P W) : 100 ≤ e.1 ∧ e.1 < 600 := by
  have h2 : e.1 ∈ (tabC P W).map (fun e => e.1) := List.mem_map.mpr ⟨e, h, rfl⟩
  rw [tabC_ids] at h2
  have : ∀ x ∈ ([100, 101, 102, 103, 104, 105, 106, 107, 108, 110, 111, 112, 113, 114, 120, 121, 122, 123, 130, 140, 141, 142, 143, 144, 150, 151, 160, 161, 162, 163, 164, 165, 166, 167, 168, 170, 171, 172, 180, 181, 182, 183, 184, 185, 186, 187, 188, 189, 190, 191, 192, 193, 194, 195, 196, 197, 198, 199, 200, 201, 202, 203, 204, 205, 206, 207, 210, 211, 212, 213, 214, 215, 220, 221, 222, 223, 224, 225, 226, 227, 228, 229, 240, 241, 242] : List Int), 100 ≤ x ∧ x < 600 := by decide
  exact this _ h2
theorem tabT_ge {e : Int × Dsc} (h : e ∈ tabT) : 100 ≤ e.1 ∧ e.1 < 600 := by
  have h2 : e.1 ∈ tabT.map (fun e => e.1) := List.mem_map.mpr ⟨e, h, rfl⟩
  rw [tabT_ids] at h2
  have : ∀ x ∈ ([100, 104, 105, 111, 112, 115, 116, 117, 118, 119, 122, 123, 124, 125, 128, 129, 134, 136, 137, 138, 139, 140, 141, 142, 143, 145, 146, 147, 149, 151, 152, 153, 154, 155, 156, 158, 159, 165, 172, 173, 174, 175, 177, 178, 179, 180, 181, 182, 183, 185, 187, 188, 189, 190, 191, 192, 193, 194, 196, 197, 199, 200, 201, 203, 204, 205, 206, 207, 208, 209, 210, 212, 213, 214, 215, 217, 218, 224, 226, 227, 228, 229, 230, 231, 233, 234, 235, 236, 237, 238, 239, 242, 243, 244, 245] : List Int), 100 ≤ x ∧ x < 600 := by decide
  exact this _ h2
theorem dscC_lt {P W o : Int} (h : o < 100) : dscC P W o = none := by
  unfold dscC
  rw [if_neg (by omega), if_neg (by omega)]
  exact lkp_no (fun e he q => by have := (tabC_ge he).1; omega)
theorem ΛC_d {P W : Int} {E : Int → Int} {o : Int} {d : Dsc} (h : (ΛC P W).1 E o = some d) : dscC P W o = some d := by
  unfold ΛC at h
  dsimp only at h
  split at h
  · exact h
  · split at h
    · exact h
    · cases h
theorem ΛC_pr {P W : Int} {E : Int → Int} {o : Int} (h : pr (ΛC P W) E o) (hn : dscC P W o ≠ none) : (ΛC P W).1 E o = dscC P W o := by
  rcases h with h | ⟨d, h⟩
  · exact absurd (dscC_lt h.2) hn
  · rw [h, ΛC_d h]
/-- lengths of int arrays by their ids -/
def ialC (P W o : Int) : Int := match dscC P W o with
  | some (.inr (0, n)) => n
  | _ => -1
theorem ialC_d {P W o : Int} (h : 0 ≤ ialC P W o) : dscC P W o = some (.inr (0, ialC P W o)) := by
  unfold ialC at h ⊢
  split at h
  · rename_i n hn
    rw [hn]
  · omega
theorem ialC_c0 (P W : Int) {E : Int → Int} {o : Int} (h : pr (ΛC P W) E o) (hn : 0 ≤ ialC P W o) : (ΛC P W).1 E o = some (.inr (0, ialC P W o)) := by
  have h2 := ialC_d hn
  rw [ΛC_pr h (by rw [h2]; exact fun q => by cases q), ← h2]
theorem ialC_c (P W : Int) {E : Int → Int} {o : Int} (h : pr (ΛC P W) E o) (hn : 0 < ialC P W o) : (ΛC P W).1 E o = some (.inr (0, ialC P W o)) := ialC_c0 P W h (by omega)
theorem ialC_n0 (P W : Int) {o : Int} (hn : 0 ≤ ialC P W o) : 0 ≤ o := by
  have h2 := ialC_d hn
  by_cases h : o < 100
  · rw [dscC_lt h] at h2; cases h2
  · omega
theorem ialC_n (P W : Int) {o : Int} (hn : 0 < ialC P W o) : 0 ≤ o := ialC_n0 P W (by omega)
def ialT (o : Int) : Int := match lkp o tabT with
  | some (.inr (0, n)) => n
  | _ => -1
theorem ialT_d {o : Int} (h : 0 ≤ ialT o) : lkp o tabT = some (.inr (0, ialT o)) := by
  unfold ialT at h ⊢
  split at h
  · rename_i n hn
    rw [hn]
  · omega
theorem ialT_c (P W : Int) {E : Int → Int} {o : Int} (_ : pr (ΛT P W) E o) (hn : 0 < ialT o) : (ΛT P W).1 E o = some (.inr (0, ialT o)) := ialT_d (by omega)
theorem ialT_n {o : Int} (hn : 0 < ialT o) : 0 ≤ o := by
  have h2 := tabT_ge (lkp_mem (ialT_d (show 0 ≤ ialT o by omega)))
  have : 100 ≤ o := h2.1
  omega
/-- parties and their bits -/
theorem party_n {p : Int} (hp : 0 ≤ p) : 0 ≤ 1000 + 32 * p := by omega
theorem dscP {P W p : Int} (hp : 0 ≤ p) (j : Int) (h0 : 0 ≤ j) (h1 : j < 32) : dscC P W (1000 + 32 * p + j) = if 1000 + 32 * p + j < 1000 + 32 * P then tabP[j.toNat]? else none := by
  unfold dscC
  rw [if_pos (by omega), show (1000 + 32 * p + j - 1000) % 32 = j by omega]
theorem party_c (P W : Int) {E : Int → Int} {p : Int} (hp : 0 ≤ p) (h : pr (ΛC P W) E (1000 + 32 * p)) : (ΛC P W).1 E (1000 + 32 * p) = some (.inl 13) := by
  rcases h with h | ⟨d, h⟩
  · omega
  · have h2 := ΛC_d h
    have h3 := dscP (P := P) (W := W) hp 0 (by omega) (by omega)
    rw [Int.add_zero] at h3
    rw [h]
    rw [h2] at h3
    split at h3
    · exact h3
    · cases h3
theorem party_num (P W : Int) {G : St} {p : Int} : gv (ΛC P W) G 13 (1000 + 32 * p) 1 = aI p := by
  show aI ((1000 + 32 * p - 1000) / 32) = aI p
  rw [show (1000 + 32 * p - 1000) / 32 = p by omega]
def isB (o : Int) : Prop := o = 105 ∨ o = 107 ∨ o = 241 ∨ (1000 ≤ o ∧ ((o - 1000) % 32 = 1 ∨ (o - 1000) % 32 = 3 ∨ (o - 1000) % 32 = 5 ∨ (o - 1000) % 32 = 7 ∨ (o - 1000) % 32 = 9))
theorem isB_105 : isB 105 := Or.inl rfl
theorem isB_107 : isB 107 := Or.inr (Or.inl rfl)
theorem isB_241 : isB 241 := Or.inr (Or.inr (Or.inl rfl))
theorem isB_p1 {p : Int} (hp : 0 ≤ p) : isB (1000 + 32 * p + 1) := by unfold isB; omega
theorem isB_p3 {p : Int} (hp : 0 ≤ p) : isB (1000 + 32 * p + 3) := by unfold isB; omega
theorem isB_p5 {p : Int} (hp : 0 ≤ p) : isB (1000 + 32 * p + 5) := by unfold isB; omega
theorem isB_p7 {p : Int} (hp : 0 ≤ p) : isB (1000 + 32 * p + 7) := by unfold isB; omega
theorem isB_p9 {p : Int} (hp : 0 ≤ p) : isB (1000 + 32 * p + 9) := by unfold isB; omega
theorem isB_n {o : Int} (h : isB o) : 0 ≤ o := by unfold isB at h; omega
theorem isB_wn {o : Int} (h : isB o) : 0 ≤ o + 1 := by unfold isB at h; omega
/-- lengths of the rows of longs -/
def blC (o : Int) : Int := if o = 105 then 129 else if o = 107 then 754 else if o = 241 then 32 else if (o - 1000) % 32 = 1 then 754 else if (o - 1000) % 32 = 3 then 129 else 626
theorem isB_cases {Q : Int → Prop} {o : Int} (h : isB o) (a : Q 105) (b : Q 107) (c : Q 241) (d : ∀ p j : Int, 0 ≤ p → (j = 1 ∨ j = 3 ∨ j = 5 ∨ j = 7 ∨ j = 9) → Q (1000 + 32 * p + j)) : Q o := by
  rcases h with rfl | rfl | rfl | ⟨h1, h2⟩
  · exact a
  · exact b
  · exact c
  · have e : o = 1000 + 32 * ((o - 1000) / 32) + (o - 1000) % 32 := by omega
    rw [e]
    exact d _ _ (by omega) h2
theorem isB_c (P W : Int) {E : Int → Int} {o : Int} (hB : isB o) (h : pr (ΛC P W) E o) : (ΛC P W).1 E o = some (.inl 6) := by
  revert h
  refine isB_cases (Q := fun o => pr (ΛC P W) E o → (ΛC P W).1 E o = some (.inl 6)) hB (fun _ => rfl) (fun _ => rfl) (fun _ => rfl) (fun p j hp hj h => ?_)
  rcases h with h | ⟨d, h⟩
  · omega
  · have h2 := ΛC_d h
    have h3 := dscP (P := P) (W := W) hp j (by omega) (by omega)
    rw [h]
    rw [h2] at h3
    split at h3
    · rcases hj with rfl | rfl | rfl | rfl | rfl <;> exact h3
    · cases h3
theorem isB_w (P W : Int) {E : Int → Int} {o : Int} (hB : isB o) (h : pr (ΛC P W) E (o + 1)) : (ΛC P W).1 E (o + 1) = some (.inr (4, blC o)) := by
  revert h
  refine isB_cases (Q := fun o => pr (ΛC P W) E (o + 1) → (ΛC P W).1 E (o + 1) = some (.inr (4, blC o))) hB (fun _ => rfl) (fun _ => rfl) (fun _ => rfl) (fun p j hp hj h => ?_)
  rw [Int.add_assoc] at h ⊢
  rcases h with h | ⟨d, h⟩
  · omega
  · have h2 := ΛC_d h
    have h3 := dscP (P := P) (W := W) hp (j + 1) (by omega) (by omega)
    have hb : blC (1000 + 32 * p + j) = if j = 1 then 754 else if j = 3 then 129 else 626 := by
      unfold blC
      rw [if_neg (by omega), if_neg (by omega), if_neg (by omega), show (1000 + 32 * p + j - 1000) % 32 = j by omega]
    rw [h, hb]
    rw [h2] at h3
    split at h3
    · rcases hj with rfl | rfl | rfl | rfl | rfl <;> exact h3
    · cases h3
def DX : Nat := 600
