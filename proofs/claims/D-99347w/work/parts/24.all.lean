/-! every row of code is valid -/
set_option maxRecDepth 100000
def AX (n : Nat) (LL : List (List (Nat × mI))) : Prop := ∀ (y : Nat) (z : Nat × mI), z ∈ LL.getD y [] → VI (n + y) z.1 z.2
theorem ax_n {n : Nat} : AX n [] := fun y z hz => absurd hz (by simp)
theorem ax_c {n : Nat} {l : List (Nat × mI)} {LL : List (List (Nat × mI))} (h1 : ∀ z ∈ l, VI n z.1 z.2) (h2 : AX (n + 1) LL) : AX n (l :: LL) := by
  intro y z hz
  cases y with
  | zero => exact h1 z hz
  | succ y =>
    have := h2 y z hz
    rw [show n + (y + 1) = n + 1 + y by omega]
    exact this
theorem va_no {n : Nat} : ∀ z ∈ ([] : List (Nat × mI)), VI n z.1 z.2 := fun _ h => absurd h List.not_mem_nil
abbrev lx_270 : List (List (Nat × mI)) := cl_270 :: cl_271 :: cl_272 :: cl_273 :: cl_274 :: cl_275 :: cl_276 :: cl_277 :: cl_278 :: cl_279 :: cl_280 :: cl_281 :: cl_282 :: cl_283 :: cl_284 :: []
theorem ax_270 : AX 270 lx_270 := (@ax_c 270 _ _ va_270 (@ax_c 271 _ _ va_271 (@ax_c 272 _ _ va_272 (@ax_c 273 _ _ va_273 (@ax_c 274 _ _ va_274 (@ax_c 275 _ _ va_275 (@ax_c 276 _ _ va_276 (@ax_c 277 _ _ va_277 (@ax_c 278 _ _ va_278 (@ax_c 279 _ _ va_279 (@ax_c 280 _ _ va_280 (@ax_c 281 _ _ va_281 (@ax_c 282 _ _ va_282 (@ax_c 283 _ _ va_283 (@ax_c 284 _ _ va_284 ax_n)))))))))))))))
abbrev lx_255 : List (List (Nat × mI)) := cl_255 :: cl_256 :: cl_257 :: cl_258 :: cl_259 :: cl_260 :: cl_261 :: cl_262 :: cl_263 :: cl_264 :: cl_265 :: cl_266 :: cl_267 :: cl_268 :: cl_269 :: lx_270
theorem ax_255 : AX 255 lx_255 := (@ax_c 255 _ _ va_255 (@ax_c 256 _ _ va_256 (@ax_c 257 _ _ va_257 (@ax_c 258 _ _ va_258 (@ax_c 259 _ _ va_259 (@ax_c 260 _ _ va_260 (@ax_c 261 _ _ va_261 (@ax_c 262 _ _ va_262 (@ax_c 263 _ _ va_263 (@ax_c 264 _ _ va_264 (@ax_c 265 _ _ va_265 (@ax_c 266 _ _ va_266 (@ax_c 267 _ _ va_267 (@ax_c 268 _ _ va_268 (@ax_c 269 _ _ va_269 ax_270)))))))))))))))
abbrev lx_240 : List (List (Nat × mI)) := cl_240 :: cl_241 :: cl_242 :: cl_243 :: cl_244 :: cl_245 :: cl_246 :: cl_247 :: cl_248 :: cl_249 :: cl_250 :: cl_251 :: cl_252 :: cl_253 :: cl_254 :: lx_255
theorem ax_240 : AX 240 lx_240 := (@ax_c 240 _ _ va_240 (@ax_c 241 _ _ va_241 (@ax_c 242 _ _ va_242 (@ax_c 243 _ _ va_243 (@ax_c 244 _ _ va_244 (@ax_c 245 _ _ va_245 (@ax_c 246 _ _ va_246 (@ax_c 247 _ _ va_247 (@ax_c 248 _ _ va_248 (@ax_c 249 _ _ va_249 (@ax_c 250 _ _ va_250 (@ax_c 251 _ _ va_251 (@ax_c 252 _ _ va_252 (@ax_c 253 _ _ va_253 (@ax_c 254 _ _ va_254 ax_255)))))))))))))))
abbrev lx_225 : List (List (Nat × mI)) := cl_225 :: cl_226 :: cl_227 :: cl_228 :: cl_229 :: cl_230 :: cl_231 :: cl_232 :: cl_233 :: cl_234 :: cl_235 :: cl_236 :: cl_237 :: cl_238 :: cl_239 :: lx_240
theorem ax_225 : AX 225 lx_225 := (@ax_c 225 _ _ va_225 (@ax_c 226 _ _ va_226 (@ax_c 227 _ _ va_227 (@ax_c 228 _ _ va_228 (@ax_c 229 _ _ va_229 (@ax_c 230 _ _ va_230 (@ax_c 231 _ _ va_231 (@ax_c 232 _ _ va_232 (@ax_c 233 _ _ va_233 (@ax_c 234 _ _ va_234 (@ax_c 235 _ _ va_235 (@ax_c 236 _ _ va_236 (@ax_c 237 _ _ va_237 (@ax_c 238 _ _ va_238 (@ax_c 239 _ _ va_239 ax_240)))))))))))))))
abbrev lx_210 : List (List (Nat × mI)) := cl_210 :: cl_211 :: cl_212 :: cl_213 :: cl_214 :: cl_215 :: cl_216 :: cl_217 :: cl_218 :: cl_219 :: cl_220 :: cl_221 :: cl_222 :: cl_223 :: cl_224 :: lx_225
theorem ax_210 : AX 210 lx_210 := (@ax_c 210 _ _ va_210 (@ax_c 211 _ _ va_211 (@ax_c 212 _ _ va_212 (@ax_c 213 _ _ va_213 (@ax_c 214 _ _ va_214 (@ax_c 215 _ _ va_215 (@ax_c 216 _ _ va_216 (@ax_c 217 _ _ va_217 (@ax_c 218 _ _ va_218 (@ax_c 219 _ _ va_219 (@ax_c 220 _ _ va_220 (@ax_c 221 _ _ va_221 (@ax_c 222 _ _ va_222 (@ax_c 223 _ _ va_223 (@ax_c 224 _ _ va_224 ax_225)))))))))))))))
abbrev lx_195 : List (List (Nat × mI)) := cl_195 :: cl_196 :: cl_197 :: cl_198 :: cl_199 :: cl_200 :: cl_201 :: cl_202 :: cl_203 :: cl_204 :: cl_205 :: cl_206 :: cl_207 :: cl_208 :: cl_209 :: lx_210
theorem ax_195 : AX 195 lx_195 := (@ax_c 195 _ _ va_195 (@ax_c 196 _ _ va_196 (@ax_c 197 _ _ va_197 (@ax_c 198 _ _ va_198 (@ax_c 199 _ _ va_199 (@ax_c 200 _ _ va_200 (@ax_c 201 _ _ va_201 (@ax_c 202 _ _ va_202 (@ax_c 203 _ _ va_203 (@ax_c 204 _ _ va_204 (@ax_c 205 _ _ va_205 (@ax_c 206 _ _ va_206 (@ax_c 207 _ _ va_207 (@ax_c 208 _ _ va_208 (@ax_c 209 _ _ va_209 ax_210)))))))))))))))
abbrev lx_180 : List (List (Nat × mI)) := cl_180 :: cl_181 :: cl_182 :: cl_183 :: cl_184 :: cl_185 :: cl_186 :: cl_187 :: cl_188 :: cl_189 :: cl_190 :: cl_191 :: cl_192 :: cl_193 :: cl_194 :: lx_195
theorem ax_180 : AX 180 lx_180 := (@ax_c 180 _ _ va_180 (@ax_c 181 _ _ va_181 (@ax_c 182 _ _ va_182 (@ax_c 183 _ _ va_183 (@ax_c 184 _ _ va_184 (@ax_c 185 _ _ va_185 (@ax_c 186 _ _ va_186 (@ax_c 187 _ _ va_187 (@ax_c 188 _ _ va_188 (@ax_c 189 _ _ va_189 (@ax_c 190 _ _ va_190 (@ax_c 191 _ _ va_191 (@ax_c 192 _ _ va_192 (@ax_c 193 _ _ va_193 (@ax_c 194 _ _ va_194 ax_195)))))))))))))))
abbrev lx_165 : List (List (Nat × mI)) := cl_165 :: cl_166 :: cl_167 :: cl_168 :: cl_169 :: cl_170 :: cl_171 :: cl_172 :: cl_173 :: cl_174 :: cl_175 :: cl_176 :: cl_177 :: cl_178 :: cl_179 :: lx_180
theorem ax_165 : AX 165 lx_165 := (@ax_c 165 _ _ va_165 (@ax_c 166 _ _ va_166 (@ax_c 167 _ _ va_167 (@ax_c 168 _ _ va_168 (@ax_c 169 _ _ va_169 (@ax_c 170 _ _ va_170 (@ax_c 171 _ _ va_171 (@ax_c 172 _ _ va_172 (@ax_c 173 _ _ va_173 (@ax_c 174 _ _ va_174 (@ax_c 175 _ _ va_175 (@ax_c 176 _ _ va_176 (@ax_c 177 _ _ va_177 (@ax_c 178 _ _ va_178 (@ax_c 179 _ _ va_179 ax_180)))))))))))))))
abbrev lx_150 : List (List (Nat × mI)) := cl_150 :: cl_151 :: cl_152 :: cl_153 :: cl_154 :: cl_155 :: cl_156 :: cl_157 :: cl_158 :: cl_159 :: cl_160 :: cl_161 :: cl_162 :: cl_163 :: cl_164 :: lx_165
theorem ax_150 : AX 150 lx_150 := (@ax_c 150 _ _ va_150 (@ax_c 151 _ _ va_151 (@ax_c 152 _ _ va_152 (@ax_c 153 _ _ va_153 (@ax_c 154 _ _ va_154 (@ax_c 155 _ _ va_155 (@ax_c 156 _ _ va_156 (@ax_c 157 _ _ va_157 (@ax_c 158 _ _ va_158 (@ax_c 159 _ _ va_159 (@ax_c 160 _ _ va_160 (@ax_c 161 _ _ va_161 (@ax_c 162 _ _ va_162 (@ax_c 163 _ _ va_163 (@ax_c 164 _ _ va_164 ax_165)))))))))))))))
abbrev lx_135 : List (List (Nat × mI)) := cl_135 :: cl_136 :: cl_137 :: cl_138 :: cl_139 :: cl_140 :: cl_141 :: cl_142 :: cl_143 :: cl_144 :: cl_145 :: cl_146 :: cl_147 :: cl_148 :: cl_149 :: lx_150
theorem ax_135 : AX 135 lx_135 := (@ax_c 135 _ _ va_135 (@ax_c 136 _ _ va_136 (@ax_c 137 _ _ va_137 (@ax_c 138 _ _ va_138 (@ax_c 139 _ _ va_139 (@ax_c 140 _ _ va_140 (@ax_c 141 _ _ va_141 (@ax_c 142 _ _ va_142 (@ax_c 143 _ _ va_143 (@ax_c 144 _ _ va_144 (@ax_c 145 _ _ va_145 (@ax_c 146 _ _ va_146 (@ax_c 147 _ _ va_147 (@ax_c 148 _ _ va_148 (@ax_c 149 _ _ va_149 ax_150)))))))))))))))
abbrev lx_120 : List (List (Nat × mI)) := cl_120 :: cl_121 :: cl_122 :: cl_123 :: cl_124 :: cl_125 :: cl_126 :: cl_127 :: cl_128 :: cl_129 :: cl_130 :: cl_131 :: cl_132 :: cl_133 :: cl_134 :: lx_135
theorem ax_120 : AX 120 lx_120 := (@ax_c 120 _ _ va_120 (@ax_c 121 _ _ va_121 (@ax_c 122 _ _ va_122 (@ax_c 123 _ _ va_123 (@ax_c 124 _ _ va_124 (@ax_c 125 _ _ va_125 (@ax_c 126 _ _ va_126 (@ax_c 127 _ _ va_127 (@ax_c 128 _ _ va_128 (@ax_c 129 _ _ va_129 (@ax_c 130 _ _ va_130 (@ax_c 131 _ _ va_131 (@ax_c 132 _ _ va_132 (@ax_c 133 _ _ va_133 (@ax_c 134 _ _ va_134 ax_135)))))))))))))))
abbrev lx_105 : List (List (Nat × mI)) := cl_105 :: cl_106 :: cl_107 :: cl_108 :: cl_109 :: cl_110 :: cl_111 :: cl_112 :: cl_113 :: cl_114 :: cl_115 :: cl_116 :: cl_117 :: cl_118 :: cl_119 :: lx_120
theorem ax_105 : AX 105 lx_105 := (@ax_c 105 _ _ va_105 (@ax_c 106 _ _ va_106 (@ax_c 107 _ _ va_107 (@ax_c 108 _ _ va_108 (@ax_c 109 _ _ va_109 (@ax_c 110 _ _ va_110 (@ax_c 111 _ _ va_111 (@ax_c 112 _ _ va_112 (@ax_c 113 _ _ va_113 (@ax_c 114 _ _ va_114 (@ax_c 115 _ _ va_115 (@ax_c 116 _ _ va_116 (@ax_c 117 _ _ va_117 (@ax_c 118 _ _ va_118 (@ax_c 119 _ _ va_119 ax_120)))))))))))))))
abbrev lx_90 : List (List (Nat × mI)) := cl_90 :: cl_91 :: cl_92 :: cl_93 :: cl_94 :: cl_95 :: cl_96 :: cl_97 :: cl_98 :: cl_99 :: cl_100 :: cl_101 :: cl_102 :: cl_103 :: cl_104 :: lx_105
theorem ax_90 : AX 90 lx_90 := (@ax_c 90 _ _ va_90 (@ax_c 91 _ _ va_91 (@ax_c 92 _ _ va_92 (@ax_c 93 _ _ va_93 (@ax_c 94 _ _ va_94 (@ax_c 95 _ _ va_95 (@ax_c 96 _ _ va_96 (@ax_c 97 _ _ va_97 (@ax_c 98 _ _ va_98 (@ax_c 99 _ _ va_99 (@ax_c 100 _ _ va_100 (@ax_c 101 _ _ va_101 (@ax_c 102 _ _ va_102 (@ax_c 103 _ _ va_103 (@ax_c 104 _ _ va_104 ax_105)))))))))))))))
abbrev lx_75 : List (List (Nat × mI)) := cl_75 :: cl_76 :: cl_77 :: cl_78 :: cl_79 :: cl_80 :: cl_81 :: cl_82 :: cl_83 :: cl_84 :: cl_85 :: cl_86 :: cl_87 :: cl_88 :: cl_89 :: lx_90
theorem ax_75 : AX 75 lx_75 := (@ax_c 75 _ _ va_75 (@ax_c 76 _ _ va_76 (@ax_c 77 _ _ va_77 (@ax_c 78 _ _ va_78 (@ax_c 79 _ _ va_79 (@ax_c 80 _ _ va_80 (@ax_c 81 _ _ va_81 (@ax_c 82 _ _ va_82 (@ax_c 83 _ _ va_83 (@ax_c 84 _ _ va_84 (@ax_c 85 _ _ va_85 (@ax_c 86 _ _ va_86 (@ax_c 87 _ _ va_87 (@ax_c 88 _ _ va_88 (@ax_c 89 _ _ va_89 ax_90)))))))))))))))
abbrev lx_60 : List (List (Nat × mI)) := cl_60 :: cl_61 :: cl_62 :: cl_63 :: cl_64 :: cl_65 :: cl_66 :: cl_67 :: cl_68 :: cl_69 :: cl_70 :: cl_71 :: cl_72 :: cl_73 :: cl_74 :: lx_75
theorem ax_60 : AX 60 lx_60 := (@ax_c 60 _ _ va_60 (@ax_c 61 _ _ va_61 (@ax_c 62 _ _ va_62 (@ax_c 63 _ _ va_63 (@ax_c 64 _ _ va_64 (@ax_c 65 _ _ va_65 (@ax_c 66 _ _ va_66 (@ax_c 67 _ _ va_67 (@ax_c 68 _ _ va_68 (@ax_c 69 _ _ va_69 (@ax_c 70 _ _ va_70 (@ax_c 71 _ _ va_71 (@ax_c 72 _ _ va_72 (@ax_c 73 _ _ va_73 (@ax_c 74 _ _ va_74 ax_75)))))))))))))))
abbrev lx_45 : List (List (Nat × mI)) := cl_45 :: cl_46 :: cl_47 :: cl_48 :: cl_49 :: cl_50 :: cl_51 :: cl_52 :: cl_53 :: cl_54 :: cl_55 :: cl_56 :: cl_57 :: cl_58 :: cl_59 :: lx_60
theorem ax_45 : AX 45 lx_45 := (@ax_c 45 _ _ va_45 (@ax_c 46 _ _ va_46 (@ax_c 47 _ _ va_47 (@ax_c 48 _ _ va_48 (@ax_c 49 _ _ va_49 (@ax_c 50 _ _ va_50 (@ax_c 51 _ _ va_51 (@ax_c 52 _ _ va_52 (@ax_c 53 _ _ va_53 (@ax_c 54 _ _ va_54 (@ax_c 55 _ _ va_55 (@ax_c 56 _ _ va_56 (@ax_c 57 _ _ va_57 (@ax_c 58 _ _ va_58 (@ax_c 59 _ _ va_59 ax_60)))))))))))))))
abbrev lx_30 : List (List (Nat × mI)) := cl_30 :: cl_31 :: cl_32 :: cl_33 :: cl_34 :: cl_35 :: cl_36 :: cl_37 :: cl_38 :: cl_39 :: cl_40 :: cl_41 :: cl_42 :: cl_43 :: cl_44 :: lx_45
theorem ax_30 : AX 30 lx_30 := (@ax_c 30 _ _ va_30 (@ax_c 31 _ _ va_31 (@ax_c 32 _ _ va_32 (@ax_c 33 _ _ va_33 (@ax_c 34 _ _ va_34 (@ax_c 35 _ _ va_35 (@ax_c 36 _ _ va_36 (@ax_c 37 _ _ va_37 (@ax_c 38 _ _ va_38 (@ax_c 39 _ _ va_39 (@ax_c 40 _ _ va_40 (@ax_c 41 _ _ va_41 (@ax_c 42 _ _ va_42 (@ax_c 43 _ _ va_43 (@ax_c 44 _ _ va_44 ax_45)))))))))))))))
abbrev lx_15 : List (List (Nat × mI)) := cl_15 :: cl_16 :: cl_17 :: cl_18 :: cl_19 :: cl_20 :: cl_21 :: cl_22 :: cl_23 :: cl_24 :: cl_25 :: cl_26 :: cl_27 :: cl_28 :: cl_29 :: lx_30
theorem ax_15 : AX 15 lx_15 := (@ax_c 15 _ _ va_15 (@ax_c 16 _ _ va_16 (@ax_c 17 _ _ va_17 (@ax_c 18 _ _ va_18 (@ax_c 19 _ _ va_19 (@ax_c 20 _ _ va_20 (@ax_c 21 _ _ va_21 (@ax_c 22 _ _ va_22 (@ax_c 23 _ _ va_23 (@ax_c 24 _ _ va_24 (@ax_c 25 _ _ va_25 (@ax_c 26 _ _ va_26 (@ax_c 27 _ _ va_27 (@ax_c 28 _ _ va_28 (@ax_c 29 _ _ va_29 ax_30)))))))))))))))
abbrev lx_0 : List (List (Nat × mI)) := cl_0 :: cl_1 :: cl_2 :: cl_3 :: cl_4 :: cl_5 :: cl_6 :: cl_7 :: cl_8 :: cl_9 :: cl_10 :: cl_11 :: cl_12 :: cl_13 :: cl_14 :: lx_15
theorem ax_0 : AX 0 lx_0 := (@ax_c 0 _ _ va_no (@ax_c 1 _ _ va_no (@ax_c 2 _ _ va_2 (@ax_c 3 _ _ va_3 (@ax_c 4 _ _ va_4 (@ax_c 5 _ _ va_5 (@ax_c 6 _ _ va_6 (@ax_c 7 _ _ va_7 (@ax_c 8 _ _ va_8 (@ax_c 9 _ _ va_9 (@ax_c 10 _ _ va_10 (@ax_c 11 _ _ va_11 (@ax_c 12 _ _ va_12 (@ax_c 13 _ _ va_13 (@ax_c 14 _ _ va_14 ax_15)))))))))))))))
theorem mtab_lx : mtab = lx_0 := rfl
theorem all_ok : ALL := by
  intro y z hz
  rw [mtab_lx] at hz
  have := ax_0 y z hz
  rw [Nat.zero_add] at this
  exact this
