/-! needs: 13 -/
/-! THE TABLES ARE WELL FORMED; comparisons; by tools/gen60.py -/
set_option maxRecDepth 100000
theorem wf_1 : am_wf cd_1 = true := by decide +kernel
theorem wf_2 : am_wf cd_2 = true := by decide +kernel
theorem wf_3 : am_wf cd_3 = true := by decide +kernel
theorem wf_4 : am_wf cd_4 = true := by decide +kernel
theorem wf_5 : am_wf cd_5 = true := by decide +kernel
theorem wf_6 : am_wf cd_6 = true := by decide +kernel
theorem wf_7 : am_wf cd_7 = true := by decide +kernel
theorem wf_8 : am_wf cd_8 = true := by decide +kernel
theorem wf_9 : am_wf cd_9 = true := by decide +kernel
theorem wf_10 : am_wf cd_10 = true := by decide +kernel
theorem wf_11 : am_wf cd_11 = true := by decide +kernel
theorem wf_12 : am_wf cd_12 = true := by decide +kernel
theorem wf_20 : am_wf cd_20 = true := by decide +kernel
theorem wf_21 : am_wf cd_21 = true := by decide +kernel
theorem wf_22 : am_wf cd_22 = true := by decide +kernel
theorem wf_23 : am_wf cd_23 = true := by decide +kernel
theorem wf_24 : am_wf cd_24 = true := by decide +kernel
theorem wf_25 : am_wf cd_25 = true := by decide +kernel
theorem wf_26 : am_wf cd_26 = true := by decide +kernel
theorem wf_27 : am_wf cd_27 = true := by decide +kernel
theorem wf_28 : am_wf cd_28 = true := by decide +kernel
theorem wf_29 : am_wf cd_29 = true := by decide +kernel
theorem wf_30 : am_wf cd_30 = true := by decide +kernel
theorem wf_31 : am_wf cd_31 = true := by decide +kernel
theorem wf_32 : am_wf cd_32 = true := by decide +kernel
theorem wf_33 : am_wf cd_33 = true := by decide +kernel
theorem wf_34 : am_wf cd_34 = true := by decide +kernel
theorem wf_35 : am_wf cd_35 = true := by decide +kernel
theorem wf_36 : am_wf cd_36 = true := by decide +kernel
theorem wf_37 : am_wf cd_37 = true := by decide +kernel
theorem wf_38 : am_wf cd_38 = true := by decide +kernel
theorem wf_39 : am_wf cd_39 = true := by decide +kernel
theorem wf_40 : am_wf cd_40 = true := by decide +kernel
theorem wf_41 : am_wf cd_41 = true := by decide +kernel
theorem wf_42 : am_wf cd_42 = true := by decide +kernel
theorem wf_43 : am_wf cd_43 = true := by decide +kernel
theorem wf_44 : am_wf cd_44 = true := by decide +kernel
theorem wf_45 : am_wf cd_45 = true := by decide +kernel
theorem wf_46 : am_wf cd_46 = true := by decide +kernel
theorem wf_47 : am_wf cd_47 = true := by decide +kernel
theorem wf_48 : am_wf cd_48 = true := by decide +kernel
theorem wf_49 : am_wf cd_49 = true := by decide +kernel
theorem wf_50 : am_wf cd_50 = true := by decide +kernel
theorem wf_51 : am_wf cd_51 = true := by decide +kernel
theorem wf_52 : am_wf cd_52 = true := by decide +kernel
theorem wf_53 : am_wf cd_53 = true := by decide +kernel
theorem wf_54 : am_wf cd_54 = true := by decide +kernel
theorem wf_55 : am_wf cd_55 = true := by decide +kernel
theorem wf_56 : am_wf cd_56 = true := by decide +kernel
theorem wf_57 : am_wf cd_57 = true := by decide +kernel
theorem wf_58 : am_wf cd_58 = true := by decide +kernel
theorem wf_59 : am_wf cd_59 = true := by decide +kernel
theorem wf_60 : am_wf cd_60 = true := by decide +kernel
theorem wf_61 : am_wf cd_61 = true := by decide +kernel
theorem wf_62 : am_wf cd_62 = true := by decide +kernel
theorem wf_63 : am_wf cd_63 = true := by decide +kernel
theorem wf_64 : am_wf cd_64 = true := by decide +kernel
theorem wf_65 : am_wf cd_65 = true := by decide +kernel
theorem wf_66 : am_wf cd_66 = true := by decide +kernel
theorem wf_67 : am_wf cd_67 = true := by decide +kernel
theorem wf_68 : am_wf cd_68 = true := by decide +kernel
theorem wf_69 : am_wf cd_69 = true := by decide +kernel
theorem wf_70 : am_wf cd_70 = true := by decide +kernel
theorem wf_71 : am_wf cd_71 = true := by decide +kernel
theorem wf_72 : am_wf cd_72 = true := by decide +kernel
theorem wf_73 : am_wf cd_73 = true := by decide +kernel
theorem wf_74 : am_wf cd_74 = true := by decide +kernel
theorem wf_75 : am_wf cd_75 = true := by decide +kernel
theorem wf_76 : am_wf cd_76 = true := by decide +kernel
theorem wf_77 : am_wf cd_77 = true := by decide +kernel
theorem wf_78 : am_wf cd_78 = true := by decide +kernel
theorem wf_79 : am_wf cd_79 = true := by decide +kernel
theorem wf_80 : am_wf cd_80 = true := by decide +kernel
theorem wf_81 : am_wf cd_81 = true := by decide +kernel
theorem wf_82 : am_wf cd_82 = true := by decide +kernel
theorem wf_83 : am_wf cd_83 = true := by decide +kernel
theorem wf_84 : am_wf cd_84 = true := by decide +kernel
theorem wf_85 : am_wf cd_85 = true := by decide +kernel
theorem wf_86 : am_wf cd_86 = true := by decide +kernel
theorem wf_87 : am_wf cd_87 = true := by decide +kernel
theorem wf_88 : am_wf cd_88 = true := by decide +kernel
theorem wf_89 : am_wf cd_89 = true := by decide +kernel
theorem wf_90 : am_wf cd_90 = true := by decide +kernel
theorem wf_91 : am_wf cd_91 = true := by decide +kernel
theorem wf_92 : am_wf cd_92 = true := by decide +kernel
theorem wf_93 : am_wf cd_93 = true := by decide +kernel
theorem wf_94 : am_wf cd_94 = true := by decide +kernel
theorem wf_95 : am_wf cd_95 = true := by decide +kernel
theorem wf_96 : am_wf cd_96 = true := by decide +kernel
theorem wf_97 : am_wf cd_97 = true := by decide +kernel
theorem wf_98 : am_wf cd_98 = true := by decide +kernel
theorem wf_99 : am_wf cd_99 = true := by decide +kernel
theorem wf_100 : am_wf cd_100 = true := by decide +kernel
theorem wf_101 : am_wf cd_101 = true := by decide +kernel
theorem wf_102 : am_wf cd_102 = true := by decide +kernel
theorem wf_103 : am_wf cd_103 = true := by decide +kernel
theorem wf_104 : am_wf cd_104 = true := by decide +kernel
theorem wf_105 : am_wf cd_105 = true := by decide +kernel
theorem wf_106 : am_wf cd_106 = true := by decide +kernel
theorem wf_107 : am_wf cd_107 = true := by decide +kernel
theorem wf_108 : am_wf cd_108 = true := by decide +kernel
theorem wf_109 : am_wf cd_109 = true := by decide +kernel
theorem wf_110 : am_wf cd_110 = true := by decide +kernel
theorem wf_111 : am_wf cd_111 = true := by decide +kernel
theorem wf_112 : am_wf cd_112 = true := by decide +kernel
theorem wf_113 : am_wf cd_113 = true := by decide +kernel
theorem wf_114 : am_wf cd_114 = true := by decide +kernel
theorem wf_115 : am_wf cd_115 = true := by decide +kernel
theorem wf_116 : am_wf cd_116 = true := by decide +kernel
theorem wf_117 : am_wf cd_117 = true := by decide +kernel
theorem wf_118 : am_wf cd_118 = true := by decide +kernel
theorem wf_119 : am_wf cd_119 = true := by decide +kernel
theorem wf_120 : am_wf cd_120 = true := by decide +kernel
theorem wf_121 : am_wf cd_121 = true := by decide +kernel
theorem wf_122 : am_wf cd_122 = true := by decide +kernel
theorem wf_123 : am_wf cd_123 = true := by decide +kernel
theorem wf_124 : am_wf cd_124 = true := by decide +kernel
theorem wf_125 : am_wf cd_125 = true := by decide +kernel
theorem wf_126 : am_wf cd_126 = true := by decide +kernel
theorem wf_127 : am_wf cd_127 = true := by decide +kernel
theorem wf_128 : am_wf cd_128 = true := by decide +kernel
theorem wf_129 : am_wf cd_129 = true := by decide +kernel
theorem wf_130 : am_wf cd_130 = true := by decide +kernel
theorem wf_131 : am_wf cd_131 = true := by decide +kernel
theorem wf_132 : am_wf cd_132 = true := by decide +kernel
theorem wf_133 : am_wf cd_133 = true := by decide +kernel
theorem wf_134 : am_wf cd_134 = true := by decide +kernel
theorem wf_135 : am_wf cd_135 = true := by decide +kernel
theorem wf_136 : am_wf cd_136 = true := by decide +kernel
theorem wf_137 : am_wf cd_137 = true := by decide +kernel
theorem wf_138 : am_wf cd_138 = true := by decide +kernel
theorem wf_139 : am_wf cd_139 = true := by decide +kernel
theorem wf_140 : am_wf cd_140 = true := by decide +kernel
theorem wf_141 : am_wf cd_141 = true := by decide +kernel
theorem wf_142 : am_wf cd_142 = true := by decide +kernel
theorem wf_143 : am_wf cd_143 = true := by decide +kernel
theorem wf_144 : am_wf cd_144 = true := by decide +kernel
theorem wf_145 : am_wf cd_145 = true := by decide +kernel
theorem wf_146 : am_wf cd_146 = true := by decide +kernel
theorem wf_147 : am_wf cd_147 = true := by decide +kernel
theorem wf_148 : am_wf cd_148 = true := by decide +kernel
theorem wf_149 : am_wf cd_149 = true := by decide +kernel
theorem wf_150 : am_wf cd_150 = true := by decide +kernel
theorem wf_151 : am_wf cd_151 = true := by decide +kernel
theorem wf_152 : am_wf cd_152 = true := by decide +kernel
theorem wf_153 : am_wf cd_153 = true := by decide +kernel
theorem wf_154 : am_wf cd_154 = true := by decide +kernel
theorem wf_155 : am_wf cd_155 = true := by decide +kernel
theorem wf_156 : am_wf cd_156 = true := by decide +kernel
theorem wf_157 : am_wf cd_157 = true := by decide +kernel
theorem wf_158 : am_wf cd_158 = true := by decide +kernel
theorem wf_159 : am_wf cd_159 = true := by decide +kernel
theorem wf_160 : am_wf cd_160 = true := by decide +kernel
theorem wf_161 : am_wf cd_161 = true := by decide +kernel
theorem wf_162 : am_wf cd_162 = true := by decide +kernel
theorem wf_163 : am_wf cd_163 = true := by decide +kernel
theorem wf_164 : am_wf cd_164 = true := by decide +kernel
theorem wf_165 : am_wf cd_165 = true := by decide +kernel
theorem wf_166 : am_wf cd_166 = true := by decide +kernel
theorem wf_167 : am_wf cd_167 = true := by decide +kernel
theorem wf_168 : am_wf cd_168 = true := by decide +kernel
theorem wf_169 : am_wf cd_169 = true := by decide +kernel
theorem wf_170 : am_wf cd_170 = true := by decide +kernel
theorem wf_171 : am_wf cd_171 = true := by decide +kernel
theorem wf_172 : am_wf cd_172 = true := by decide +kernel
theorem wf_173 : am_wf cd_173 = true := by decide +kernel
theorem wf_174 : am_wf cd_174 = true := by decide +kernel
theorem wf_175 : am_wf cd_175 = true := by decide +kernel
theorem wf_176 : am_wf cd_176 = true := by decide +kernel
theorem wf_177 : am_wf cd_177 = true := by decide +kernel
theorem wf_178 : am_wf cd_178 = true := by decide +kernel
theorem wf_179 : am_wf cd_179 = true := by decide +kernel
theorem wf_180 : am_wf cd_180 = true := by decide +kernel
theorem wf_181 : am_wf cd_181 = true := by decide +kernel
theorem wf_182 : am_wf cd_182 = true := by decide +kernel
theorem wf_183 : am_wf cd_183 = true := by decide +kernel
theorem wf_184 : am_wf cd_184 = true := by decide +kernel
theorem wf_185 : am_wf cd_185 = true := by decide +kernel
theorem wf_186 : am_wf cd_186 = true := by decide +kernel
theorem wf_187 : am_wf cd_187 = true := by decide +kernel
theorem wf_188 : am_wf cd_188 = true := by decide +kernel
theorem wf_189 : am_wf cd_189 = true := by decide +kernel
theorem wf_190 : am_wf cd_190 = true := by decide +kernel
theorem wf_191 : am_wf cd_191 = true := by decide +kernel
theorem wf_192 : am_wf cd_192 = true := by decide +kernel
theorem wf_193 : am_wf cd_193 = true := by decide +kernel
theorem wf_194 : am_wf cd_194 = true := by decide +kernel
theorem wf_195 : am_wf cd_195 = true := by decide +kernel
theorem wf_196 : am_wf cd_196 = true := by decide +kernel
theorem wf_197 : am_wf cd_197 = true := by decide +kernel
theorem wf_198 : am_wf cd_198 = true := by decide +kernel
theorem wf_199 : am_wf cd_199 = true := by decide +kernel
theorem wf_200 : am_wf cd_200 = true := by decide +kernel
theorem wf_201 : am_wf cd_201 = true := by decide +kernel
theorem wf_202 : am_wf cd_202 = true := by decide +kernel
theorem wf_203 : am_wf cd_203 = true := by decide +kernel
theorem wf_204 : am_wf cd_204 = true := by decide +kernel
theorem wf_205 : am_wf cd_205 = true := by decide +kernel
theorem wf_206 : am_wf cd_206 = true := by decide +kernel
theorem wf_207 : am_wf cd_207 = true := by decide +kernel
theorem wf_208 : am_wf cd_208 = true := by decide +kernel
theorem wf_209 : am_wf cd_209 = true := by decide +kernel
theorem wf_210 : am_wf cd_210 = true := by decide +kernel
theorem wf_211 : am_wf cd_211 = true := by decide +kernel
theorem wf_212 : am_wf cd_212 = true := by decide +kernel
theorem wf_213 : am_wf cd_213 = true := by decide +kernel
theorem wf_214 : am_wf cd_214 = true := by decide +kernel
theorem wf_215 : am_wf cd_215 = true := by decide +kernel
theorem wf_216 : am_wf cd_216 = true := by decide +kernel
theorem wf_217 : am_wf cd_217 = true := by decide +kernel
theorem wf_218 : am_wf cd_218 = true := by decide +kernel
theorem wf_219 : am_wf cd_219 = true := by decide +kernel
theorem wf_220 : am_wf cd_220 = true := by decide +kernel
theorem wf_221 : am_wf cd_221 = true := by decide +kernel
theorem wf_222 : am_wf cd_222 = true := by decide +kernel
theorem wf_223 : am_wf cd_223 = true := by decide +kernel
theorem wf_224 : am_wf cd_224 = true := by decide +kernel
theorem wf_225 : am_wf cd_225 = true := by decide +kernel
theorem wf_226 : am_wf cd_226 = true := by decide +kernel
theorem wf_227 : am_wf cd_227 = true := by decide +kernel
theorem wf_228 : am_wf cd_228 = true := by decide +kernel
theorem wf_229 : am_wf cd_229 = true := by decide +kernel
theorem wf_230 : am_wf cd_230 = true := by decide +kernel
theorem wf_231 : am_wf cd_231 = true := by decide +kernel
theorem wf_232 : am_wf cd_232 = true := by decide +kernel
theorem wf_233 : am_wf cd_233 = true := by decide +kernel
theorem wf_234 : am_wf cd_234 = true := by decide +kernel
theorem wf_235 : am_wf cd_235 = true := by decide +kernel
theorem wf_236 : am_wf cd_236 = true := by decide +kernel
theorem wf_237 : am_wf cd_237 = true := by decide +kernel
theorem wf_238 : am_wf cd_238 = true := by decide +kernel
theorem wf_239 : am_wf cd_239 = true := by decide +kernel
theorem wf_240 : am_wf cd_240 = true := by decide +kernel
theorem wf_241 : am_wf cd_241 = true := by decide +kernel
theorem wf_242 : am_wf cd_242 = true := by decide +kernel
theorem wf_243 : am_wf cd_243 = true := by decide +kernel
theorem wf_244 : am_wf cd_244 = true := by decide +kernel
theorem wf_245 : am_wf cd_245 = true := by decide +kernel
theorem wf_246 : am_wf cd_246 = true := by decide +kernel
theorem wf_247 : am_wf cd_247 = true := by decide +kernel
theorem wf_248 : am_wf cd_248 = true := by decide +kernel
theorem wf_249 : am_wf cd_249 = true := by decide +kernel
theorem wf_250 : am_wf cd_250 = true := by decide +kernel
theorem wf_251 : am_wf cd_251 = true := by decide +kernel
theorem wf_252 : am_wf cd_252 = true := by decide +kernel
theorem wf_253 : am_wf cd_253 = true := by decide +kernel
theorem wf_254 : am_wf cd_254 = true := by decide +kernel
theorem wf_255 : am_wf cd_255 = true := by decide +kernel
theorem wf_256 : am_wf cd_256 = true := by decide +kernel
theorem wf_257 : am_wf cd_257 = true := by decide +kernel
theorem wf_258 : am_wf cd_258 = true := by decide +kernel
theorem wf_259 : am_wf cd_259 = true := by decide +kernel
theorem wf_260 : am_wf cd_260 = true := by decide +kernel
theorem wf_261 : am_wf cd_261 = true := by decide +kernel
theorem wf_262 : am_wf cd_262 = true := by decide +kernel
theorem wf_263 : am_wf cd_263 = true := by decide +kernel
theorem wf_264 : am_wf cd_264 = true := by decide +kernel
theorem wf_265 : am_wf cd_265 = true := by decide +kernel
theorem wf_266 : am_wf cd_266 = true := by decide +kernel
theorem wf_267 : am_wf cd_267 = true := by decide +kernel
theorem wf_268 : am_wf cd_268 = true := by decide +kernel
theorem wf_269 : am_wf cd_269 = true := by decide +kernel
theorem wf_270 : am_wf cd_270 = true := by decide +kernel
theorem wf_271 : am_wf cd_271 = true := by decide +kernel
theorem wf_272 : am_wf cd_272 = true := by decide +kernel
theorem wf_273 : am_wf cd_273 = true := by decide +kernel
theorem wf_274 : am_wf cd_274 = true := by decide +kernel
theorem wf_275 : am_wf cd_275 = true := by decide +kernel
theorem wf_276 : am_wf cd_276 = true := by decide +kernel
theorem wf_277 : am_wf cd_277 = true := by decide +kernel
theorem wf_278 : am_wf cd_278 = true := by decide +kernel
theorem wf_279 : am_wf cd_279 = true := by decide +kernel
theorem wf_280 : am_wf cd_280 = true := by decide +kernel
theorem wf_281 : am_wf cd_281 = true := by decide +kernel
theorem wf_282 : am_wf cd_282 = true := by decide +kernel
theorem wf_283 : am_wf cd_283 = true := by decide +kernel
theorem wf_284 : am_wf cd_284 = true := by decide +kernel
theorem wf_285 : am_wf cd_285 = true := by decide +kernel
theorem wf_286 : am_wf cd_286 = true := by decide +kernel
theorem wf_287 : am_wf cd_287 = true := by decide +kernel
theorem wf_288 : am_wf cd_288 = true := by decide +kernel
theorem wf_289 : am_wf cd_289 = true := by decide +kernel
theorem wf_290 : am_wf cd_290 = true := by decide +kernel
theorem wf_291 : am_wf cd_291 = true := by decide +kernel
theorem wf_292 : am_wf cd_292 = true := by decide +kernel
theorem wf_293 : am_wf cd_293 = true := by decide +kernel
theorem wf_294 : am_wf cd_294 = true := by decide +kernel
theorem wf_295 : am_wf cd_295 = true := by decide +kernel
theorem wf_296 : am_wf cd_296 = true := by decide +kernel
theorem wf_297 : am_wf cd_297 = true := by decide +kernel
theorem wf_298 : am_wf cd_298 = true := by decide +kernel
theorem wf_299 : am_wf cd_299 = true := by decide +kernel
theorem wf_300 : am_wf cd_300 = true := by decide +kernel
theorem wf_301 : am_wf cd_301 = true := by decide +kernel
theorem wf_302 : am_wf cd_302 = true := by decide +kernel
theorem wf_303 : am_wf cd_303 = true := by decide +kernel
theorem wf_304 : am_wf cd_304 = true := by decide +kernel
theorem wf_305 : am_wf cd_305 = true := by decide +kernel
theorem wf_306 : am_wf cd_306 = true := by decide +kernel
theorem wf_307 : am_wf cd_307 = true := by decide +kernel
theorem wf_308 : am_wf cd_308 = true := by decide +kernel
theorem wf_309 : am_wf cd_309 = true := by decide +kernel
theorem wf_310 : am_wf cd_310 = true := by decide +kernel
theorem wf_311 : am_wf cd_311 = true := by decide +kernel
theorem wf_312 : am_wf cd_312 = true := by decide +kernel
theorem wf_313 : am_wf cd_313 = true := by decide +kernel
theorem wf_314 : am_wf cd_314 = true := by decide +kernel
theorem wf_315 : am_wf cd_315 = true := by decide +kernel
theorem wf_316 : am_wf cd_316 = true := by decide +kernel
theorem wf_317 : am_wf cd_317 = true := by decide +kernel
theorem wf_318 : am_wf cd_318 = true := by decide +kernel
theorem wf_319 : am_wf cd_319 = true := by decide +kernel
theorem wf_320 : am_wf cd_320 = true := by decide +kernel
theorem wf_321 : am_wf cd_321 = true := by decide +kernel
theorem wf_322 : am_wf cd_322 = true := by decide +kernel
theorem wf_323 : am_wf cd_323 = true := by decide +kernel
theorem wf_324 : am_wf cd_324 = true := by decide +kernel
theorem wf_325 : am_wf cd_325 = true := by decide +kernel
theorem wf_326 : am_wf cd_326 = true := by decide +kernel
theorem wf_327 : am_wf cd_327 = true := by decide +kernel
theorem wf_328 : am_wf cd_328 = true := by decide +kernel
theorem wf_329 : am_wf cd_329 = true := by decide +kernel
theorem wf_330 : am_wf cd_330 = true := by decide +kernel
theorem wf_331 : am_wf cd_331 = true := by decide +kernel
theorem wf_332 : am_wf cd_332 = true := by decide +kernel
theorem wf_333 : am_wf cd_333 = true := by decide +kernel
theorem wf_334 : am_wf cd_334 = true := by decide +kernel
theorem wf_335 : am_wf cd_335 = true := by decide +kernel
theorem am_lc_lt {a b : Int} : am_lc a b < 0 ↔ a < b := by
  unfold am_lc
  split
  · simp; assumption
  · split
    · constructor <;> intro h <;> omega
    · constructor <;> intro h <;> omega
theorem am_lc_ge {a b : Int} : 0 ≤ am_lc a b ↔ b ≤ a := by
  have := @am_lc_lt a b
  constructor <;> intro h
  · by_cases q : a < b
    · have := this.mpr q; omega
    · omega
  · by_cases q : am_lc a b < 0
    · have := this.mp q; omega
    · omega
theorem am_lc_gt {a b : Int} : 0 < am_lc a b ↔ b < a := by
  unfold am_lc
  split
  · constructor <;> intro h <;> omega
  · split
    · constructor <;> intro h <;> omega
    · constructor <;> intro h <;> omega
theorem am_lc_le {a b : Int} : am_lc a b ≤ 0 ↔ a ≤ b := by
  have := @am_lc_gt a b
  constructor <;> intro h
  · by_cases q : b < a
    · have := this.mpr q; omega
    · omega
  · by_cases q : 0 < am_lc a b
    · have := this.mp q; omega
    · omega
theorem am_lc_eq {a b : Int} : am_lc a b = 0 ↔ a = b := by
  unfold am_lc
  split
  · constructor <;> intro h <;> omega
  · split
    · constructor <;> intro h <;> omega
    · constructor <;> intro h <;> omega
theorem am_lc_ne {a b : Int} : am_lc a b ≠ 0 ↔ a ≠ b := not_congr am_lc_eq
