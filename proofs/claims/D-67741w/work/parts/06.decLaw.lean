theorem d_Int_bitCount_0 : decode b_Int_bitCount 0 = .ok (.iload_n 0, 1) := by decide +kernel
theorem d_Int_bitCount_1 : decode b_Int_bitCount 1 = .ok (.iload_n 0, 1) := by decide +kernel
theorem d_Int_bitCount_2 : decode b_Int_bitCount 2 = .ok (.iconst 1, 1) := by decide +kernel
theorem d_Int_bitCount_3 : decode b_Int_bitCount 3 = .ok (.iushr, 1) := by decide +kernel
theorem d_Int_bitCount_4 : decode b_Int_bitCount 4 = .ok (.ldc_w 265, 3) := by decide +kernel
theorem d_Int_bitCount_7 : decode b_Int_bitCount 7 = .ok (.iand, 1) := by decide +kernel
theorem d_Int_bitCount_8 : decode b_Int_bitCount 8 = .ok (.isub, 1) := by decide +kernel
theorem d_Int_bitCount_9 : decode b_Int_bitCount 9 = .ok (.istore_n 0, 1) := by decide +kernel
theorem d_Int_bitCount_10 : decode b_Int_bitCount 10 = .ok (.iload_n 0, 1) := by decide +kernel
theorem d_Int_bitCount_11 : decode b_Int_bitCount 11 = .ok (.ldc_w 266, 3) := by decide +kernel
theorem d_Int_bitCount_14 : decode b_Int_bitCount 14 = .ok (.iand, 1) := by decide +kernel
theorem d_Int_bitCount_15 : decode b_Int_bitCount 15 = .ok (.iload_n 0, 1) := by decide +kernel
theorem d_Int_bitCount_16 : decode b_Int_bitCount 16 = .ok (.iconst 2, 1) := by decide +kernel
theorem d_Int_bitCount_17 : decode b_Int_bitCount 17 = .ok (.iushr, 1) := by decide +kernel
theorem d_Int_bitCount_18 : decode b_Int_bitCount 18 = .ok (.ldc_w 266, 3) := by decide +kernel
theorem d_Int_bitCount_21 : decode b_Int_bitCount 21 = .ok (.iand, 1) := by decide +kernel
theorem d_Int_bitCount_22 : decode b_Int_bitCount 22 = .ok (.iadd, 1) := by decide +kernel
theorem d_Int_bitCount_23 : decode b_Int_bitCount 23 = .ok (.istore_n 0, 1) := by decide +kernel
theorem d_Int_bitCount_24 : decode b_Int_bitCount 24 = .ok (.iload_n 0, 1) := by decide +kernel
theorem d_Int_bitCount_25 : decode b_Int_bitCount 25 = .ok (.iload_n 0, 1) := by decide +kernel
theorem d_Int_bitCount_26 : decode b_Int_bitCount 26 = .ok (.iconst 4, 1) := by decide +kernel
theorem d_Int_bitCount_27 : decode b_Int_bitCount 27 = .ok (.iushr, 1) := by decide +kernel
theorem d_Int_bitCount_28 : decode b_Int_bitCount 28 = .ok (.iadd, 1) := by decide +kernel
theorem d_Int_bitCount_29 : decode b_Int_bitCount 29 = .ok (.ldc_w 267, 3) := by decide +kernel
theorem d_Int_bitCount_32 : decode b_Int_bitCount 32 = .ok (.iand, 1) := by decide +kernel
theorem d_Int_bitCount_33 : decode b_Int_bitCount 33 = .ok (.istore_n 0, 1) := by decide +kernel
theorem d_Int_bitCount_34 : decode b_Int_bitCount 34 = .ok (.iload_n 0, 1) := by decide +kernel
theorem d_Int_bitCount_35 : decode b_Int_bitCount 35 = .ok (.iload_n 0, 1) := by decide +kernel
theorem d_Int_bitCount_36 : decode b_Int_bitCount 36 = .ok (.bipush 8, 2) := by decide +kernel
theorem d_Int_bitCount_38 : decode b_Int_bitCount 38 = .ok (.iushr, 1) := by decide +kernel
theorem d_Int_bitCount_39 : decode b_Int_bitCount 39 = .ok (.iadd, 1) := by decide +kernel
theorem d_Int_bitCount_40 : decode b_Int_bitCount 40 = .ok (.istore_n 0, 1) := by decide +kernel
theorem d_Int_bitCount_41 : decode b_Int_bitCount 41 = .ok (.iload_n 0, 1) := by decide +kernel
theorem d_Int_bitCount_42 : decode b_Int_bitCount 42 = .ok (.iload_n 0, 1) := by decide +kernel
theorem d_Int_bitCount_43 : decode b_Int_bitCount 43 = .ok (.bipush 16, 2) := by decide +kernel
theorem d_Int_bitCount_45 : decode b_Int_bitCount 45 = .ok (.iushr, 1) := by decide +kernel
theorem d_Int_bitCount_46 : decode b_Int_bitCount 46 = .ok (.iadd, 1) := by decide +kernel
theorem d_Int_bitCount_47 : decode b_Int_bitCount 47 = .ok (.istore_n 0, 1) := by decide +kernel
theorem d_Int_bitCount_48 : decode b_Int_bitCount 48 = .ok (.iload_n 0, 1) := by decide +kernel
theorem d_Int_bitCount_49 : decode b_Int_bitCount 49 = .ok (.bipush 63, 2) := by decide +kernel
theorem d_Int_bitCount_51 : decode b_Int_bitCount 51 = .ok (.iand, 1) := by decide +kernel
theorem d_Int_bitCount_52 : decode b_Int_bitCount 52 = .ok (.ireturn, 1) := by decide +kernel
theorem d_law_0 : decode code 0 = .ok (.new 7, 3) := by decide +kernel
theorem d_law_3 : decode code 3 = .ok (.dup, 1) := by decide +kernel
theorem d_law_4 : decode code 4 = .ok (.invokespecial 9, 3) := by decide +kernel
theorem d_law_7 : decode code 7 = .ok (.astore_n 1, 1) := by decide +kernel
theorem d_law_8 : decode code 8 = .ok (.new 10, 3) := by decide +kernel
theorem d_law_11 : decode code 11 = .ok (.dup, 1) := by decide +kernel
theorem d_law_12 : decode code 12 = .ok (.invokespecial 12, 3) := by decide +kernel
theorem d_law_15 : decode code 15 = .ok (.astore_n 2, 1) := by decide +kernel
theorem d_law_16 : decode code 16 = .ok (.iconst 0, 1) := by decide +kernel
theorem d_law_17 : decode code 17 = .ok (.istore_n 3, 1) := by decide +kernel
theorem d_law_18 : decode code 18 = .ok (.iload_n 3, 1) := by decide +kernel
theorem d_law_19 : decode code 19 = .ok (.aload_n 0, 1) := by decide +kernel
theorem d_law_20 : decode code 20 = .ok (.arraylength, 1) := by decide +kernel
theorem d_law_21 : decode code 21 = .ok (.iconst 5, 1) := by decide +kernel
theorem d_law_22 : decode code 22 = .ok (.isub, 1) := by decide +kernel
theorem d_law_23 : decode code 23 = .ok (.if_icmp .gt 777, 3) := by decide +kernel
theorem d_law_26 : decode code 26 = .ok (.aload_n 0, 1) := by decide +kernel
theorem d_law_27 : decode code 27 = .ok (.iload_n 3, 1) := by decide +kernel
theorem d_law_28 : decode code 28 = .ok (.iaload, 1) := by decide +kernel
theorem d_law_29 : decode code 29 = .ok (.bipush 31, 2) := by decide +kernel
theorem d_law_31 : decode code 31 = .ok (.iand, 1) := by decide +kernel
theorem d_law_32 : decode code 32 = .ok (.tableswitch 762 0 17 #[88, 131, 174, 227, 270, 323, 346, 399, 432, 455, 508, 551, 604, 627, 660, 703, 736, 749], 88) := by decide +kernel
theorem d_law_120 : decode code 120 = .ok (.aload_n 1, 1) := by decide +kernel
theorem d_law_121 : decode code 121 = .ok (.aload_n 0, 1) := by decide +kernel
theorem d_law_122 : decode code 122 = .ok (.iload_n 3, 1) := by decide +kernel
theorem d_law_123 : decode code 123 = .ok (.iconst 1, 1) := by decide +kernel
theorem d_law_124 : decode code 124 = .ok (.iadd, 1) := by decide +kernel
theorem d_law_125 : decode code 125 = .ok (.iaload, 1) := by decide +kernel
theorem d_law_126 : decode code 126 = .ok (.aload_n 0, 1) := by decide +kernel
theorem d_law_127 : decode code 127 = .ok (.iload_n 3, 1) := by decide +kernel
theorem d_law_128 : decode code 128 = .ok (.iconst 2, 1) := by decide +kernel
theorem d_law_129 : decode code 129 = .ok (.iadd, 1) := by decide +kernel
theorem d_law_130 : decode code 130 = .ok (.iaload, 1) := by decide +kernel
theorem d_law_131 : decode code 131 = .ok (.aload_n 0, 1) := by decide +kernel
theorem d_law_132 : decode code 132 = .ok (.iload_n 3, 1) := by decide +kernel
theorem d_law_133 : decode code 133 = .ok (.iconst 3, 1) := by decide +kernel
theorem d_law_134 : decode code 134 = .ok (.iadd, 1) := by decide +kernel
theorem d_law_135 : decode code 135 = .ok (.iaload, 1) := by decide +kernel
theorem d_law_136 : decode code 136 = .ok (.invokevirtual 13, 3) := by decide +kernel
theorem d_law_139 : decode code 139 = .ok (.aload_n 2, 1) := by decide +kernel
theorem d_law_140 : decode code 140 = .ok (.aload_n 0, 1) := by decide +kernel
theorem d_law_141 : decode code 141 = .ok (.iload_n 3, 1) := by decide +kernel
theorem d_law_142 : decode code 142 = .ok (.iconst 1, 1) := by decide +kernel
theorem d_law_143 : decode code 143 = .ok (.iadd, 1) := by decide +kernel
theorem d_law_144 : decode code 144 = .ok (.iaload, 1) := by decide +kernel
theorem d_law_145 : decode code 145 = .ok (.aload_n 0, 1) := by decide +kernel
theorem d_law_146 : decode code 146 = .ok (.iload_n 3, 1) := by decide +kernel
theorem d_law_147 : decode code 147 = .ok (.iconst 2, 1) := by decide +kernel
theorem d_law_148 : decode code 148 = .ok (.iadd, 1) := by decide +kernel
theorem d_law_149 : decode code 149 = .ok (.iaload, 1) := by decide +kernel
theorem d_law_150 : decode code 150 = .ok (.aload_n 0, 1) := by decide +kernel
theorem d_law_151 : decode code 151 = .ok (.iload_n 3, 1) := by decide +kernel
theorem d_law_152 : decode code 152 = .ok (.iconst 3, 1) := by decide +kernel
theorem d_law_153 : decode code 153 = .ok (.iadd, 1) := by decide +kernel
theorem d_law_154 : decode code 154 = .ok (.iaload, 1) := by decide +kernel
theorem d_law_155 : decode code 155 = .ok (.invokevirtual 17, 3) := by decide +kernel
theorem d_law_158 : decode code 158 = .ok (.if_icmp .eq 636, 3) := by decide +kernel
theorem d_law_161 : decode code 161 = .ok (.iconst 0, 1) := by decide +kernel
theorem d_law_162 : decode code 162 = .ok (.ireturn, 1) := by decide +kernel
theorem d_law_163 : decode code 163 = .ok (.aload_n 1, 1) := by decide +kernel
theorem d_law_164 : decode code 164 = .ok (.aload_n 0, 1) := by decide +kernel
theorem d_law_165 : decode code 165 = .ok (.iload_n 3, 1) := by decide +kernel
theorem d_law_166 : decode code 166 = .ok (.iconst 1, 1) := by decide +kernel
theorem d_law_167 : decode code 167 = .ok (.iadd, 1) := by decide +kernel
theorem d_law_168 : decode code 168 = .ok (.iaload, 1) := by decide +kernel
theorem d_law_169 : decode code 169 = .ok (.aload_n 0, 1) := by decide +kernel
theorem d_law_170 : decode code 170 = .ok (.iload_n 3, 1) := by decide +kernel
theorem d_law_171 : decode code 171 = .ok (.iconst 2, 1) := by decide +kernel
theorem d_law_172 : decode code 172 = .ok (.iadd, 1) := by decide +kernel
theorem d_law_173 : decode code 173 = .ok (.iaload, 1) := by decide +kernel
theorem d_law_174 : decode code 174 = .ok (.aload_n 0, 1) := by decide +kernel
theorem d_law_175 : decode code 175 = .ok (.iload_n 3, 1) := by decide +kernel
theorem d_law_176 : decode code 176 = .ok (.iconst 3, 1) := by decide +kernel
theorem d_law_177 : decode code 177 = .ok (.iadd, 1) := by decide +kernel
theorem d_law_178 : decode code 178 = .ok (.iaload, 1) := by decide +kernel
theorem d_law_179 : decode code 179 = .ok (.invokevirtual 18, 3) := by decide +kernel
theorem d_law_182 : decode code 182 = .ok (.aload_n 2, 1) := by decide +kernel
theorem d_law_183 : decode code 183 = .ok (.aload_n 0, 1) := by decide +kernel
theorem d_law_184 : decode code 184 = .ok (.iload_n 3, 1) := by decide +kernel
theorem d_law_185 : decode code 185 = .ok (.iconst 1, 1) := by decide +kernel
theorem d_law_186 : decode code 186 = .ok (.iadd, 1) := by decide +kernel
theorem d_law_187 : decode code 187 = .ok (.iaload, 1) := by decide +kernel
theorem d_law_188 : decode code 188 = .ok (.aload_n 0, 1) := by decide +kernel
theorem d_law_189 : decode code 189 = .ok (.iload_n 3, 1) := by decide +kernel
theorem d_law_190 : decode code 190 = .ok (.iconst 2, 1) := by decide +kernel
theorem d_law_191 : decode code 191 = .ok (.iadd, 1) := by decide +kernel
theorem d_law_192 : decode code 192 = .ok (.iaload, 1) := by decide +kernel
theorem d_law_193 : decode code 193 = .ok (.aload_n 0, 1) := by decide +kernel
theorem d_law_194 : decode code 194 = .ok (.iload_n 3, 1) := by decide +kernel
theorem d_law_195 : decode code 195 = .ok (.iconst 3, 1) := by decide +kernel
theorem d_law_196 : decode code 196 = .ok (.iadd, 1) := by decide +kernel
theorem d_law_197 : decode code 197 = .ok (.iaload, 1) := by decide +kernel
theorem d_law_198 : decode code 198 = .ok (.invokevirtual 22, 3) := by decide +kernel
theorem d_law_201 : decode code 201 = .ok (.if_icmp .eq 593, 3) := by decide +kernel
theorem d_law_204 : decode code 204 = .ok (.iconst 0, 1) := by decide +kernel
theorem d_law_205 : decode code 205 = .ok (.ireturn, 1) := by decide +kernel
theorem d_law_206 : decode code 206 = .ok (.aload_n 1, 1) := by decide +kernel
theorem d_law_207 : decode code 207 = .ok (.aload_n 0, 1) := by decide +kernel
theorem d_law_208 : decode code 208 = .ok (.iload_n 3, 1) := by decide +kernel
theorem d_law_209 : decode code 209 = .ok (.iconst 1, 1) := by decide +kernel
theorem d_law_210 : decode code 210 = .ok (.iadd, 1) := by decide +kernel
theorem d_law_211 : decode code 211 = .ok (.iaload, 1) := by decide +kernel
theorem d_law_212 : decode code 212 = .ok (.aload_n 0, 1) := by decide +kernel
theorem d_law_213 : decode code 213 = .ok (.iload_n 3, 1) := by decide +kernel
theorem d_law_214 : decode code 214 = .ok (.iconst 2, 1) := by decide +kernel
theorem d_law_215 : decode code 215 = .ok (.iadd, 1) := by decide +kernel
theorem d_law_216 : decode code 216 = .ok (.iaload, 1) := by decide +kernel
theorem d_law_217 : decode code 217 = .ok (.aload_n 0, 1) := by decide +kernel
theorem d_law_218 : decode code 218 = .ok (.iload_n 3, 1) := by decide +kernel
theorem d_law_219 : decode code 219 = .ok (.iconst 3, 1) := by decide +kernel
theorem d_law_220 : decode code 220 = .ok (.iadd, 1) := by decide +kernel
theorem d_law_221 : decode code 221 = .ok (.iaload, 1) := by decide +kernel
theorem d_law_222 : decode code 222 = .ok (.aload_n 0, 1) := by decide +kernel
theorem d_law_223 : decode code 223 = .ok (.iload_n 3, 1) := by decide +kernel
theorem d_law_224 : decode code 224 = .ok (.iconst 4, 1) := by decide +kernel
theorem d_law_225 : decode code 225 = .ok (.iadd, 1) := by decide +kernel
theorem d_law_226 : decode code 226 = .ok (.iaload, 1) := by decide +kernel
theorem d_law_227 : decode code 227 = .ok (.invokevirtual 23, 3) := by decide +kernel
theorem d_law_230 : decode code 230 = .ok (.aload_n 2, 1) := by decide +kernel
theorem d_law_231 : decode code 231 = .ok (.aload_n 0, 1) := by decide +kernel
theorem d_law_232 : decode code 232 = .ok (.iload_n 3, 1) := by decide +kernel
theorem d_law_233 : decode code 233 = .ok (.iconst 1, 1) := by decide +kernel
theorem d_law_234 : decode code 234 = .ok (.iadd, 1) := by decide +kernel
theorem d_law_235 : decode code 235 = .ok (.iaload, 1) := by decide +kernel
theorem d_law_236 : decode code 236 = .ok (.aload_n 0, 1) := by decide +kernel
theorem d_law_237 : decode code 237 = .ok (.iload_n 3, 1) := by decide +kernel
theorem d_law_238 : decode code 238 = .ok (.iconst 2, 1) := by decide +kernel
theorem d_law_239 : decode code 239 = .ok (.iadd, 1) := by decide +kernel
theorem d_law_240 : decode code 240 = .ok (.iaload, 1) := by decide +kernel
theorem d_law_241 : decode code 241 = .ok (.aload_n 0, 1) := by decide +kernel
theorem d_law_242 : decode code 242 = .ok (.iload_n 3, 1) := by decide +kernel
theorem d_law_243 : decode code 243 = .ok (.iconst 3, 1) := by decide +kernel
theorem d_law_244 : decode code 244 = .ok (.iadd, 1) := by decide +kernel
theorem d_law_245 : decode code 245 = .ok (.iaload, 1) := by decide +kernel
theorem d_law_246 : decode code 246 = .ok (.aload_n 0, 1) := by decide +kernel
theorem d_law_247 : decode code 247 = .ok (.iload_n 3, 1) := by decide +kernel
theorem d_law_248 : decode code 248 = .ok (.iconst 4, 1) := by decide +kernel
theorem d_law_249 : decode code 249 = .ok (.iadd, 1) := by decide +kernel
theorem d_law_250 : decode code 250 = .ok (.iaload, 1) := by decide +kernel
theorem d_law_251 : decode code 251 = .ok (.invokevirtual 27, 3) := by decide +kernel
theorem d_law_254 : decode code 254 = .ok (.if_icmp .eq 540, 3) := by decide +kernel
theorem d_law_257 : decode code 257 = .ok (.iconst 0, 1) := by decide +kernel
theorem d_law_258 : decode code 258 = .ok (.ireturn, 1) := by decide +kernel
theorem d_law_259 : decode code 259 = .ok (.aload_n 1, 1) := by decide +kernel
theorem d_law_260 : decode code 260 = .ok (.aload_n 0, 1) := by decide +kernel
theorem d_law_261 : decode code 261 = .ok (.iload_n 3, 1) := by decide +kernel
theorem d_law_262 : decode code 262 = .ok (.iconst 1, 1) := by decide +kernel
theorem d_law_263 : decode code 263 = .ok (.iadd, 1) := by decide +kernel
theorem d_law_264 : decode code 264 = .ok (.iaload, 1) := by decide +kernel
theorem d_law_265 : decode code 265 = .ok (.aload_n 0, 1) := by decide +kernel
theorem d_law_266 : decode code 266 = .ok (.iload_n 3, 1) := by decide +kernel
theorem d_law_267 : decode code 267 = .ok (.iconst 2, 1) := by decide +kernel
theorem d_law_268 : decode code 268 = .ok (.iadd, 1) := by decide +kernel
theorem d_law_269 : decode code 269 = .ok (.iaload, 1) := by decide +kernel
theorem d_law_270 : decode code 270 = .ok (.aload_n 0, 1) := by decide +kernel
theorem d_law_271 : decode code 271 = .ok (.iload_n 3, 1) := by decide +kernel
theorem d_law_272 : decode code 272 = .ok (.iconst 3, 1) := by decide +kernel
theorem d_law_273 : decode code 273 = .ok (.iadd, 1) := by decide +kernel
theorem d_law_274 : decode code 274 = .ok (.iaload, 1) := by decide +kernel
theorem d_law_275 : decode code 275 = .ok (.invokevirtual 28, 3) := by decide +kernel
theorem d_law_278 : decode code 278 = .ok (.aload_n 2, 1) := by decide +kernel
theorem d_law_279 : decode code 279 = .ok (.aload_n 0, 1) := by decide +kernel
theorem d_law_280 : decode code 280 = .ok (.iload_n 3, 1) := by decide +kernel
theorem d_law_281 : decode code 281 = .ok (.iconst 1, 1) := by decide +kernel
theorem d_law_282 : decode code 282 = .ok (.iadd, 1) := by decide +kernel
theorem d_law_283 : decode code 283 = .ok (.iaload, 1) := by decide +kernel
theorem d_law_284 : decode code 284 = .ok (.aload_n 0, 1) := by decide +kernel
theorem d_law_285 : decode code 285 = .ok (.iload_n 3, 1) := by decide +kernel
theorem d_law_286 : decode code 286 = .ok (.iconst 2, 1) := by decide +kernel
theorem d_law_287 : decode code 287 = .ok (.iadd, 1) := by decide +kernel
theorem d_law_288 : decode code 288 = .ok (.iaload, 1) := by decide +kernel
theorem d_law_289 : decode code 289 = .ok (.aload_n 0, 1) := by decide +kernel
theorem d_law_290 : decode code 290 = .ok (.iload_n 3, 1) := by decide +kernel
theorem d_law_291 : decode code 291 = .ok (.iconst 3, 1) := by decide +kernel
theorem d_law_292 : decode code 292 = .ok (.iadd, 1) := by decide +kernel
theorem d_law_293 : decode code 293 = .ok (.iaload, 1) := by decide +kernel
theorem d_law_294 : decode code 294 = .ok (.invokevirtual 31, 3) := by decide +kernel
theorem d_law_297 : decode code 297 = .ok (.if_icmp .eq 497, 3) := by decide +kernel
theorem d_law_300 : decode code 300 = .ok (.iconst 0, 1) := by decide +kernel
theorem d_law_301 : decode code 301 = .ok (.ireturn, 1) := by decide +kernel
theorem d_law_302 : decode code 302 = .ok (.aload_n 1, 1) := by decide +kernel
theorem d_law_303 : decode code 303 = .ok (.aload_n 0, 1) := by decide +kernel
theorem d_law_304 : decode code 304 = .ok (.iload_n 3, 1) := by decide +kernel
theorem d_law_305 : decode code 305 = .ok (.iconst 1, 1) := by decide +kernel
theorem d_law_306 : decode code 306 = .ok (.iadd, 1) := by decide +kernel
theorem d_law_307 : decode code 307 = .ok (.iaload, 1) := by decide +kernel
theorem d_law_308 : decode code 308 = .ok (.aload_n 0, 1) := by decide +kernel
theorem d_law_309 : decode code 309 = .ok (.iload_n 3, 1) := by decide +kernel
theorem d_law_310 : decode code 310 = .ok (.iconst 2, 1) := by decide +kernel
theorem d_law_311 : decode code 311 = .ok (.iadd, 1) := by decide +kernel
theorem d_law_312 : decode code 312 = .ok (.iaload, 1) := by decide +kernel
theorem d_law_313 : decode code 313 = .ok (.aload_n 0, 1) := by decide +kernel
theorem d_law_314 : decode code 314 = .ok (.iload_n 3, 1) := by decide +kernel
theorem d_law_315 : decode code 315 = .ok (.iconst 3, 1) := by decide +kernel
theorem d_law_316 : decode code 316 = .ok (.iadd, 1) := by decide +kernel
theorem d_law_317 : decode code 317 = .ok (.iaload, 1) := by decide +kernel
theorem d_law_318 : decode code 318 = .ok (.aload_n 0, 1) := by decide +kernel
theorem d_law_319 : decode code 319 = .ok (.iload_n 3, 1) := by decide +kernel
theorem d_law_320 : decode code 320 = .ok (.iconst 4, 1) := by decide +kernel
theorem d_law_321 : decode code 321 = .ok (.iadd, 1) := by decide +kernel
theorem d_law_322 : decode code 322 = .ok (.iaload, 1) := by decide +kernel
theorem d_law_323 : decode code 323 = .ok (.invokevirtual 32, 3) := by decide +kernel
theorem d_law_326 : decode code 326 = .ok (.aload_n 2, 1) := by decide +kernel
theorem d_law_327 : decode code 327 = .ok (.aload_n 0, 1) := by decide +kernel
theorem d_law_328 : decode code 328 = .ok (.iload_n 3, 1) := by decide +kernel
theorem d_law_329 : decode code 329 = .ok (.iconst 1, 1) := by decide +kernel
theorem d_law_330 : decode code 330 = .ok (.iadd, 1) := by decide +kernel
theorem d_law_331 : decode code 331 = .ok (.iaload, 1) := by decide +kernel
theorem d_law_332 : decode code 332 = .ok (.aload_n 0, 1) := by decide +kernel
theorem d_law_333 : decode code 333 = .ok (.iload_n 3, 1) := by decide +kernel
theorem d_law_334 : decode code 334 = .ok (.iconst 2, 1) := by decide +kernel
theorem d_law_335 : decode code 335 = .ok (.iadd, 1) := by decide +kernel
theorem d_law_336 : decode code 336 = .ok (.iaload, 1) := by decide +kernel
theorem d_law_337 : decode code 337 = .ok (.aload_n 0, 1) := by decide +kernel
theorem d_law_338 : decode code 338 = .ok (.iload_n 3, 1) := by decide +kernel
theorem d_law_339 : decode code 339 = .ok (.iconst 3, 1) := by decide +kernel
theorem d_law_340 : decode code 340 = .ok (.iadd, 1) := by decide +kernel
theorem d_law_341 : decode code 341 = .ok (.iaload, 1) := by decide +kernel
theorem d_law_342 : decode code 342 = .ok (.aload_n 0, 1) := by decide +kernel
theorem d_law_343 : decode code 343 = .ok (.iload_n 3, 1) := by decide +kernel
theorem d_law_344 : decode code 344 = .ok (.iconst 4, 1) := by decide +kernel
theorem d_law_345 : decode code 345 = .ok (.iadd, 1) := by decide +kernel
theorem d_law_346 : decode code 346 = .ok (.iaload, 1) := by decide +kernel
theorem d_law_347 : decode code 347 = .ok (.invokevirtual 35, 3) := by decide +kernel
theorem d_law_350 : decode code 350 = .ok (.if_icmp .eq 444, 3) := by decide +kernel
theorem d_law_353 : decode code 353 = .ok (.iconst 0, 1) := by decide +kernel
theorem d_law_354 : decode code 354 = .ok (.ireturn, 1) := by decide +kernel
theorem d_law_355 : decode code 355 = .ok (.aload_n 1, 1) := by decide +kernel
theorem d_law_356 : decode code 356 = .ok (.aload_n 0, 1) := by decide +kernel
theorem d_law_357 : decode code 357 = .ok (.iload_n 3, 1) := by decide +kernel
theorem d_law_358 : decode code 358 = .ok (.iconst 1, 1) := by decide +kernel
theorem d_law_359 : decode code 359 = .ok (.iadd, 1) := by decide +kernel
theorem d_law_360 : decode code 360 = .ok (.iaload, 1) := by decide +kernel
theorem d_law_361 : decode code 361 = .ok (.invokevirtual 36, 3) := by decide +kernel
theorem d_law_364 : decode code 364 = .ok (.aload_n 2, 1) := by decide +kernel
theorem d_law_365 : decode code 365 = .ok (.aload_n 0, 1) := by decide +kernel
theorem d_law_366 : decode code 366 = .ok (.iload_n 3, 1) := by decide +kernel
theorem d_law_367 : decode code 367 = .ok (.iconst 1, 1) := by decide +kernel
theorem d_law_368 : decode code 368 = .ok (.iadd, 1) := by decide +kernel
theorem d_law_369 : decode code 369 = .ok (.iaload, 1) := by decide +kernel
theorem d_law_370 : decode code 370 = .ok (.invokevirtual 40, 3) := by decide +kernel
theorem d_law_373 : decode code 373 = .ok (.if_icmp .eq 421, 3) := by decide +kernel
theorem d_law_376 : decode code 376 = .ok (.iconst 0, 1) := by decide +kernel
theorem d_law_377 : decode code 377 = .ok (.ireturn, 1) := by decide +kernel
theorem d_law_378 : decode code 378 = .ok (.aload_n 1, 1) := by decide +kernel
theorem d_law_379 : decode code 379 = .ok (.aload_n 0, 1) := by decide +kernel
theorem d_law_380 : decode code 380 = .ok (.iload_n 3, 1) := by decide +kernel
theorem d_law_381 : decode code 381 = .ok (.iconst 1, 1) := by decide +kernel
theorem d_law_382 : decode code 382 = .ok (.iadd, 1) := by decide +kernel
theorem d_law_383 : decode code 383 = .ok (.iaload, 1) := by decide +kernel
theorem d_law_384 : decode code 384 = .ok (.aload_n 0, 1) := by decide +kernel
theorem d_law_385 : decode code 385 = .ok (.iload_n 3, 1) := by decide +kernel
theorem d_law_386 : decode code 386 = .ok (.iconst 2, 1) := by decide +kernel
theorem d_law_387 : decode code 387 = .ok (.iadd, 1) := by decide +kernel
theorem d_law_388 : decode code 388 = .ok (.iaload, 1) := by decide +kernel
theorem d_law_389 : decode code 389 = .ok (.aload_n 0, 1) := by decide +kernel
theorem d_law_390 : decode code 390 = .ok (.iload_n 3, 1) := by decide +kernel
theorem d_law_391 : decode code 391 = .ok (.iconst 3, 1) := by decide +kernel
theorem d_law_392 : decode code 392 = .ok (.iadd, 1) := by decide +kernel
theorem d_law_393 : decode code 393 = .ok (.iaload, 1) := by decide +kernel
theorem d_law_394 : decode code 394 = .ok (.aload_n 0, 1) := by decide +kernel
theorem d_law_395 : decode code 395 = .ok (.iload_n 3, 1) := by decide +kernel
theorem d_law_396 : decode code 396 = .ok (.iconst 4, 1) := by decide +kernel
theorem d_law_397 : decode code 397 = .ok (.iadd, 1) := by decide +kernel
theorem d_law_398 : decode code 398 = .ok (.iaload, 1) := by decide +kernel
theorem d_law_399 : decode code 399 = .ok (.invokevirtual 41, 3) := by decide +kernel
theorem d_law_402 : decode code 402 = .ok (.aload_n 2, 1) := by decide +kernel
theorem d_law_403 : decode code 403 = .ok (.aload_n 0, 1) := by decide +kernel
theorem d_law_404 : decode code 404 = .ok (.iload_n 3, 1) := by decide +kernel
theorem d_law_405 : decode code 405 = .ok (.iconst 1, 1) := by decide +kernel
theorem d_law_406 : decode code 406 = .ok (.iadd, 1) := by decide +kernel
theorem d_law_407 : decode code 407 = .ok (.iaload, 1) := by decide +kernel
theorem d_law_408 : decode code 408 = .ok (.aload_n 0, 1) := by decide +kernel
theorem d_law_409 : decode code 409 = .ok (.iload_n 3, 1) := by decide +kernel
theorem d_law_410 : decode code 410 = .ok (.iconst 2, 1) := by decide +kernel
theorem d_law_411 : decode code 411 = .ok (.iadd, 1) := by decide +kernel
theorem d_law_412 : decode code 412 = .ok (.iaload, 1) := by decide +kernel
theorem d_law_413 : decode code 413 = .ok (.aload_n 0, 1) := by decide +kernel
theorem d_law_414 : decode code 414 = .ok (.iload_n 3, 1) := by decide +kernel
theorem d_law_415 : decode code 415 = .ok (.iconst 3, 1) := by decide +kernel
theorem d_law_416 : decode code 416 = .ok (.iadd, 1) := by decide +kernel
theorem d_law_417 : decode code 417 = .ok (.iaload, 1) := by decide +kernel
theorem d_law_418 : decode code 418 = .ok (.aload_n 0, 1) := by decide +kernel
theorem d_law_419 : decode code 419 = .ok (.iload_n 3, 1) := by decide +kernel
theorem d_law_420 : decode code 420 = .ok (.iconst 4, 1) := by decide +kernel
theorem d_law_421 : decode code 421 = .ok (.iadd, 1) := by decide +kernel
theorem d_law_422 : decode code 422 = .ok (.iaload, 1) := by decide +kernel
theorem d_law_423 : decode code 423 = .ok (.invokevirtual 44, 3) := by decide +kernel
theorem d_law_426 : decode code 426 = .ok (.if_icmp .eq 368, 3) := by decide +kernel
theorem d_law_429 : decode code 429 = .ok (.iconst 0, 1) := by decide +kernel
theorem d_law_430 : decode code 430 = .ok (.ireturn, 1) := by decide +kernel
theorem d_law_431 : decode code 431 = .ok (.aload_n 1, 1) := by decide +kernel
theorem d_law_432 : decode code 432 = .ok (.aload_n 0, 1) := by decide +kernel
theorem d_law_433 : decode code 433 = .ok (.iload_n 3, 1) := by decide +kernel
theorem d_law_434 : decode code 434 = .ok (.iconst 1, 1) := by decide +kernel
theorem d_law_435 : decode code 435 = .ok (.iadd, 1) := by decide +kernel
theorem d_law_436 : decode code 436 = .ok (.iaload, 1) := by decide +kernel
theorem d_law_437 : decode code 437 = .ok (.aload_n 0, 1) := by decide +kernel
theorem d_law_438 : decode code 438 = .ok (.iload_n 3, 1) := by decide +kernel
theorem d_law_439 : decode code 439 = .ok (.iconst 2, 1) := by decide +kernel
theorem d_law_440 : decode code 440 = .ok (.iadd, 1) := by decide +kernel
theorem d_law_441 : decode code 441 = .ok (.iaload, 1) := by decide +kernel
theorem d_law_442 : decode code 442 = .ok (.invokevirtual 45, 3) := by decide +kernel
theorem d_law_445 : decode code 445 = .ok (.aload_n 2, 1) := by decide +kernel
theorem d_law_446 : decode code 446 = .ok (.aload_n 0, 1) := by decide +kernel
theorem d_law_447 : decode code 447 = .ok (.iload_n 3, 1) := by decide +kernel
theorem d_law_448 : decode code 448 = .ok (.iconst 1, 1) := by decide +kernel
theorem d_law_449 : decode code 449 = .ok (.iadd, 1) := by decide +kernel
theorem d_law_450 : decode code 450 = .ok (.iaload, 1) := by decide +kernel
theorem d_law_451 : decode code 451 = .ok (.aload_n 0, 1) := by decide +kernel
theorem d_law_452 : decode code 452 = .ok (.iload_n 3, 1) := by decide +kernel
theorem d_law_453 : decode code 453 = .ok (.iconst 2, 1) := by decide +kernel
theorem d_law_454 : decode code 454 = .ok (.iadd, 1) := by decide +kernel
theorem d_law_455 : decode code 455 = .ok (.iaload, 1) := by decide +kernel
theorem d_law_456 : decode code 456 = .ok (.invokevirtual 49, 3) := by decide +kernel
theorem d_law_459 : decode code 459 = .ok (.if_icmp .eq 335, 3) := by decide +kernel
theorem d_law_462 : decode code 462 = .ok (.iconst 0, 1) := by decide +kernel
theorem d_law_463 : decode code 463 = .ok (.ireturn, 1) := by decide +kernel
theorem d_law_464 : decode code 464 = .ok (.aload_n 1, 1) := by decide +kernel
theorem d_law_465 : decode code 465 = .ok (.aload_n 0, 1) := by decide +kernel
theorem d_law_466 : decode code 466 = .ok (.iload_n 3, 1) := by decide +kernel
theorem d_law_467 : decode code 467 = .ok (.iconst 1, 1) := by decide +kernel
theorem d_law_468 : decode code 468 = .ok (.iadd, 1) := by decide +kernel
theorem d_law_469 : decode code 469 = .ok (.iaload, 1) := by decide +kernel
theorem d_law_470 : decode code 470 = .ok (.invokevirtual 50, 3) := by decide +kernel
theorem d_law_473 : decode code 473 = .ok (.aload_n 2, 1) := by decide +kernel
theorem d_law_474 : decode code 474 = .ok (.aload_n 0, 1) := by decide +kernel
theorem d_law_475 : decode code 475 = .ok (.iload_n 3, 1) := by decide +kernel
theorem d_law_476 : decode code 476 = .ok (.iconst 1, 1) := by decide +kernel
theorem d_law_477 : decode code 477 = .ok (.iadd, 1) := by decide +kernel
theorem d_law_478 : decode code 478 = .ok (.iaload, 1) := by decide +kernel
theorem d_law_479 : decode code 479 = .ok (.invokevirtual 54, 3) := by decide +kernel
theorem d_law_482 : decode code 482 = .ok (.if_icmp .eq 312, 3) := by decide +kernel
theorem d_law_485 : decode code 485 = .ok (.iconst 0, 1) := by decide +kernel
theorem d_law_486 : decode code 486 = .ok (.ireturn, 1) := by decide +kernel
theorem d_law_487 : decode code 487 = .ok (.aload_n 1, 1) := by decide +kernel
theorem d_law_488 : decode code 488 = .ok (.aload_n 0, 1) := by decide +kernel
theorem d_law_489 : decode code 489 = .ok (.iload_n 3, 1) := by decide +kernel
theorem d_law_490 : decode code 490 = .ok (.iconst 1, 1) := by decide +kernel
theorem d_law_491 : decode code 491 = .ok (.iadd, 1) := by decide +kernel
theorem d_law_492 : decode code 492 = .ok (.iaload, 1) := by decide +kernel
theorem d_law_493 : decode code 493 = .ok (.aload_n 0, 1) := by decide +kernel
theorem d_law_494 : decode code 494 = .ok (.iload_n 3, 1) := by decide +kernel
theorem d_law_495 : decode code 495 = .ok (.iconst 2, 1) := by decide +kernel
theorem d_law_496 : decode code 496 = .ok (.iadd, 1) := by decide +kernel
theorem d_law_497 : decode code 497 = .ok (.iaload, 1) := by decide +kernel
theorem d_law_498 : decode code 498 = .ok (.aload_n 0, 1) := by decide +kernel
theorem d_law_499 : decode code 499 = .ok (.iload_n 3, 1) := by decide +kernel
theorem d_law_500 : decode code 500 = .ok (.iconst 3, 1) := by decide +kernel
theorem d_law_501 : decode code 501 = .ok (.iadd, 1) := by decide +kernel
theorem d_law_502 : decode code 502 = .ok (.iaload, 1) := by decide +kernel
theorem d_law_503 : decode code 503 = .ok (.aload_n 0, 1) := by decide +kernel
theorem d_law_504 : decode code 504 = .ok (.iload_n 3, 1) := by decide +kernel
theorem d_law_505 : decode code 505 = .ok (.iconst 4, 1) := by decide +kernel
theorem d_law_506 : decode code 506 = .ok (.iadd, 1) := by decide +kernel
theorem d_law_507 : decode code 507 = .ok (.iaload, 1) := by decide +kernel
theorem d_law_508 : decode code 508 = .ok (.invokevirtual 55, 3) := by decide +kernel
theorem d_law_511 : decode code 511 = .ok (.aload_n 2, 1) := by decide +kernel
theorem d_law_512 : decode code 512 = .ok (.aload_n 0, 1) := by decide +kernel
theorem d_law_513 : decode code 513 = .ok (.iload_n 3, 1) := by decide +kernel
theorem d_law_514 : decode code 514 = .ok (.iconst 1, 1) := by decide +kernel
theorem d_law_515 : decode code 515 = .ok (.iadd, 1) := by decide +kernel
theorem d_law_516 : decode code 516 = .ok (.iaload, 1) := by decide +kernel
theorem d_law_517 : decode code 517 = .ok (.aload_n 0, 1) := by decide +kernel
theorem d_law_518 : decode code 518 = .ok (.iload_n 3, 1) := by decide +kernel
theorem d_law_519 : decode code 519 = .ok (.iconst 2, 1) := by decide +kernel
theorem d_law_520 : decode code 520 = .ok (.iadd, 1) := by decide +kernel
theorem d_law_521 : decode code 521 = .ok (.iaload, 1) := by decide +kernel
theorem d_law_522 : decode code 522 = .ok (.aload_n 0, 1) := by decide +kernel
theorem d_law_523 : decode code 523 = .ok (.iload_n 3, 1) := by decide +kernel
theorem d_law_524 : decode code 524 = .ok (.iconst 3, 1) := by decide +kernel
theorem d_law_525 : decode code 525 = .ok (.iadd, 1) := by decide +kernel
theorem d_law_526 : decode code 526 = .ok (.iaload, 1) := by decide +kernel
theorem d_law_527 : decode code 527 = .ok (.aload_n 0, 1) := by decide +kernel
theorem d_law_528 : decode code 528 = .ok (.iload_n 3, 1) := by decide +kernel
theorem d_law_529 : decode code 529 = .ok (.iconst 4, 1) := by decide +kernel
theorem d_law_530 : decode code 530 = .ok (.iadd, 1) := by decide +kernel
theorem d_law_531 : decode code 531 = .ok (.iaload, 1) := by decide +kernel
theorem d_law_532 : decode code 532 = .ok (.invokevirtual 58, 3) := by decide +kernel
theorem d_law_535 : decode code 535 = .ok (.if_icmp .eq 259, 3) := by decide +kernel
theorem d_law_538 : decode code 538 = .ok (.iconst 0, 1) := by decide +kernel
theorem d_law_539 : decode code 539 = .ok (.ireturn, 1) := by decide +kernel
theorem d_law_540 : decode code 540 = .ok (.aload_n 1, 1) := by decide +kernel
theorem d_law_541 : decode code 541 = .ok (.aload_n 0, 1) := by decide +kernel
theorem d_law_542 : decode code 542 = .ok (.iload_n 3, 1) := by decide +kernel
theorem d_law_543 : decode code 543 = .ok (.iconst 1, 1) := by decide +kernel
theorem d_law_544 : decode code 544 = .ok (.iadd, 1) := by decide +kernel
theorem d_law_545 : decode code 545 = .ok (.iaload, 1) := by decide +kernel
theorem d_law_546 : decode code 546 = .ok (.aload_n 0, 1) := by decide +kernel
theorem d_law_547 : decode code 547 = .ok (.iload_n 3, 1) := by decide +kernel
theorem d_law_548 : decode code 548 = .ok (.iconst 2, 1) := by decide +kernel
theorem d_law_549 : decode code 549 = .ok (.iadd, 1) := by decide +kernel
theorem d_law_550 : decode code 550 = .ok (.iaload, 1) := by decide +kernel
theorem d_law_551 : decode code 551 = .ok (.aload_n 0, 1) := by decide +kernel
theorem d_law_552 : decode code 552 = .ok (.iload_n 3, 1) := by decide +kernel
theorem d_law_553 : decode code 553 = .ok (.iconst 3, 1) := by decide +kernel
theorem d_law_554 : decode code 554 = .ok (.iadd, 1) := by decide +kernel
theorem d_law_555 : decode code 555 = .ok (.iaload, 1) := by decide +kernel
theorem d_law_556 : decode code 556 = .ok (.invokevirtual 59, 3) := by decide +kernel
theorem d_law_559 : decode code 559 = .ok (.aload_n 2, 1) := by decide +kernel
theorem d_law_560 : decode code 560 = .ok (.aload_n 0, 1) := by decide +kernel
theorem d_law_561 : decode code 561 = .ok (.iload_n 3, 1) := by decide +kernel
theorem d_law_562 : decode code 562 = .ok (.iconst 1, 1) := by decide +kernel
theorem d_law_563 : decode code 563 = .ok (.iadd, 1) := by decide +kernel
theorem d_law_564 : decode code 564 = .ok (.iaload, 1) := by decide +kernel
theorem d_law_565 : decode code 565 = .ok (.aload_n 0, 1) := by decide +kernel
theorem d_law_566 : decode code 566 = .ok (.iload_n 3, 1) := by decide +kernel
theorem d_law_567 : decode code 567 = .ok (.iconst 2, 1) := by decide +kernel
theorem d_law_568 : decode code 568 = .ok (.iadd, 1) := by decide +kernel
theorem d_law_569 : decode code 569 = .ok (.iaload, 1) := by decide +kernel
theorem d_law_570 : decode code 570 = .ok (.aload_n 0, 1) := by decide +kernel
theorem d_law_571 : decode code 571 = .ok (.iload_n 3, 1) := by decide +kernel
theorem d_law_572 : decode code 572 = .ok (.iconst 3, 1) := by decide +kernel
theorem d_law_573 : decode code 573 = .ok (.iadd, 1) := by decide +kernel
theorem d_law_574 : decode code 574 = .ok (.iaload, 1) := by decide +kernel
theorem d_law_575 : decode code 575 = .ok (.invokevirtual 62, 3) := by decide +kernel
theorem d_law_578 : decode code 578 = .ok (.if_icmp .eq 216, 3) := by decide +kernel
theorem d_law_581 : decode code 581 = .ok (.iconst 0, 1) := by decide +kernel
theorem d_law_582 : decode code 582 = .ok (.ireturn, 1) := by decide +kernel
theorem d_law_583 : decode code 583 = .ok (.aload_n 1, 1) := by decide +kernel
theorem d_law_584 : decode code 584 = .ok (.aload_n 0, 1) := by decide +kernel
theorem d_law_585 : decode code 585 = .ok (.iload_n 3, 1) := by decide +kernel
theorem d_law_586 : decode code 586 = .ok (.iconst 1, 1) := by decide +kernel
theorem d_law_587 : decode code 587 = .ok (.iadd, 1) := by decide +kernel
theorem d_law_588 : decode code 588 = .ok (.iaload, 1) := by decide +kernel
theorem d_law_589 : decode code 589 = .ok (.aload_n 0, 1) := by decide +kernel
theorem d_law_590 : decode code 590 = .ok (.iload_n 3, 1) := by decide +kernel
theorem d_law_591 : decode code 591 = .ok (.iconst 2, 1) := by decide +kernel
theorem d_law_592 : decode code 592 = .ok (.iadd, 1) := by decide +kernel
theorem d_law_593 : decode code 593 = .ok (.iaload, 1) := by decide +kernel
theorem d_law_594 : decode code 594 = .ok (.aload_n 0, 1) := by decide +kernel
theorem d_law_595 : decode code 595 = .ok (.iload_n 3, 1) := by decide +kernel
theorem d_law_596 : decode code 596 = .ok (.iconst 3, 1) := by decide +kernel
theorem d_law_597 : decode code 597 = .ok (.iadd, 1) := by decide +kernel
theorem d_law_598 : decode code 598 = .ok (.iaload, 1) := by decide +kernel
theorem d_law_599 : decode code 599 = .ok (.aload_n 0, 1) := by decide +kernel
theorem d_law_600 : decode code 600 = .ok (.iload_n 3, 1) := by decide +kernel
theorem d_law_601 : decode code 601 = .ok (.iconst 4, 1) := by decide +kernel
theorem d_law_602 : decode code 602 = .ok (.iadd, 1) := by decide +kernel
theorem d_law_603 : decode code 603 = .ok (.iaload, 1) := by decide +kernel
theorem d_law_604 : decode code 604 = .ok (.invokevirtual 63, 3) := by decide +kernel
theorem d_law_607 : decode code 607 = .ok (.aload_n 2, 1) := by decide +kernel
theorem d_law_608 : decode code 608 = .ok (.aload_n 0, 1) := by decide +kernel
theorem d_law_609 : decode code 609 = .ok (.iload_n 3, 1) := by decide +kernel
theorem d_law_610 : decode code 610 = .ok (.iconst 1, 1) := by decide +kernel
theorem d_law_611 : decode code 611 = .ok (.iadd, 1) := by decide +kernel
theorem d_law_612 : decode code 612 = .ok (.iaload, 1) := by decide +kernel
theorem d_law_613 : decode code 613 = .ok (.aload_n 0, 1) := by decide +kernel
theorem d_law_614 : decode code 614 = .ok (.iload_n 3, 1) := by decide +kernel
theorem d_law_615 : decode code 615 = .ok (.iconst 2, 1) := by decide +kernel
theorem d_law_616 : decode code 616 = .ok (.iadd, 1) := by decide +kernel
theorem d_law_617 : decode code 617 = .ok (.iaload, 1) := by decide +kernel
theorem d_law_618 : decode code 618 = .ok (.aload_n 0, 1) := by decide +kernel
theorem d_law_619 : decode code 619 = .ok (.iload_n 3, 1) := by decide +kernel
theorem d_law_620 : decode code 620 = .ok (.iconst 3, 1) := by decide +kernel
theorem d_law_621 : decode code 621 = .ok (.iadd, 1) := by decide +kernel
theorem d_law_622 : decode code 622 = .ok (.iaload, 1) := by decide +kernel
theorem d_law_623 : decode code 623 = .ok (.aload_n 0, 1) := by decide +kernel
theorem d_law_624 : decode code 624 = .ok (.iload_n 3, 1) := by decide +kernel
theorem d_law_625 : decode code 625 = .ok (.iconst 4, 1) := by decide +kernel
theorem d_law_626 : decode code 626 = .ok (.iadd, 1) := by decide +kernel
theorem d_law_627 : decode code 627 = .ok (.iaload, 1) := by decide +kernel
theorem d_law_628 : decode code 628 = .ok (.invokevirtual 66, 3) := by decide +kernel
theorem d_law_631 : decode code 631 = .ok (.if_icmp .eq 163, 3) := by decide +kernel
theorem d_law_634 : decode code 634 = .ok (.iconst 0, 1) := by decide +kernel
theorem d_law_635 : decode code 635 = .ok (.ireturn, 1) := by decide +kernel
theorem d_law_636 : decode code 636 = .ok (.aload_n 1, 1) := by decide +kernel
theorem d_law_637 : decode code 637 = .ok (.aload_n 0, 1) := by decide +kernel
theorem d_law_638 : decode code 638 = .ok (.iload_n 3, 1) := by decide +kernel
theorem d_law_639 : decode code 639 = .ok (.iconst 1, 1) := by decide +kernel
theorem d_law_640 : decode code 640 = .ok (.iadd, 1) := by decide +kernel
theorem d_law_641 : decode code 641 = .ok (.iaload, 1) := by decide +kernel
theorem d_law_642 : decode code 642 = .ok (.invokevirtual 67, 3) := by decide +kernel
theorem d_law_645 : decode code 645 = .ok (.aload_n 2, 1) := by decide +kernel
theorem d_law_646 : decode code 646 = .ok (.aload_n 0, 1) := by decide +kernel
theorem d_law_647 : decode code 647 = .ok (.iload_n 3, 1) := by decide +kernel
theorem d_law_648 : decode code 648 = .ok (.iconst 1, 1) := by decide +kernel
theorem d_law_649 : decode code 649 = .ok (.iadd, 1) := by decide +kernel
theorem d_law_650 : decode code 650 = .ok (.iaload, 1) := by decide +kernel
theorem d_law_651 : decode code 651 = .ok (.invokevirtual 70, 3) := by decide +kernel
theorem d_law_654 : decode code 654 = .ok (.if_icmp .eq 140, 3) := by decide +kernel
theorem d_law_657 : decode code 657 = .ok (.iconst 0, 1) := by decide +kernel
theorem d_law_658 : decode code 658 = .ok (.ireturn, 1) := by decide +kernel
theorem d_law_659 : decode code 659 = .ok (.aload_n 1, 1) := by decide +kernel
theorem d_law_660 : decode code 660 = .ok (.aload_n 0, 1) := by decide +kernel
theorem d_law_661 : decode code 661 = .ok (.iload_n 3, 1) := by decide +kernel
theorem d_law_662 : decode code 662 = .ok (.iconst 1, 1) := by decide +kernel
theorem d_law_663 : decode code 663 = .ok (.iadd, 1) := by decide +kernel
theorem d_law_664 : decode code 664 = .ok (.iaload, 1) := by decide +kernel
theorem d_law_665 : decode code 665 = .ok (.aload_n 0, 1) := by decide +kernel
theorem d_law_666 : decode code 666 = .ok (.iload_n 3, 1) := by decide +kernel
theorem d_law_667 : decode code 667 = .ok (.iconst 2, 1) := by decide +kernel
theorem d_law_668 : decode code 668 = .ok (.iadd, 1) := by decide +kernel
theorem d_law_669 : decode code 669 = .ok (.iaload, 1) := by decide +kernel
theorem d_law_670 : decode code 670 = .ok (.invokevirtual 71, 3) := by decide +kernel
theorem d_law_673 : decode code 673 = .ok (.aload_n 2, 1) := by decide +kernel
theorem d_law_674 : decode code 674 = .ok (.aload_n 0, 1) := by decide +kernel
theorem d_law_675 : decode code 675 = .ok (.iload_n 3, 1) := by decide +kernel
theorem d_law_676 : decode code 676 = .ok (.iconst 1, 1) := by decide +kernel
theorem d_law_677 : decode code 677 = .ok (.iadd, 1) := by decide +kernel
theorem d_law_678 : decode code 678 = .ok (.iaload, 1) := by decide +kernel
theorem d_law_679 : decode code 679 = .ok (.aload_n 0, 1) := by decide +kernel
theorem d_law_680 : decode code 680 = .ok (.iload_n 3, 1) := by decide +kernel
theorem d_law_681 : decode code 681 = .ok (.iconst 2, 1) := by decide +kernel
theorem d_law_682 : decode code 682 = .ok (.iadd, 1) := by decide +kernel
theorem d_law_683 : decode code 683 = .ok (.iaload, 1) := by decide +kernel
theorem d_law_684 : decode code 684 = .ok (.invokevirtual 74, 3) := by decide +kernel
theorem d_law_687 : decode code 687 = .ok (.if_icmp .eq 107, 3) := by decide +kernel
theorem d_law_690 : decode code 690 = .ok (.iconst 0, 1) := by decide +kernel
theorem d_law_691 : decode code 691 = .ok (.ireturn, 1) := by decide +kernel
theorem d_law_692 : decode code 692 = .ok (.aload_n 1, 1) := by decide +kernel
theorem d_law_693 : decode code 693 = .ok (.aload_n 0, 1) := by decide +kernel
theorem d_law_694 : decode code 694 = .ok (.iload_n 3, 1) := by decide +kernel
theorem d_law_695 : decode code 695 = .ok (.iconst 1, 1) := by decide +kernel
theorem d_law_696 : decode code 696 = .ok (.iadd, 1) := by decide +kernel
theorem d_law_697 : decode code 697 = .ok (.iaload, 1) := by decide +kernel
theorem d_law_698 : decode code 698 = .ok (.aload_n 0, 1) := by decide +kernel
theorem d_law_699 : decode code 699 = .ok (.iload_n 3, 1) := by decide +kernel
theorem d_law_700 : decode code 700 = .ok (.iconst 2, 1) := by decide +kernel
theorem d_law_701 : decode code 701 = .ok (.iadd, 1) := by decide +kernel
theorem d_law_702 : decode code 702 = .ok (.iaload, 1) := by decide +kernel
theorem d_law_703 : decode code 703 = .ok (.aload_n 0, 1) := by decide +kernel
theorem d_law_704 : decode code 704 = .ok (.iload_n 3, 1) := by decide +kernel
theorem d_law_705 : decode code 705 = .ok (.iconst 3, 1) := by decide +kernel
theorem d_law_706 : decode code 706 = .ok (.iadd, 1) := by decide +kernel
theorem d_law_707 : decode code 707 = .ok (.iaload, 1) := by decide +kernel
theorem d_law_708 : decode code 708 = .ok (.invokevirtual 75, 3) := by decide +kernel
theorem d_law_711 : decode code 711 = .ok (.aload_n 2, 1) := by decide +kernel
theorem d_law_712 : decode code 712 = .ok (.aload_n 0, 1) := by decide +kernel
theorem d_law_713 : decode code 713 = .ok (.iload_n 3, 1) := by decide +kernel
theorem d_law_714 : decode code 714 = .ok (.iconst 1, 1) := by decide +kernel
theorem d_law_715 : decode code 715 = .ok (.iadd, 1) := by decide +kernel
theorem d_law_716 : decode code 716 = .ok (.iaload, 1) := by decide +kernel
theorem d_law_717 : decode code 717 = .ok (.aload_n 0, 1) := by decide +kernel
theorem d_law_718 : decode code 718 = .ok (.iload_n 3, 1) := by decide +kernel
theorem d_law_719 : decode code 719 = .ok (.iconst 2, 1) := by decide +kernel
theorem d_law_720 : decode code 720 = .ok (.iadd, 1) := by decide +kernel
theorem d_law_721 : decode code 721 = .ok (.iaload, 1) := by decide +kernel
theorem d_law_722 : decode code 722 = .ok (.aload_n 0, 1) := by decide +kernel
theorem d_law_723 : decode code 723 = .ok (.iload_n 3, 1) := by decide +kernel
theorem d_law_724 : decode code 724 = .ok (.iconst 3, 1) := by decide +kernel
theorem d_law_725 : decode code 725 = .ok (.iadd, 1) := by decide +kernel
theorem d_law_726 : decode code 726 = .ok (.iaload, 1) := by decide +kernel
theorem d_law_727 : decode code 727 = .ok (.invokevirtual 78, 3) := by decide +kernel
theorem d_law_730 : decode code 730 = .ok (.if_icmp .eq 64, 3) := by decide +kernel
theorem d_law_733 : decode code 733 = .ok (.iconst 0, 1) := by decide +kernel
theorem d_law_734 : decode code 734 = .ok (.ireturn, 1) := by decide +kernel
theorem d_law_735 : decode code 735 = .ok (.aload_n 1, 1) := by decide +kernel
theorem d_law_736 : decode code 736 = .ok (.aload_n 0, 1) := by decide +kernel
theorem d_law_737 : decode code 737 = .ok (.iload_n 3, 1) := by decide +kernel
theorem d_law_738 : decode code 738 = .ok (.iconst 1, 1) := by decide +kernel
theorem d_law_739 : decode code 739 = .ok (.iadd, 1) := by decide +kernel
theorem d_law_740 : decode code 740 = .ok (.iaload, 1) := by decide +kernel
theorem d_law_741 : decode code 741 = .ok (.aload_n 0, 1) := by decide +kernel
theorem d_law_742 : decode code 742 = .ok (.iload_n 3, 1) := by decide +kernel
theorem d_law_743 : decode code 743 = .ok (.iconst 2, 1) := by decide +kernel
theorem d_law_744 : decode code 744 = .ok (.iadd, 1) := by decide +kernel
theorem d_law_745 : decode code 745 = .ok (.iaload, 1) := by decide +kernel
theorem d_law_746 : decode code 746 = .ok (.invokevirtual 79, 3) := by decide +kernel
theorem d_law_749 : decode code 749 = .ok (.aload_n 2, 1) := by decide +kernel
theorem d_law_750 : decode code 750 = .ok (.aload_n 0, 1) := by decide +kernel
theorem d_law_751 : decode code 751 = .ok (.iload_n 3, 1) := by decide +kernel
theorem d_law_752 : decode code 752 = .ok (.iconst 1, 1) := by decide +kernel
theorem d_law_753 : decode code 753 = .ok (.iadd, 1) := by decide +kernel
theorem d_law_754 : decode code 754 = .ok (.iaload, 1) := by decide +kernel
theorem d_law_755 : decode code 755 = .ok (.aload_n 0, 1) := by decide +kernel
theorem d_law_756 : decode code 756 = .ok (.iload_n 3, 1) := by decide +kernel
theorem d_law_757 : decode code 757 = .ok (.iconst 2, 1) := by decide +kernel
theorem d_law_758 : decode code 758 = .ok (.iadd, 1) := by decide +kernel
theorem d_law_759 : decode code 759 = .ok (.iaload, 1) := by decide +kernel
theorem d_law_760 : decode code 760 = .ok (.invokevirtual 82, 3) := by decide +kernel
theorem d_law_763 : decode code 763 = .ok (.if_icmp .eq 31, 3) := by decide +kernel
theorem d_law_766 : decode code 766 = .ok (.iconst 0, 1) := by decide +kernel
theorem d_law_767 : decode code 767 = .ok (.ireturn, 1) := by decide +kernel
theorem d_law_768 : decode code 768 = .ok (.aload_n 1, 1) := by decide +kernel
theorem d_law_769 : decode code 769 = .ok (.invokevirtual 83, 3) := by decide +kernel
theorem d_law_772 : decode code 772 = .ok (.aload_n 2, 1) := by decide +kernel
theorem d_law_773 : decode code 773 = .ok (.invokevirtual 87, 3) := by decide +kernel
theorem d_law_776 : decode code 776 = .ok (.if_icmp .eq 18, 3) := by decide +kernel
theorem d_law_779 : decode code 779 = .ok (.iconst 0, 1) := by decide +kernel
theorem d_law_780 : decode code 780 = .ok (.ireturn, 1) := by decide +kernel
theorem d_law_781 : decode code 781 = .ok (.aload_n 1, 1) := by decide +kernel
theorem d_law_782 : decode code 782 = .ok (.invokevirtual 88, 3) := by decide +kernel
theorem d_law_785 : decode code 785 = .ok (.aload_n 2, 1) := by decide +kernel
theorem d_law_786 : decode code 786 = .ok (.invokevirtual 91, 3) := by decide +kernel
theorem d_law_789 : decode code 789 = .ok (.if_icmp .eq 5, 3) := by decide +kernel
theorem d_law_792 : decode code 792 = .ok (.iconst 0, 1) := by decide +kernel
theorem d_law_793 : decode code 793 = .ok (.ireturn, 1) := by decide +kernel
theorem d_law_794 : decode code 794 = .ok (.iinc 3 5, 3) := by decide +kernel
theorem d_law_797 : decode code 797 = .ok (.goto (-779), 3) := by decide +kernel
theorem d_law_800 : decode code 800 = .ok (.iconst 1, 1) := by decide +kernel
theorem d_law_801 : decode code 801 = .ok (.ireturn, 1) := by decide +kernel
