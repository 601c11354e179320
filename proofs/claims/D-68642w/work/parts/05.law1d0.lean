set_option maxRecDepth 100000
theorem dL_law_0 : decode cL_law 0 = .ok (.new 7, 3) := by decide +kernel
theorem dL_law_3 : decode cL_law 3 = .ok (.dup, 1) := by decide +kernel
theorem dL_law_4 : decode cL_law 4 = .ok (.invokespecial 9, 3) := by decide +kernel
theorem dL_law_7 : decode cL_law 7 = .ok (.astore_n 1, 1) := by decide +kernel
theorem dL_law_8 : decode cL_law 8 = .ok (.new 10, 3) := by decide +kernel
theorem dL_law_11 : decode cL_law 11 = .ok (.dup, 1) := by decide +kernel
theorem dL_law_12 : decode cL_law 12 = .ok (.invokespecial 12, 3) := by decide +kernel
theorem dL_law_15 : decode cL_law 15 = .ok (.astore_n 2, 1) := by decide +kernel
theorem dL_law_16 : decode cL_law 16 = .ok (.iconst 0, 1) := by decide +kernel
theorem dL_law_17 : decode cL_law 17 = .ok (.istore_n 3, 1) := by decide +kernel
theorem dL_law_18 : decode cL_law 18 = .ok (.iload_n 3, 1) := by decide +kernel
theorem dL_law_19 : decode cL_law 19 = .ok (.aload_n 0, 1) := by decide +kernel
theorem dL_law_20 : decode cL_law 20 = .ok (.arraylength, 1) := by decide +kernel
theorem dL_law_21 : decode cL_law 21 = .ok (.bipush 7, 2) := by decide +kernel
theorem dL_law_23 : decode cL_law 23 = .ok (.isub, 1) := by decide +kernel
theorem dL_law_24 : decode cL_law 24 = .ok (.if_icmp .gt 734, 3) := by decide +kernel
theorem dL_law_27 : decode cL_law 27 = .ok (.aload_n 0, 1) := by decide +kernel
theorem dL_law_28 : decode cL_law 28 = .ok (.iload_n 3, 1) := by decide +kernel
theorem dL_law_29 : decode cL_law 29 = .ok (.iaload, 1) := by decide +kernel
theorem dL_law_30 : decode cL_law 30 = .ok (.bipush 15, 2) := by decide +kernel
theorem dL_law_32 : decode cL_law 32 = .ok (.iand, 1) := by decide +kernel
theorem dL_law_33 : decode cL_law 33 = .ok (.tableswitch 719 0 13 #[71, 146, 207, 248, 291, 342, 393, 416, 430, 454, 517, 580, 603, 656], 71) := by decide +kernel
theorem dL_law_104 : decode cL_law 104 = .ok (.aload_n 1, 1) := by decide +kernel
theorem dL_law_105 : decode cL_law 105 = .ok (.aload_n 0, 1) := by decide +kernel
theorem dL_law_106 : decode cL_law 106 = .ok (.iload_n 3, 1) := by decide +kernel
theorem dL_law_107 : decode cL_law 107 = .ok (.iconst 1, 1) := by decide +kernel
theorem dL_law_108 : decode cL_law 108 = .ok (.iadd, 1) := by decide +kernel
theorem dL_law_109 : decode cL_law 109 = .ok (.iaload, 1) := by decide +kernel
theorem dL_law_110 : decode cL_law 110 = .ok (.aload_n 0, 1) := by decide +kernel
theorem dL_law_111 : decode cL_law 111 = .ok (.iload_n 3, 1) := by decide +kernel
theorem dL_law_112 : decode cL_law 112 = .ok (.iconst 2, 1) := by decide +kernel
theorem dL_law_113 : decode cL_law 113 = .ok (.iadd, 1) := by decide +kernel
theorem dL_law_114 : decode cL_law 114 = .ok (.iaload, 1) := by decide +kernel
theorem dL_law_115 : decode cL_law 115 = .ok (.aload_n 0, 1) := by decide +kernel
theorem dL_law_116 : decode cL_law 116 = .ok (.iload_n 3, 1) := by decide +kernel
theorem dL_law_117 : decode cL_law 117 = .ok (.iconst 3, 1) := by decide +kernel
theorem dL_law_118 : decode cL_law 118 = .ok (.iadd, 1) := by decide +kernel
theorem dL_law_119 : decode cL_law 119 = .ok (.iaload, 1) := by decide +kernel
theorem dL_law_120 : decode cL_law 120 = .ok (.aload_n 0, 1) := by decide +kernel
theorem dL_law_121 : decode cL_law 121 = .ok (.iload_n 3, 1) := by decide +kernel
theorem dL_law_122 : decode cL_law 122 = .ok (.iconst 4, 1) := by decide +kernel
theorem dL_law_123 : decode cL_law 123 = .ok (.iadd, 1) := by decide +kernel
theorem dL_law_124 : decode cL_law 124 = .ok (.iaload, 1) := by decide +kernel
theorem dL_law_125 : decode cL_law 125 = .ok (.aload_n 0, 1) := by decide +kernel
theorem dL_law_126 : decode cL_law 126 = .ok (.iload_n 3, 1) := by decide +kernel
theorem dL_law_127 : decode cL_law 127 = .ok (.iconst 5, 1) := by decide +kernel
theorem dL_law_128 : decode cL_law 128 = .ok (.iadd, 1) := by decide +kernel
theorem dL_law_129 : decode cL_law 129 = .ok (.iaload, 1) := by decide +kernel
theorem dL_law_130 : decode cL_law 130 = .ok (.aload_n 0, 1) := by decide +kernel
theorem dL_law_131 : decode cL_law 131 = .ok (.iload_n 3, 1) := by decide +kernel
theorem dL_law_132 : decode cL_law 132 = .ok (.bipush 6, 2) := by decide +kernel
theorem dL_law_134 : decode cL_law 134 = .ok (.iadd, 1) := by decide +kernel
theorem dL_law_135 : decode cL_law 135 = .ok (.iaload, 1) := by decide +kernel
theorem dL_law_136 : decode cL_law 136 = .ok (.invokevirtual 13, 3) := by decide +kernel
theorem dL_law_139 : decode cL_law 139 = .ok (.aload_n 2, 1) := by decide +kernel
theorem dL_law_140 : decode cL_law 140 = .ok (.aload_n 0, 1) := by decide +kernel
theorem dL_law_141 : decode cL_law 141 = .ok (.iload_n 3, 1) := by decide +kernel
theorem dL_law_142 : decode cL_law 142 = .ok (.iconst 1, 1) := by decide +kernel
theorem dL_law_143 : decode cL_law 143 = .ok (.iadd, 1) := by decide +kernel
theorem dL_law_144 : decode cL_law 144 = .ok (.iaload, 1) := by decide +kernel
theorem dL_law_145 : decode cL_law 145 = .ok (.aload_n 0, 1) := by decide +kernel
theorem dL_law_146 : decode cL_law 146 = .ok (.iload_n 3, 1) := by decide +kernel
theorem dL_law_147 : decode cL_law 147 = .ok (.iconst 2, 1) := by decide +kernel
theorem dL_law_148 : decode cL_law 148 = .ok (.iadd, 1) := by decide +kernel
theorem dL_law_149 : decode cL_law 149 = .ok (.iaload, 1) := by decide +kernel
theorem dL_law_150 : decode cL_law 150 = .ok (.aload_n 0, 1) := by decide +kernel
theorem dL_law_151 : decode cL_law 151 = .ok (.iload_n 3, 1) := by decide +kernel
theorem dL_law_152 : decode cL_law 152 = .ok (.iconst 3, 1) := by decide +kernel
theorem dL_law_153 : decode cL_law 153 = .ok (.iadd, 1) := by decide +kernel
theorem dL_law_154 : decode cL_law 154 = .ok (.iaload, 1) := by decide +kernel
theorem dL_law_155 : decode cL_law 155 = .ok (.aload_n 0, 1) := by decide +kernel
theorem dL_law_156 : decode cL_law 156 = .ok (.iload_n 3, 1) := by decide +kernel
theorem dL_law_157 : decode cL_law 157 = .ok (.iconst 4, 1) := by decide +kernel
theorem dL_law_158 : decode cL_law 158 = .ok (.iadd, 1) := by decide +kernel
theorem dL_law_159 : decode cL_law 159 = .ok (.iaload, 1) := by decide +kernel
theorem dL_law_160 : decode cL_law 160 = .ok (.aload_n 0, 1) := by decide +kernel
theorem dL_law_161 : decode cL_law 161 = .ok (.iload_n 3, 1) := by decide +kernel
theorem dL_law_162 : decode cL_law 162 = .ok (.iconst 5, 1) := by decide +kernel
theorem dL_law_163 : decode cL_law 163 = .ok (.iadd, 1) := by decide +kernel
theorem dL_law_164 : decode cL_law 164 = .ok (.iaload, 1) := by decide +kernel
theorem dL_law_165 : decode cL_law 165 = .ok (.aload_n 0, 1) := by decide +kernel
theorem dL_law_166 : decode cL_law 166 = .ok (.iload_n 3, 1) := by decide +kernel
theorem dL_law_167 : decode cL_law 167 = .ok (.bipush 6, 2) := by decide +kernel
theorem dL_law_169 : decode cL_law 169 = .ok (.iadd, 1) := by decide +kernel
theorem dL_law_170 : decode cL_law 170 = .ok (.iaload, 1) := by decide +kernel
theorem dL_law_171 : decode cL_law 171 = .ok (.invokevirtual 17, 3) := by decide +kernel
theorem dL_law_174 : decode cL_law 174 = .ok (.if_icmp .eq 578, 3) := by decide +kernel
theorem dL_law_177 : decode cL_law 177 = .ok (.iconst 0, 1) := by decide +kernel
theorem dL_law_178 : decode cL_law 178 = .ok (.ireturn, 1) := by decide +kernel
theorem dL_law_179 : decode cL_law 179 = .ok (.aload_n 1, 1) := by decide +kernel
theorem dL_law_180 : decode cL_law 180 = .ok (.aload_n 0, 1) := by decide +kernel
theorem dL_law_181 : decode cL_law 181 = .ok (.iload_n 3, 1) := by decide +kernel
theorem dL_law_182 : decode cL_law 182 = .ok (.iconst 1, 1) := by decide +kernel
theorem dL_law_183 : decode cL_law 183 = .ok (.iadd, 1) := by decide +kernel
theorem dL_law_184 : decode cL_law 184 = .ok (.iaload, 1) := by decide +kernel
theorem dL_law_185 : decode cL_law 185 = .ok (.aload_n 0, 1) := by decide +kernel
theorem dL_law_186 : decode cL_law 186 = .ok (.iload_n 3, 1) := by decide +kernel
theorem dL_law_187 : decode cL_law 187 = .ok (.iconst 2, 1) := by decide +kernel
theorem dL_law_188 : decode cL_law 188 = .ok (.iadd, 1) := by decide +kernel
theorem dL_law_189 : decode cL_law 189 = .ok (.iaload, 1) := by decide +kernel
theorem dL_law_190 : decode cL_law 190 = .ok (.i2l, 1) := by decide +kernel
theorem dL_law_191 : decode cL_law 191 = .ok (.bipush 32, 2) := by decide +kernel
theorem dL_law_193 : decode cL_law 193 = .ok (.lshl, 1) := by decide +kernel
theorem dL_law_194 : decode cL_law 194 = .ok (.aload_n 0, 1) := by decide +kernel
theorem dL_law_195 : decode cL_law 195 = .ok (.iload_n 3, 1) := by decide +kernel
theorem dL_law_196 : decode cL_law 196 = .ok (.iconst 3, 1) := by decide +kernel
theorem dL_law_197 : decode cL_law 197 = .ok (.iadd, 1) := by decide +kernel
theorem dL_law_198 : decode cL_law 198 = .ok (.iaload, 1) := by decide +kernel
theorem dL_law_199 : decode cL_law 199 = .ok (.i2l, 1) := by decide +kernel
theorem dL_law_200 : decode cL_law 200 = .ok (.ldc2_w 18, 3) := by decide +kernel
theorem dL_law_203 : decode cL_law 203 = .ok (.land, 1) := by decide +kernel
theorem dL_law_204 : decode cL_law 204 = .ok (.lor, 1) := by decide +kernel
theorem dL_law_205 : decode cL_law 205 = .ok (.invokevirtual 20, 3) := by decide +kernel
theorem dL_law_208 : decode cL_law 208 = .ok (.aload_n 2, 1) := by decide +kernel
theorem dL_law_209 : decode cL_law 209 = .ok (.aload_n 0, 1) := by decide +kernel
theorem dL_law_210 : decode cL_law 210 = .ok (.iload_n 3, 1) := by decide +kernel
theorem dL_law_211 : decode cL_law 211 = .ok (.iconst 1, 1) := by decide +kernel
theorem dL_law_212 : decode cL_law 212 = .ok (.iadd, 1) := by decide +kernel
theorem dL_law_213 : decode cL_law 213 = .ok (.iaload, 1) := by decide +kernel
theorem dL_law_214 : decode cL_law 214 = .ok (.aload_n 0, 1) := by decide +kernel
theorem dL_law_215 : decode cL_law 215 = .ok (.iload_n 3, 1) := by decide +kernel
theorem dL_law_216 : decode cL_law 216 = .ok (.iconst 2, 1) := by decide +kernel
theorem dL_law_217 : decode cL_law 217 = .ok (.iadd, 1) := by decide +kernel
theorem dL_law_218 : decode cL_law 218 = .ok (.iaload, 1) := by decide +kernel
theorem dL_law_219 : decode cL_law 219 = .ok (.i2l, 1) := by decide +kernel
theorem dL_law_220 : decode cL_law 220 = .ok (.bipush 32, 2) := by decide +kernel
theorem dL_law_222 : decode cL_law 222 = .ok (.lshl, 1) := by decide +kernel
theorem dL_law_223 : decode cL_law 223 = .ok (.aload_n 0, 1) := by decide +kernel
theorem dL_law_224 : decode cL_law 224 = .ok (.iload_n 3, 1) := by decide +kernel
theorem dL_law_225 : decode cL_law 225 = .ok (.iconst 3, 1) := by decide +kernel
theorem dL_law_226 : decode cL_law 226 = .ok (.iadd, 1) := by decide +kernel
theorem dL_law_227 : decode cL_law 227 = .ok (.iaload, 1) := by decide +kernel
theorem dL_law_228 : decode cL_law 228 = .ok (.i2l, 1) := by decide +kernel
theorem dL_law_229 : decode cL_law 229 = .ok (.ldc2_w 18, 3) := by decide +kernel
theorem dL_law_232 : decode cL_law 232 = .ok (.land, 1) := by decide +kernel
theorem dL_law_233 : decode cL_law 233 = .ok (.lor, 1) := by decide +kernel
theorem dL_law_234 : decode cL_law 234 = .ok (.invokevirtual 24, 3) := by decide +kernel
theorem dL_law_237 : decode cL_law 237 = .ok (.goto 515, 3) := by decide +kernel
theorem dL_law_240 : decode cL_law 240 = .ok (.aload_n 1, 1) := by decide +kernel
theorem dL_law_241 : decode cL_law 241 = .ok (.aload_n 0, 1) := by decide +kernel
theorem dL_law_242 : decode cL_law 242 = .ok (.iload_n 3, 1) := by decide +kernel
theorem dL_law_243 : decode cL_law 243 = .ok (.iconst 1, 1) := by decide +kernel
theorem dL_law_244 : decode cL_law 244 = .ok (.iadd, 1) := by decide +kernel
theorem dL_law_245 : decode cL_law 245 = .ok (.iaload, 1) := by decide +kernel
theorem dL_law_246 : decode cL_law 246 = .ok (.aload_n 0, 1) := by decide +kernel
theorem dL_law_247 : decode cL_law 247 = .ok (.iload_n 3, 1) := by decide +kernel
theorem dL_law_248 : decode cL_law 248 = .ok (.iconst 2, 1) := by decide +kernel
theorem dL_law_249 : decode cL_law 249 = .ok (.iadd, 1) := by decide +kernel
theorem dL_law_250 : decode cL_law 250 = .ok (.iaload, 1) := by decide +kernel
theorem dL_law_251 : decode cL_law 251 = .ok (.aload_n 0, 1) := by decide +kernel
theorem dL_law_252 : decode cL_law 252 = .ok (.iload_n 3, 1) := by decide +kernel
theorem dL_law_253 : decode cL_law 253 = .ok (.iconst 3, 1) := by decide +kernel
theorem dL_law_254 : decode cL_law 254 = .ok (.iadd, 1) := by decide +kernel
theorem dL_law_255 : decode cL_law 255 = .ok (.iaload, 1) := by decide +kernel
theorem dL_law_256 : decode cL_law 256 = .ok (.invokevirtual 25, 3) := by decide +kernel
theorem dL_law_259 : decode cL_law 259 = .ok (.aload_n 2, 1) := by decide +kernel
theorem dL_law_260 : decode cL_law 260 = .ok (.aload_n 0, 1) := by decide +kernel
theorem dL_law_261 : decode cL_law 261 = .ok (.iload_n 3, 1) := by decide +kernel
theorem dL_law_262 : decode cL_law 262 = .ok (.iconst 1, 1) := by decide +kernel
theorem dL_law_263 : decode cL_law 263 = .ok (.iadd, 1) := by decide +kernel
theorem dL_law_264 : decode cL_law 264 = .ok (.iaload, 1) := by decide +kernel
theorem dL_law_265 : decode cL_law 265 = .ok (.aload_n 0, 1) := by decide +kernel
theorem dL_law_266 : decode cL_law 266 = .ok (.iload_n 3, 1) := by decide +kernel
theorem dL_law_267 : decode cL_law 267 = .ok (.iconst 2, 1) := by decide +kernel
theorem dL_law_268 : decode cL_law 268 = .ok (.iadd, 1) := by decide +kernel
theorem dL_law_269 : decode cL_law 269 = .ok (.iaload, 1) := by decide +kernel
theorem dL_law_270 : decode cL_law 270 = .ok (.aload_n 0, 1) := by decide +kernel
theorem dL_law_271 : decode cL_law 271 = .ok (.iload_n 3, 1) := by decide +kernel
theorem dL_law_272 : decode cL_law 272 = .ok (.iconst 3, 1) := by decide +kernel
theorem dL_law_273 : decode cL_law 273 = .ok (.iadd, 1) := by decide +kernel
theorem dL_law_274 : decode cL_law 274 = .ok (.iaload, 1) := by decide +kernel
theorem dL_law_275 : decode cL_law 275 = .ok (.invokevirtual 29, 3) := by decide +kernel
theorem dL_law_278 : decode cL_law 278 = .ok (.goto 474, 3) := by decide +kernel
theorem dL_law_281 : decode cL_law 281 = .ok (.aload_n 1, 1) := by decide +kernel
theorem dL_law_282 : decode cL_law 282 = .ok (.aload_n 0, 1) := by decide +kernel
theorem dL_law_283 : decode cL_law 283 = .ok (.iload_n 3, 1) := by decide +kernel
theorem dL_law_284 : decode cL_law 284 = .ok (.iconst 1, 1) := by decide +kernel
theorem dL_law_285 : decode cL_law 285 = .ok (.iadd, 1) := by decide +kernel
theorem dL_law_286 : decode cL_law 286 = .ok (.iaload, 1) := by decide +kernel
theorem dL_law_287 : decode cL_law 287 = .ok (.aload_n 0, 1) := by decide +kernel
theorem dL_law_288 : decode cL_law 288 = .ok (.iload_n 3, 1) := by decide +kernel
theorem dL_law_289 : decode cL_law 289 = .ok (.iconst 2, 1) := by decide +kernel
theorem dL_law_290 : decode cL_law 290 = .ok (.iadd, 1) := by decide +kernel
theorem dL_law_291 : decode cL_law 291 = .ok (.iaload, 1) := by decide +kernel
theorem dL_law_292 : decode cL_law 292 = .ok (.aload_n 0, 1) := by decide +kernel
theorem dL_law_293 : decode cL_law 293 = .ok (.iload_n 3, 1) := by decide +kernel
theorem dL_law_294 : decode cL_law 294 = .ok (.iconst 3, 1) := by decide +kernel
theorem dL_law_295 : decode cL_law 295 = .ok (.iadd, 1) := by decide +kernel
theorem dL_law_296 : decode cL_law 296 = .ok (.iaload, 1) := by decide +kernel
theorem dL_law_297 : decode cL_law 297 = .ok (.invokevirtual 30, 3) := by decide +kernel
theorem dL_law_300 : decode cL_law 300 = .ok (.aload_n 2, 1) := by decide +kernel
theorem dL_law_301 : decode cL_law 301 = .ok (.aload_n 0, 1) := by decide +kernel
theorem dL_law_302 : decode cL_law 302 = .ok (.iload_n 3, 1) := by decide +kernel
theorem dL_law_303 : decode cL_law 303 = .ok (.iconst 1, 1) := by decide +kernel
theorem dL_law_304 : decode cL_law 304 = .ok (.iadd, 1) := by decide +kernel
theorem dL_law_305 : decode cL_law 305 = .ok (.iaload, 1) := by decide +kernel
theorem dL_law_306 : decode cL_law 306 = .ok (.aload_n 0, 1) := by decide +kernel
theorem dL_law_307 : decode cL_law 307 = .ok (.iload_n 3, 1) := by decide +kernel
theorem dL_law_308 : decode cL_law 308 = .ok (.iconst 2, 1) := by decide +kernel
theorem dL_law_309 : decode cL_law 309 = .ok (.iadd, 1) := by decide +kernel
theorem dL_law_310 : decode cL_law 310 = .ok (.iaload, 1) := by decide +kernel
theorem dL_law_311 : decode cL_law 311 = .ok (.aload_n 0, 1) := by decide +kernel
theorem dL_law_312 : decode cL_law 312 = .ok (.iload_n 3, 1) := by decide +kernel
theorem dL_law_313 : decode cL_law 313 = .ok (.iconst 3, 1) := by decide +kernel
theorem dL_law_314 : decode cL_law 314 = .ok (.iadd, 1) := by decide +kernel
theorem dL_law_315 : decode cL_law 315 = .ok (.iaload, 1) := by decide +kernel
theorem dL_law_316 : decode cL_law 316 = .ok (.invokevirtual 34, 3) := by decide +kernel
theorem dL_law_319 : decode cL_law 319 = .ok (.if_icmp .eq 433, 3) := by decide +kernel
theorem dL_law_322 : decode cL_law 322 = .ok (.iconst 0, 1) := by decide +kernel
theorem dL_law_323 : decode cL_law 323 = .ok (.ireturn, 1) := by decide +kernel
theorem dL_law_324 : decode cL_law 324 = .ok (.aload_n 1, 1) := by decide +kernel
theorem dL_law_325 : decode cL_law 325 = .ok (.aload_n 0, 1) := by decide +kernel
theorem dL_law_326 : decode cL_law 326 = .ok (.iload_n 3, 1) := by decide +kernel
theorem dL_law_327 : decode cL_law 327 = .ok (.iconst 1, 1) := by decide +kernel
theorem dL_law_328 : decode cL_law 328 = .ok (.iadd, 1) := by decide +kernel
theorem dL_law_329 : decode cL_law 329 = .ok (.iaload, 1) := by decide +kernel
theorem dL_law_330 : decode cL_law 330 = .ok (.aload_n 0, 1) := by decide +kernel
theorem dL_law_331 : decode cL_law 331 = .ok (.iload_n 3, 1) := by decide +kernel
theorem dL_law_332 : decode cL_law 332 = .ok (.iconst 2, 1) := by decide +kernel
theorem dL_law_333 : decode cL_law 333 = .ok (.iadd, 1) := by decide +kernel
theorem dL_law_334 : decode cL_law 334 = .ok (.iaload, 1) := by decide +kernel
theorem dL_law_335 : decode cL_law 335 = .ok (.aload_n 0, 1) := by decide +kernel
theorem dL_law_336 : decode cL_law 336 = .ok (.iload_n 3, 1) := by decide +kernel
theorem dL_law_337 : decode cL_law 337 = .ok (.iconst 3, 1) := by decide +kernel
theorem dL_law_338 : decode cL_law 338 = .ok (.iadd, 1) := by decide +kernel
theorem dL_law_339 : decode cL_law 339 = .ok (.iaload, 1) := by decide +kernel
theorem dL_law_340 : decode cL_law 340 = .ok (.aload_n 0, 1) := by decide +kernel
theorem dL_law_341 : decode cL_law 341 = .ok (.iload_n 3, 1) := by decide +kernel
theorem dL_law_342 : decode cL_law 342 = .ok (.iconst 4, 1) := by decide +kernel
theorem dL_law_343 : decode cL_law 343 = .ok (.iadd, 1) := by decide +kernel
theorem dL_law_344 : decode cL_law 344 = .ok (.iaload, 1) := by decide +kernel
theorem dL_law_345 : decode cL_law 345 = .ok (.invokevirtual 35, 3) := by decide +kernel
theorem dL_law_348 : decode cL_law 348 = .ok (.aload_n 2, 1) := by decide +kernel
theorem dL_law_349 : decode cL_law 349 = .ok (.aload_n 0, 1) := by decide +kernel
theorem dL_law_350 : decode cL_law 350 = .ok (.iload_n 3, 1) := by decide +kernel
theorem dL_law_351 : decode cL_law 351 = .ok (.iconst 1, 1) := by decide +kernel
theorem dL_law_352 : decode cL_law 352 = .ok (.iadd, 1) := by decide +kernel
theorem dL_law_353 : decode cL_law 353 = .ok (.iaload, 1) := by decide +kernel
theorem dL_law_354 : decode cL_law 354 = .ok (.aload_n 0, 1) := by decide +kernel
theorem dL_law_355 : decode cL_law 355 = .ok (.iload_n 3, 1) := by decide +kernel
theorem dL_law_356 : decode cL_law 356 = .ok (.iconst 2, 1) := by decide +kernel
theorem dL_law_357 : decode cL_law 357 = .ok (.iadd, 1) := by decide +kernel
theorem dL_law_358 : decode cL_law 358 = .ok (.iaload, 1) := by decide +kernel
theorem dL_law_359 : decode cL_law 359 = .ok (.aload_n 0, 1) := by decide +kernel
theorem dL_law_360 : decode cL_law 360 = .ok (.iload_n 3, 1) := by decide +kernel
theorem dL_law_361 : decode cL_law 361 = .ok (.iconst 3, 1) := by decide +kernel
theorem dL_law_362 : decode cL_law 362 = .ok (.iadd, 1) := by decide +kernel
theorem dL_law_363 : decode cL_law 363 = .ok (.iaload, 1) := by decide +kernel
theorem dL_law_364 : decode cL_law 364 = .ok (.aload_n 0, 1) := by decide +kernel
theorem dL_law_365 : decode cL_law 365 = .ok (.iload_n 3, 1) := by decide +kernel
theorem dL_law_366 : decode cL_law 366 = .ok (.iconst 4, 1) := by decide +kernel
theorem dL_law_367 : decode cL_law 367 = .ok (.iadd, 1) := by decide +kernel
theorem dL_law_368 : decode cL_law 368 = .ok (.iaload, 1) := by decide +kernel
theorem dL_law_369 : decode cL_law 369 = .ok (.invokevirtual 39, 3) := by decide +kernel
theorem dL_law_372 : decode cL_law 372 = .ok (.goto 380, 3) := by decide +kernel
theorem dL_law_375 : decode cL_law 375 = .ok (.aload_n 1, 1) := by decide +kernel
theorem dL_law_376 : decode cL_law 376 = .ok (.aload_n 0, 1) := by decide +kernel
theorem dL_law_377 : decode cL_law 377 = .ok (.iload_n 3, 1) := by decide +kernel
theorem dL_law_378 : decode cL_law 378 = .ok (.iconst 1, 1) := by decide +kernel
theorem dL_law_379 : decode cL_law 379 = .ok (.iadd, 1) := by decide +kernel
theorem dL_law_380 : decode cL_law 380 = .ok (.iaload, 1) := by decide +kernel
theorem dL_law_381 : decode cL_law 381 = .ok (.i2l, 1) := by decide +kernel
theorem dL_law_382 : decode cL_law 382 = .ok (.bipush 32, 2) := by decide +kernel
theorem dL_law_384 : decode cL_law 384 = .ok (.lshl, 1) := by decide +kernel
theorem dL_law_385 : decode cL_law 385 = .ok (.aload_n 0, 1) := by decide +kernel
theorem dL_law_386 : decode cL_law 386 = .ok (.iload_n 3, 1) := by decide +kernel
theorem dL_law_387 : decode cL_law 387 = .ok (.iconst 2, 1) := by decide +kernel
theorem dL_law_388 : decode cL_law 388 = .ok (.iadd, 1) := by decide +kernel
theorem dL_law_389 : decode cL_law 389 = .ok (.iaload, 1) := by decide +kernel
theorem dL_law_390 : decode cL_law 390 = .ok (.i2l, 1) := by decide +kernel
theorem dL_law_391 : decode cL_law 391 = .ok (.ldc2_w 18, 3) := by decide +kernel
theorem dL_law_394 : decode cL_law 394 = .ok (.land, 1) := by decide +kernel
theorem dL_law_395 : decode cL_law 395 = .ok (.lor, 1) := by decide +kernel
theorem dL_law_396 : decode cL_law 396 = .ok (.invokevirtual 40, 3) := by decide +kernel
theorem dL_law_399 : decode cL_law 399 = .ok (.aload_n 2, 1) := by decide +kernel
theorem dL_law_400 : decode cL_law 400 = .ok (.aload_n 0, 1) := by decide +kernel
theorem dL_law_401 : decode cL_law 401 = .ok (.iload_n 3, 1) := by decide +kernel
theorem dL_law_402 : decode cL_law 402 = .ok (.iconst 1, 1) := by decide +kernel
theorem dL_law_403 : decode cL_law 403 = .ok (.iadd, 1) := by decide +kernel
theorem dL_law_404 : decode cL_law 404 = .ok (.iaload, 1) := by decide +kernel
theorem dL_law_405 : decode cL_law 405 = .ok (.i2l, 1) := by decide +kernel
theorem dL_law_406 : decode cL_law 406 = .ok (.bipush 32, 2) := by decide +kernel
theorem dL_law_408 : decode cL_law 408 = .ok (.lshl, 1) := by decide +kernel
theorem dL_law_409 : decode cL_law 409 = .ok (.aload_n 0, 1) := by decide +kernel
theorem dL_law_410 : decode cL_law 410 = .ok (.iload_n 3, 1) := by decide +kernel
theorem dL_law_411 : decode cL_law 411 = .ok (.iconst 2, 1) := by decide +kernel
theorem dL_law_412 : decode cL_law 412 = .ok (.iadd, 1) := by decide +kernel
theorem dL_law_413 : decode cL_law 413 = .ok (.iaload, 1) := by decide +kernel
theorem dL_law_414 : decode cL_law 414 = .ok (.i2l, 1) := by decide +kernel
theorem dL_law_415 : decode cL_law 415 = .ok (.ldc2_w 18, 3) := by decide +kernel
theorem dL_law_418 : decode cL_law 418 = .ok (.land, 1) := by decide +kernel
theorem dL_law_419 : decode cL_law 419 = .ok (.lor, 1) := by decide +kernel
theorem dL_law_420 : decode cL_law 420 = .ok (.invokevirtual 44, 3) := by decide +kernel
theorem dL_law_423 : decode cL_law 423 = .ok (.goto 329, 3) := by decide +kernel
theorem dL_law_426 : decode cL_law 426 = .ok (.aload_n 1, 1) := by decide +kernel
theorem dL_law_427 : decode cL_law 427 = .ok (.aload_n 0, 1) := by decide +kernel
theorem dL_law_428 : decode cL_law 428 = .ok (.iload_n 3, 1) := by decide +kernel
theorem dL_law_429 : decode cL_law 429 = .ok (.iconst 1, 1) := by decide +kernel
theorem dL_law_430 : decode cL_law 430 = .ok (.iadd, 1) := by decide +kernel
theorem dL_law_431 : decode cL_law 431 = .ok (.iaload, 1) := by decide +kernel
theorem dL_law_432 : decode cL_law 432 = .ok (.invokevirtual 45, 3) := by decide +kernel
theorem dL_law_435 : decode cL_law 435 = .ok (.aload_n 2, 1) := by decide +kernel
theorem dL_law_436 : decode cL_law 436 = .ok (.aload_n 0, 1) := by decide +kernel
theorem dL_law_437 : decode cL_law 437 = .ok (.iload_n 3, 1) := by decide +kernel
theorem dL_law_438 : decode cL_law 438 = .ok (.iconst 1, 1) := by decide +kernel
theorem dL_law_439 : decode cL_law 439 = .ok (.iadd, 1) := by decide +kernel
theorem dL_law_440 : decode cL_law 440 = .ok (.iaload, 1) := by decide +kernel
theorem dL_law_441 : decode cL_law 441 = .ok (.invokevirtual 49, 3) := by decide +kernel
theorem dL_law_444 : decode cL_law 444 = .ok (.if_icmp .eq 308, 3) := by decide +kernel
theorem dL_law_447 : decode cL_law 447 = .ok (.iconst 0, 1) := by decide +kernel
theorem dL_law_448 : decode cL_law 448 = .ok (.ireturn, 1) := by decide +kernel
theorem dL_law_449 : decode cL_law 449 = .ok (.aload_n 1, 1) := by decide +kernel
theorem dL_law_450 : decode cL_law 450 = .ok (.invokevirtual 50, 3) := by decide +kernel
theorem dL_law_453 : decode cL_law 453 = .ok (.aload_n 2, 1) := by decide +kernel
theorem dL_law_454 : decode cL_law 454 = .ok (.invokevirtual 54, 3) := by decide +kernel
theorem dL_law_457 : decode cL_law 457 = .ok (.lcmp, 1) := by decide +kernel
theorem dL_law_458 : decode cL_law 458 = .ok (.ifCond .eq 294, 3) := by decide +kernel
theorem dL_law_461 : decode cL_law 461 = .ok (.iconst 0, 1) := by decide +kernel
theorem dL_law_462 : decode cL_law 462 = .ok (.ireturn, 1) := by decide +kernel
theorem dL_law_463 : decode cL_law 463 = .ok (.aload_n 1, 1) := by decide +kernel
theorem dL_law_464 : decode cL_law 464 = .ok (.aload_n 0, 1) := by decide +kernel
theorem dL_law_465 : decode cL_law 465 = .ok (.iload_n 3, 1) := by decide +kernel
theorem dL_law_466 : decode cL_law 466 = .ok (.iconst 1, 1) := by decide +kernel
theorem dL_law_467 : decode cL_law 467 = .ok (.iadd, 1) := by decide +kernel
theorem dL_law_468 : decode cL_law 468 = .ok (.iaload, 1) := by decide +kernel
theorem dL_law_469 : decode cL_law 469 = .ok (.invokevirtual 55, 3) := by decide +kernel
theorem dL_law_472 : decode cL_law 472 = .ok (.aload_n 2, 1) := by decide +kernel
theorem dL_law_473 : decode cL_law 473 = .ok (.aload_n 0, 1) := by decide +kernel
theorem dL_law_474 : decode cL_law 474 = .ok (.iload_n 3, 1) := by decide +kernel
theorem dL_law_475 : decode cL_law 475 = .ok (.iconst 1, 1) := by decide +kernel
theorem dL_law_476 : decode cL_law 476 = .ok (.iadd, 1) := by decide +kernel
theorem dL_law_477 : decode cL_law 477 = .ok (.iaload, 1) := by decide +kernel
theorem dL_law_478 : decode cL_law 478 = .ok (.invokevirtual 59, 3) := by decide +kernel
theorem dL_law_481 : decode cL_law 481 = .ok (.lcmp, 1) := by decide +kernel
theorem dL_law_482 : decode cL_law 482 = .ok (.ifCond .eq 270, 3) := by decide +kernel
theorem dL_law_485 : decode cL_law 485 = .ok (.iconst 0, 1) := by decide +kernel
theorem dL_law_486 : decode cL_law 486 = .ok (.ireturn, 1) := by decide +kernel
theorem dL_law_487 : decode cL_law 487 = .ok (.aload_n 1, 1) := by decide +kernel
theorem dL_law_488 : decode cL_law 488 = .ok (.aload_n 0, 1) := by decide +kernel
theorem dL_law_489 : decode cL_law 489 = .ok (.iload_n 3, 1) := by decide +kernel
theorem dL_law_490 : decode cL_law 490 = .ok (.iconst 1, 1) := by decide +kernel
theorem dL_law_491 : decode cL_law 491 = .ok (.iadd, 1) := by decide +kernel
theorem dL_law_492 : decode cL_law 492 = .ok (.iaload, 1) := by decide +kernel
theorem dL_law_493 : decode cL_law 493 = .ok (.aload_n 0, 1) := by decide +kernel
theorem dL_law_494 : decode cL_law 494 = .ok (.iload_n 3, 1) := by decide +kernel
theorem dL_law_495 : decode cL_law 495 = .ok (.iconst 2, 1) := by decide +kernel
theorem dL_law_496 : decode cL_law 496 = .ok (.iadd, 1) := by decide +kernel
theorem dL_law_497 : decode cL_law 497 = .ok (.iaload, 1) := by decide +kernel
theorem dL_law_498 : decode cL_law 498 = .ok (.i2l, 1) := by decide +kernel
theorem dL_law_499 : decode cL_law 499 = .ok (.bipush 32, 2) := by decide +kernel
theorem dL_law_501 : decode cL_law 501 = .ok (.lshl, 1) := by decide +kernel
theorem dL_law_502 : decode cL_law 502 = .ok (.aload_n 0, 1) := by decide +kernel
theorem dL_law_503 : decode cL_law 503 = .ok (.iload_n 3, 1) := by decide +kernel
theorem dL_law_504 : decode cL_law 504 = .ok (.iconst 3, 1) := by decide +kernel
theorem dL_law_505 : decode cL_law 505 = .ok (.iadd, 1) := by decide +kernel
theorem dL_law_506 : decode cL_law 506 = .ok (.iaload, 1) := by decide +kernel
theorem dL_law_507 : decode cL_law 507 = .ok (.i2l, 1) := by decide +kernel
theorem dL_law_508 : decode cL_law 508 = .ok (.ldc2_w 18, 3) := by decide +kernel
theorem dL_law_511 : decode cL_law 511 = .ok (.land, 1) := by decide +kernel
theorem dL_law_512 : decode cL_law 512 = .ok (.lor, 1) := by decide +kernel
theorem dL_law_513 : decode cL_law 513 = .ok (.invokevirtual 60, 3) := by decide +kernel
theorem dL_law_516 : decode cL_law 516 = .ok (.aload_n 2, 1) := by decide +kernel
theorem dL_law_517 : decode cL_law 517 = .ok (.aload_n 0, 1) := by decide +kernel
theorem dL_law_518 : decode cL_law 518 = .ok (.iload_n 3, 1) := by decide +kernel
theorem dL_law_519 : decode cL_law 519 = .ok (.iconst 1, 1) := by decide +kernel
theorem dL_law_520 : decode cL_law 520 = .ok (.iadd, 1) := by decide +kernel
theorem dL_law_521 : decode cL_law 521 = .ok (.iaload, 1) := by decide +kernel
theorem dL_law_522 : decode cL_law 522 = .ok (.aload_n 0, 1) := by decide +kernel
theorem dL_law_523 : decode cL_law 523 = .ok (.iload_n 3, 1) := by decide +kernel
theorem dL_law_524 : decode cL_law 524 = .ok (.iconst 2, 1) := by decide +kernel
theorem dL_law_525 : decode cL_law 525 = .ok (.iadd, 1) := by decide +kernel
theorem dL_law_526 : decode cL_law 526 = .ok (.iaload, 1) := by decide +kernel
theorem dL_law_527 : decode cL_law 527 = .ok (.i2l, 1) := by decide +kernel
theorem dL_law_528 : decode cL_law 528 = .ok (.bipush 32, 2) := by decide +kernel
theorem dL_law_530 : decode cL_law 530 = .ok (.lshl, 1) := by decide +kernel
theorem dL_law_531 : decode cL_law 531 = .ok (.aload_n 0, 1) := by decide +kernel
theorem dL_law_532 : decode cL_law 532 = .ok (.iload_n 3, 1) := by decide +kernel
theorem dL_law_533 : decode cL_law 533 = .ok (.iconst 3, 1) := by decide +kernel
theorem dL_law_534 : decode cL_law 534 = .ok (.iadd, 1) := by decide +kernel
theorem dL_law_535 : decode cL_law 535 = .ok (.iaload, 1) := by decide +kernel
theorem dL_law_536 : decode cL_law 536 = .ok (.i2l, 1) := by decide +kernel
theorem dL_law_537 : decode cL_law 537 = .ok (.ldc2_w 18, 3) := by decide +kernel
theorem dL_law_540 : decode cL_law 540 = .ok (.land, 1) := by decide +kernel
theorem dL_law_541 : decode cL_law 541 = .ok (.lor, 1) := by decide +kernel
theorem dL_law_542 : decode cL_law 542 = .ok (.invokevirtual 64, 3) := by decide +kernel
theorem dL_law_545 : decode cL_law 545 = .ok (.if_icmp .eq 207, 3) := by decide +kernel
theorem dL_law_548 : decode cL_law 548 = .ok (.iconst 0, 1) := by decide +kernel
theorem dL_law_549 : decode cL_law 549 = .ok (.ireturn, 1) := by decide +kernel
theorem dL_law_550 : decode cL_law 550 = .ok (.aload_n 1, 1) := by decide +kernel
theorem dL_law_551 : decode cL_law 551 = .ok (.aload_n 0, 1) := by decide +kernel
theorem dL_law_552 : decode cL_law 552 = .ok (.iload_n 3, 1) := by decide +kernel
theorem dL_law_553 : decode cL_law 553 = .ok (.iconst 1, 1) := by decide +kernel
theorem dL_law_554 : decode cL_law 554 = .ok (.iadd, 1) := by decide +kernel
theorem dL_law_555 : decode cL_law 555 = .ok (.iaload, 1) := by decide +kernel
theorem dL_law_556 : decode cL_law 556 = .ok (.i2l, 1) := by decide +kernel
theorem dL_law_557 : decode cL_law 557 = .ok (.bipush 32, 2) := by decide +kernel
theorem dL_law_559 : decode cL_law 559 = .ok (.lshl, 1) := by decide +kernel
theorem dL_law_560 : decode cL_law 560 = .ok (.aload_n 0, 1) := by decide +kernel
theorem dL_law_561 : decode cL_law 561 = .ok (.iload_n 3, 1) := by decide +kernel
theorem dL_law_562 : decode cL_law 562 = .ok (.iconst 2, 1) := by decide +kernel
theorem dL_law_563 : decode cL_law 563 = .ok (.iadd, 1) := by decide +kernel
theorem dL_law_564 : decode cL_law 564 = .ok (.iaload, 1) := by decide +kernel
theorem dL_law_565 : decode cL_law 565 = .ok (.i2l, 1) := by decide +kernel
theorem dL_law_566 : decode cL_law 566 = .ok (.ldc2_w 18, 3) := by decide +kernel
theorem dL_law_569 : decode cL_law 569 = .ok (.land, 1) := by decide +kernel
theorem dL_law_570 : decode cL_law 570 = .ok (.lor, 1) := by decide +kernel
theorem dL_law_571 : decode cL_law 571 = .ok (.aload_n 0, 1) := by decide +kernel
theorem dL_law_572 : decode cL_law 572 = .ok (.iload_n 3, 1) := by decide +kernel
theorem dL_law_573 : decode cL_law 573 = .ok (.iconst 3, 1) := by decide +kernel
theorem dL_law_574 : decode cL_law 574 = .ok (.iadd, 1) := by decide +kernel
theorem dL_law_575 : decode cL_law 575 = .ok (.iaload, 1) := by decide +kernel
theorem dL_law_576 : decode cL_law 576 = .ok (.invokevirtual 65, 3) := by decide +kernel
theorem dL_law_579 : decode cL_law 579 = .ok (.aload_n 2, 1) := by decide +kernel
theorem dL_law_580 : decode cL_law 580 = .ok (.aload_n 0, 1) := by decide +kernel
theorem dL_law_581 : decode cL_law 581 = .ok (.iload_n 3, 1) := by decide +kernel
theorem dL_law_582 : decode cL_law 582 = .ok (.iconst 1, 1) := by decide +kernel
theorem dL_law_583 : decode cL_law 583 = .ok (.iadd, 1) := by decide +kernel
theorem dL_law_584 : decode cL_law 584 = .ok (.iaload, 1) := by decide +kernel
theorem dL_law_585 : decode cL_law 585 = .ok (.i2l, 1) := by decide +kernel
theorem dL_law_586 : decode cL_law 586 = .ok (.bipush 32, 2) := by decide +kernel
theorem dL_law_588 : decode cL_law 588 = .ok (.lshl, 1) := by decide +kernel
theorem dL_law_589 : decode cL_law 589 = .ok (.aload_n 0, 1) := by decide +kernel
theorem dL_law_590 : decode cL_law 590 = .ok (.iload_n 3, 1) := by decide +kernel
theorem dL_law_591 : decode cL_law 591 = .ok (.iconst 2, 1) := by decide +kernel
theorem dL_law_592 : decode cL_law 592 = .ok (.iadd, 1) := by decide +kernel
theorem dL_law_593 : decode cL_law 593 = .ok (.iaload, 1) := by decide +kernel
theorem dL_law_594 : decode cL_law 594 = .ok (.i2l, 1) := by decide +kernel
theorem dL_law_595 : decode cL_law 595 = .ok (.ldc2_w 18, 3) := by decide +kernel
theorem dL_law_598 : decode cL_law 598 = .ok (.land, 1) := by decide +kernel
theorem dL_law_599 : decode cL_law 599 = .ok (.lor, 1) := by decide +kernel
theorem dL_law_600 : decode cL_law 600 = .ok (.aload_n 0, 1) := by decide +kernel
theorem dL_law_601 : decode cL_law 601 = .ok (.iload_n 3, 1) := by decide +kernel
theorem dL_law_602 : decode cL_law 602 = .ok (.iconst 3, 1) := by decide +kernel
theorem dL_law_603 : decode cL_law 603 = .ok (.iadd, 1) := by decide +kernel
theorem dL_law_604 : decode cL_law 604 = .ok (.iaload, 1) := by decide +kernel
theorem dL_law_605 : decode cL_law 605 = .ok (.invokevirtual 69, 3) := by decide +kernel
theorem dL_law_608 : decode cL_law 608 = .ok (.if_icmp .eq 144, 3) := by decide +kernel
theorem dL_law_611 : decode cL_law 611 = .ok (.iconst 0, 1) := by decide +kernel
theorem dL_law_612 : decode cL_law 612 = .ok (.ireturn, 1) := by decide +kernel
theorem dL_law_613 : decode cL_law 613 = .ok (.aload_n 1, 1) := by decide +kernel
theorem dL_law_614 : decode cL_law 614 = .ok (.aload_n 0, 1) := by decide +kernel
theorem dL_law_615 : decode cL_law 615 = .ok (.iload_n 3, 1) := by decide +kernel
theorem dL_law_616 : decode cL_law 616 = .ok (.iconst 1, 1) := by decide +kernel
theorem dL_law_617 : decode cL_law 617 = .ok (.iadd, 1) := by decide +kernel
theorem dL_law_618 : decode cL_law 618 = .ok (.iaload, 1) := by decide +kernel
theorem dL_law_619 : decode cL_law 619 = .ok (.invokevirtual 70, 3) := by decide +kernel
theorem dL_law_622 : decode cL_law 622 = .ok (.aload_n 2, 1) := by decide +kernel
theorem dL_law_623 : decode cL_law 623 = .ok (.aload_n 0, 1) := by decide +kernel
theorem dL_law_624 : decode cL_law 624 = .ok (.iload_n 3, 1) := by decide +kernel
theorem dL_law_625 : decode cL_law 625 = .ok (.iconst 1, 1) := by decide +kernel
theorem dL_law_626 : decode cL_law 626 = .ok (.iadd, 1) := by decide +kernel
theorem dL_law_627 : decode cL_law 627 = .ok (.iaload, 1) := by decide +kernel
theorem dL_law_628 : decode cL_law 628 = .ok (.invokevirtual 73, 3) := by decide +kernel
theorem dL_law_631 : decode cL_law 631 = .ok (.if_icmp .eq 121, 3) := by decide +kernel
theorem dL_law_634 : decode cL_law 634 = .ok (.iconst 0, 1) := by decide +kernel
theorem dL_law_635 : decode cL_law 635 = .ok (.ireturn, 1) := by decide +kernel
theorem dL_law_636 : decode cL_law 636 = .ok (.aload_n 1, 1) := by decide +kernel
theorem dL_law_637 : decode cL_law 637 = .ok (.aload_n 0, 1) := by decide +kernel
theorem dL_law_638 : decode cL_law 638 = .ok (.iload_n 3, 1) := by decide +kernel
theorem dL_law_639 : decode cL_law 639 = .ok (.iconst 1, 1) := by decide +kernel
theorem dL_law_640 : decode cL_law 640 = .ok (.iadd, 1) := by decide +kernel
theorem dL_law_641 : decode cL_law 641 = .ok (.iaload, 1) := by decide +kernel
theorem dL_law_642 : decode cL_law 642 = .ok (.i2l, 1) := by decide +kernel
theorem dL_law_643 : decode cL_law 643 = .ok (.bipush 32, 2) := by decide +kernel
theorem dL_law_645 : decode cL_law 645 = .ok (.lshl, 1) := by decide +kernel
theorem dL_law_646 : decode cL_law 646 = .ok (.aload_n 0, 1) := by decide +kernel
theorem dL_law_647 : decode cL_law 647 = .ok (.iload_n 3, 1) := by decide +kernel
theorem dL_law_648 : decode cL_law 648 = .ok (.iconst 2, 1) := by decide +kernel
theorem dL_law_649 : decode cL_law 649 = .ok (.iadd, 1) := by decide +kernel
theorem dL_law_650 : decode cL_law 650 = .ok (.iaload, 1) := by decide +kernel
theorem dL_law_651 : decode cL_law 651 = .ok (.i2l, 1) := by decide +kernel
theorem dL_law_652 : decode cL_law 652 = .ok (.ldc2_w 18, 3) := by decide +kernel
theorem dL_law_655 : decode cL_law 655 = .ok (.land, 1) := by decide +kernel
theorem dL_law_656 : decode cL_law 656 = .ok (.lor, 1) := by decide +kernel
theorem dL_law_657 : decode cL_law 657 = .ok (.invokevirtual 74, 3) := by decide +kernel
theorem dL_law_660 : decode cL_law 660 = .ok (.aload_n 2, 1) := by decide +kernel
theorem dL_law_661 : decode cL_law 661 = .ok (.aload_n 0, 1) := by decide +kernel
theorem dL_law_662 : decode cL_law 662 = .ok (.iload_n 3, 1) := by decide +kernel
theorem dL_law_663 : decode cL_law 663 = .ok (.iconst 1, 1) := by decide +kernel
theorem dL_law_664 : decode cL_law 664 = .ok (.iadd, 1) := by decide +kernel
theorem dL_law_665 : decode cL_law 665 = .ok (.iaload, 1) := by decide +kernel
theorem dL_law_666 : decode cL_law 666 = .ok (.i2l, 1) := by decide +kernel
theorem dL_law_667 : decode cL_law 667 = .ok (.bipush 32, 2) := by decide +kernel
theorem dL_law_669 : decode cL_law 669 = .ok (.lshl, 1) := by decide +kernel
theorem dL_law_670 : decode cL_law 670 = .ok (.aload_n 0, 1) := by decide +kernel
theorem dL_law_671 : decode cL_law 671 = .ok (.iload_n 3, 1) := by decide +kernel
theorem dL_law_672 : decode cL_law 672 = .ok (.iconst 2, 1) := by decide +kernel
theorem dL_law_673 : decode cL_law 673 = .ok (.iadd, 1) := by decide +kernel
theorem dL_law_674 : decode cL_law 674 = .ok (.iaload, 1) := by decide +kernel
theorem dL_law_675 : decode cL_law 675 = .ok (.i2l, 1) := by decide +kernel
theorem dL_law_676 : decode cL_law 676 = .ok (.ldc2_w 18, 3) := by decide +kernel
theorem dL_law_679 : decode cL_law 679 = .ok (.land, 1) := by decide +kernel
theorem dL_law_680 : decode cL_law 680 = .ok (.lor, 1) := by decide +kernel
theorem dL_law_681 : decode cL_law 681 = .ok (.invokevirtual 78, 3) := by decide +kernel
theorem dL_law_684 : decode cL_law 684 = .ok (.if_icmp .eq 68, 3) := by decide +kernel
theorem dL_law_687 : decode cL_law 687 = .ok (.iconst 0, 1) := by decide +kernel
theorem dL_law_688 : decode cL_law 688 = .ok (.ireturn, 1) := by decide +kernel
theorem dL_law_689 : decode cL_law 689 = .ok (.aload_n 1, 1) := by decide +kernel
theorem dL_law_690 : decode cL_law 690 = .ok (.aload_n 0, 1) := by decide +kernel
theorem dL_law_691 : decode cL_law 691 = .ok (.iload_n 3, 1) := by decide +kernel
theorem dL_law_692 : decode cL_law 692 = .ok (.iconst 1, 1) := by decide +kernel
theorem dL_law_693 : decode cL_law 693 = .ok (.iadd, 1) := by decide +kernel
theorem dL_law_694 : decode cL_law 694 = .ok (.iaload, 1) := by decide +kernel
theorem dL_law_695 : decode cL_law 695 = .ok (.i2l, 1) := by decide +kernel
theorem dL_law_696 : decode cL_law 696 = .ok (.bipush 32, 2) := by decide +kernel
theorem dL_law_698 : decode cL_law 698 = .ok (.lshl, 1) := by decide +kernel
theorem dL_law_699 : decode cL_law 699 = .ok (.aload_n 0, 1) := by decide +kernel
theorem dL_law_700 : decode cL_law 700 = .ok (.iload_n 3, 1) := by decide +kernel
theorem dL_law_701 : decode cL_law 701 = .ok (.iconst 2, 1) := by decide +kernel
theorem dL_law_702 : decode cL_law 702 = .ok (.iadd, 1) := by decide +kernel
theorem dL_law_703 : decode cL_law 703 = .ok (.iaload, 1) := by decide +kernel
theorem dL_law_704 : decode cL_law 704 = .ok (.i2l, 1) := by decide +kernel
theorem dL_law_705 : decode cL_law 705 = .ok (.ldc2_w 18, 3) := by decide +kernel
theorem dL_law_708 : decode cL_law 708 = .ok (.land, 1) := by decide +kernel
theorem dL_law_709 : decode cL_law 709 = .ok (.lor, 1) := by decide +kernel
theorem dL_law_710 : decode cL_law 710 = .ok (.aload_n 0, 1) := by decide +kernel
theorem dL_law_711 : decode cL_law 711 = .ok (.iload_n 3, 1) := by decide +kernel
theorem dL_law_712 : decode cL_law 712 = .ok (.iconst 3, 1) := by decide +kernel
theorem dL_law_713 : decode cL_law 713 = .ok (.iadd, 1) := by decide +kernel
theorem dL_law_714 : decode cL_law 714 = .ok (.iaload, 1) := by decide +kernel
theorem dL_law_715 : decode cL_law 715 = .ok (.invokevirtual 79, 3) := by decide +kernel
theorem dL_law_718 : decode cL_law 718 = .ok (.aload_n 2, 1) := by decide +kernel
theorem dL_law_719 : decode cL_law 719 = .ok (.aload_n 0, 1) := by decide +kernel
theorem dL_law_720 : decode cL_law 720 = .ok (.iload_n 3, 1) := by decide +kernel
theorem dL_law_721 : decode cL_law 721 = .ok (.iconst 1, 1) := by decide +kernel
theorem dL_law_722 : decode cL_law 722 = .ok (.iadd, 1) := by decide +kernel
theorem dL_law_723 : decode cL_law 723 = .ok (.iaload, 1) := by decide +kernel
theorem dL_law_724 : decode cL_law 724 = .ok (.i2l, 1) := by decide +kernel
theorem dL_law_725 : decode cL_law 725 = .ok (.bipush 32, 2) := by decide +kernel
theorem dL_law_727 : decode cL_law 727 = .ok (.lshl, 1) := by decide +kernel
theorem dL_law_728 : decode cL_law 728 = .ok (.aload_n 0, 1) := by decide +kernel
theorem dL_law_729 : decode cL_law 729 = .ok (.iload_n 3, 1) := by decide +kernel
theorem dL_law_730 : decode cL_law 730 = .ok (.iconst 2, 1) := by decide +kernel
theorem dL_law_731 : decode cL_law 731 = .ok (.iadd, 1) := by decide +kernel
theorem dL_law_732 : decode cL_law 732 = .ok (.iaload, 1) := by decide +kernel
theorem dL_law_733 : decode cL_law 733 = .ok (.i2l, 1) := by decide +kernel
theorem dL_law_734 : decode cL_law 734 = .ok (.ldc2_w 18, 3) := by decide +kernel
theorem dL_law_737 : decode cL_law 737 = .ok (.land, 1) := by decide +kernel
theorem dL_law_738 : decode cL_law 738 = .ok (.lor, 1) := by decide +kernel
theorem dL_law_739 : decode cL_law 739 = .ok (.aload_n 0, 1) := by decide +kernel
theorem dL_law_740 : decode cL_law 740 = .ok (.iload_n 3, 1) := by decide +kernel
theorem dL_law_741 : decode cL_law 741 = .ok (.iconst 3, 1) := by decide +kernel
theorem dL_law_742 : decode cL_law 742 = .ok (.iadd, 1) := by decide +kernel
theorem dL_law_743 : decode cL_law 743 = .ok (.iaload, 1) := by decide +kernel
theorem dL_law_744 : decode cL_law 744 = .ok (.invokevirtual 82, 3) := by decide +kernel
theorem dL_law_747 : decode cL_law 747 = .ok (.if_icmp .eq 5, 3) := by decide +kernel
theorem dL_law_750 : decode cL_law 750 = .ok (.iconst 0, 1) := by decide +kernel
theorem dL_law_751 : decode cL_law 751 = .ok (.ireturn, 1) := by decide +kernel
theorem dL_law_752 : decode cL_law 752 = .ok (.iinc 3 7, 3) := by decide +kernel
theorem dL_law_755 : decode cL_law 755 = .ok (.goto (-737), 3) := by decide +kernel
theorem dL_law_758 : decode cL_law 758 = .ok (.iconst 1, 1) := by decide +kernel
theorem dL_law_759 : decode cL_law 759 = .ok (.ireturn, 1) := by decide +kernel
