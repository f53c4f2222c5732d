set_option maxRecDepth 100000
theorem dX11_peg_3 : decode cX11_peg 3 = .ok (.getfield 49, 3) := by decide +kernel
theorem dX11_peg_6 : decode cX11_peg 6 = .ok (.iconst 0, 1) := by decide +kernel
theorem dX11_peg_7 : decode cX11_peg 7 = .ok (.iaload, 1) := by decide +kernel
theorem dX11_peg_8 : decode cX11_peg 8 = .ok (.iconst 1, 1) := by decide +kernel
theorem dX11_peg_9 : decode cX11_peg 9 = .ok (.isub, 1) := by decide +kernel
theorem dX11_peg_10 : decode cX11_peg 10 = .ok (.invokestatic 89, 3) := by decide +kernel
theorem dX11_peg_13 : decode cX11_peg 13 = .ok (.istore 4, 2) := by decide +kernel
theorem dX11_peg_15 : decode cX11_peg 15 = .ok (.iload_n 2, 1) := by decide +kernel
theorem dX11_peg_16 : decode cX11_peg 16 = .ok (.ifCond .eq 34, 3) := by decide +kernel
theorem dX11_peg_19 : decode cX11_peg 19 = .ok (.iload_n 2, 1) := by decide +kernel
theorem dX11_peg_20 : decode cX11_peg 20 = .ok (.iconst 1, 1) := by decide +kernel
theorem dX11_peg_21 : decode cX11_peg 21 = .ok (.if_icmp .ne 22, 3) := by decide +kernel
theorem dX11_peg_24 : decode cX11_peg 24 = .ok (.iload_n 3, 1) := by decide +kernel
theorem dX11_peg_25 : decode cX11_peg 25 = .ok (.iconst 0, 1) := by decide +kernel
theorem dX11_peg_26 : decode cX11_peg 26 = .ok (.aload_n 0, 1) := by decide +kernel
theorem dX11_peg_27 : decode cX11_peg 27 = .ok (.getfield 49, 3) := by decide +kernel
theorem dX11_peg_30 : decode cX11_peg 30 = .ok (.iconst 1, 1) := by decide +kernel
theorem dX11_peg_31 : decode cX11_peg 31 = .ok (.iaload, 1) := by decide +kernel
theorem dX11_peg_32 : decode cX11_peg 32 = .ok (.iconst 1, 1) := by decide +kernel
theorem dX11_peg_33 : decode cX11_peg 33 = .ok (.isub, 1) := by decide +kernel
theorem dX11_peg_34 : decode cX11_peg 34 = .ok (.invokestatic 89, 3) := by decide +kernel
theorem dX11_peg_37 : decode cX11_peg 37 = .ok (.ifCond .eq 17, 3) := by decide +kernel
theorem dX11_peg_40 : decode cX11_peg 40 = .ok (.goto 10, 3) := by decide +kernel
theorem dX11_peg_43 : decode cX11_peg 43 = .ok (.iload_n 3, 1) := by decide +kernel
theorem dX11_peg_44 : decode cX11_peg 44 = .ok (.invokestatic 93, 3) := by decide +kernel
theorem dX11_peg_47 : decode cX11_peg 47 = .ok (.ifCond .eq 7, 3) := by decide +kernel
theorem dX11_peg_50 : decode cX11_peg 50 = .ok (.iconst 1, 1) := by decide +kernel
theorem dX11_peg_51 : decode cX11_peg 51 = .ok (.goto 4, 3) := by decide +kernel
theorem dX11_peg_54 : decode cX11_peg 54 = .ok (.iconst 0, 1) := by decide +kernel
theorem dX11_peg_55 : decode cX11_peg 55 = .ok (.istore 5, 2) := by decide +kernel
theorem dX11_peg_57 : decode cX11_peg 57 = .ok (.aload_n 0, 1) := by decide +kernel
theorem dX11_peg_58 : decode cX11_peg 58 = .ok (.iload 4, 2) := by decide +kernel
theorem dX11_peg_60 : decode cX11_peg 60 = .ok (.ifCond .ne 7, 3) := by decide +kernel
theorem dX11_peg_63 : decode cX11_peg 63 = .ok (.iconst 1, 1) := by decide +kernel
theorem dX11_peg_64 : decode cX11_peg 64 = .ok (.goto 37, 3) := by decide +kernel
theorem dX11_peg_67 : decode cX11_peg 67 = .ok (.iload_n 2, 1) := by decide +kernel
theorem dX11_peg_68 : decode cX11_peg 68 = .ok (.iconst 0, 1) := by decide +kernel
theorem dX11_peg_69 : decode cX11_peg 69 = .ok (.iconst 2, 1) := by decide +kernel
theorem dX11_peg_70 : decode cX11_peg 70 = .ok (.invokestatic 89, 3) := by decide +kernel
theorem dX11_peg_73 : decode cX11_peg 73 = .ok (.ifCond .ne 7, 3) := by decide +kernel
theorem dX11_peg_76 : decode cX11_peg 76 = .ok (.iconst 2, 1) := by decide +kernel
theorem dX11_peg_77 : decode cX11_peg 77 = .ok (.goto 24, 3) := by decide +kernel
theorem dX11_peg_80 : decode cX11_peg 80 = .ok (.iload 5, 2) := by decide +kernel
theorem dX11_peg_82 : decode cX11_peg 82 = .ok (.ifCond .ne 7, 3) := by decide +kernel
theorem dX11_peg_85 : decode cX11_peg 85 = .ok (.iconst 1, 1) := by decide +kernel
theorem dX11_peg_86 : decode cX11_peg 86 = .ok (.goto 15, 3) := by decide +kernel
theorem dX11_peg_89 : decode cX11_peg 89 = .ok (.aload_n 0, 1) := by decide +kernel
theorem dX11_peg_90 : decode cX11_peg 90 = .ok (.getfield 61, 3) := by decide +kernel
theorem dX11_peg_93 : decode cX11_peg 93 = .ok (.ifCond .eq 7, 3) := by decide +kernel
theorem dX11_peg_96 : decode cX11_peg 96 = .ok (.iconst 3, 1) := by decide +kernel
theorem dX11_peg_97 : decode cX11_peg 97 = .ok (.goto 4, 3) := by decide +kernel
theorem dX11_peg_100 : decode cX11_peg 100 = .ok (.iconst 0, 1) := by decide +kernel
theorem dX11_peg_101 : decode cX11_peg 101 = .ok (.invokevirtual 97, 3) := by decide +kernel
theorem dX11_peg_104 : decode cX11_peg 104 = .ok (.ifCond .eq 5, 3) := by decide +kernel
theorem dX11_peg_107 : decode cX11_peg 107 = .ok (.lconst 0, 1) := by decide +kernel
theorem dX11_peg_108 : decode cX11_peg 108 = .ok (.lreturn, 1) := by decide +kernel
theorem dX11_peg_109 : decode cX11_peg 109 = .ok (.aload_n 0, 1) := by decide +kernel
theorem dX11_peg_110 : decode cX11_peg 110 = .ok (.getfield 52, 3) := by decide +kernel
theorem dX11_peg_113 : decode cX11_peg 113 = .ok (.iload_n 1, 1) := by decide +kernel
theorem dX11_peg_114 : decode cX11_peg 114 = .ok (.iaload, 1) := by decide +kernel
theorem dX11_peg_115 : decode cX11_peg 115 = .ok (.istore 6, 2) := by decide +kernel
theorem dX11_peg_117 : decode cX11_peg 117 = .ok (.iload_n 2, 1) := by decide +kernel
theorem dX11_peg_118 : decode cX11_peg 118 = .ok (.iconst 1, 1) := by decide +kernel
theorem dX11_peg_119 : decode cX11_peg 119 = .ok (.if_icmp .ne 19, 3) := by decide +kernel
theorem dX11_peg_122 : decode cX11_peg 122 = .ok (.aload_n 0, 1) := by decide +kernel
theorem dX11_peg_123 : decode cX11_peg 123 = .ok (.getfield 52, 3) := by decide +kernel
theorem dX11_peg_126 : decode cX11_peg 126 = .ok (.bipush 24, 2) := by decide +kernel
theorem dX11_peg_128 : decode cX11_peg 128 = .ok (.iload_n 3, 1) := by decide +kernel
theorem dX11_peg_129 : decode cX11_peg 129 = .ok (.iadd, 1) := by decide +kernel
theorem dX11_peg_130 : decode cX11_peg 130 = .ok (.iaload, 1) := by decide +kernel
theorem dX11_peg_131 : decode cX11_peg 131 = .ok (.iload 6, 2) := by decide +kernel
theorem dX11_peg_133 : decode cX11_peg 133 = .ok (.if_icmp .eq 5, 3) := by decide +kernel
theorem dX11_peg_136 : decode cX11_peg 136 = .ok (.lconst 0, 1) := by decide +kernel
theorem dX11_peg_137 : decode cX11_peg 137 = .ok (.lreturn, 1) := by decide +kernel
theorem dX11_peg_138 : decode cX11_peg 138 = .ok (.aload_n 0, 1) := by decide +kernel
theorem dX11_peg_139 : decode cX11_peg 139 = .ok (.getfield 55, 3) := by decide +kernel
theorem dX11_peg_142 : decode cX11_peg 142 = .ok (.iload_n 1, 1) := by decide +kernel
theorem dX11_peg_143 : decode cX11_peg 143 = .ok (.iaload, 1) := by decide +kernel
theorem dX11_peg_144 : decode cX11_peg 144 = .ok (.ifCond .le 23, 3) := by decide +kernel
theorem dX11_peg_147 : decode cX11_peg 147 = .ok (.aload_n 0, 1) := by decide +kernel
theorem dX11_peg_148 : decode cX11_peg 148 = .ok (.getfield 69, 3) := by decide +kernel
theorem dX11_peg_151 : decode cX11_peg 151 = .ok (.iload 6, 2) := by decide +kernel
theorem dX11_peg_153 : decode cX11_peg 153 = .ok (.aload_n 0, 1) := by decide +kernel
theorem dX11_peg_154 : decode cX11_peg 154 = .ok (.getfield 55, 3) := by decide +kernel
theorem dX11_peg_157 : decode cX11_peg 157 = .ok (.iload_n 1, 1) := by decide +kernel
theorem dX11_peg_158 : decode cX11_peg 158 = .ok (.iaload, 1) := by decide +kernel
theorem dX11_peg_159 : decode cX11_peg 159 = .ok (.iconst 1, 1) := by decide +kernel
theorem dX11_peg_160 : decode cX11_peg 160 = .ok (.isub, 1) := by decide +kernel
theorem dX11_peg_161 : decode cX11_peg 161 = .ok (.invokestatic 131, 3) := by decide +kernel
theorem dX11_peg_164 : decode cX11_peg 164 = .ok (.goto 4, 3) := by decide +kernel
theorem dX11_peg_167 : decode cX11_peg 167 = .ok (.lconst 0, 1) := by decide +kernel
theorem dX11_peg_168 : decode cX11_peg 168 = .ok (.lstore 7, 2) := by decide +kernel
theorem dX11_peg_170 : decode cX11_peg 170 = .ok (.iconst 0, 1) := by decide +kernel
theorem dX11_peg_171 : decode cX11_peg 171 = .ok (.istore 9, 2) := by decide +kernel
theorem dX11_peg_173 : decode cX11_peg 173 = .ok (.iload 9, 2) := by decide +kernel
theorem dX11_peg_175 : decode cX11_peg 175 = .ok (.iload_n 1, 1) := by decide +kernel
theorem dX11_peg_176 : decode cX11_peg 176 = .ok (.if_icmp .ge 55, 3) := by decide +kernel
theorem dX11_peg_179 : decode cX11_peg 179 = .ok (.aload_n 0, 1) := by decide +kernel
theorem dX11_peg_180 : decode cX11_peg 180 = .ok (.getfield 52, 3) := by decide +kernel
theorem dX11_peg_183 : decode cX11_peg 183 = .ok (.iload 9, 2) := by decide +kernel
theorem dX11_peg_185 : decode cX11_peg 185 = .ok (.iaload, 1) := by decide +kernel
theorem dX11_peg_186 : decode cX11_peg 186 = .ok (.iload 6, 2) := by decide +kernel
theorem dX11_peg_188 : decode cX11_peg 188 = .ok (.if_icmp .ne 33, 3) := by decide +kernel
theorem dX11_peg_191 : decode cX11_peg 191 = .ok (.aload_n 0, 1) := by decide +kernel
theorem dX11_peg_192 : decode cX11_peg 192 = .ok (.getfield 55, 3) := by decide +kernel
theorem dX11_peg_195 : decode cX11_peg 195 = .ok (.iload 9, 2) := by decide +kernel
theorem dX11_peg_197 : decode cX11_peg 197 = .ok (.iaload, 1) := by decide +kernel
theorem dX11_peg_198 : decode cX11_peg 198 = .ok (.aload_n 0, 1) := by decide +kernel
theorem dX11_peg_199 : decode cX11_peg 199 = .ok (.getfield 55, 3) := by decide +kernel
theorem dX11_peg_202 : decode cX11_peg 202 = .ok (.iload_n 1, 1) := by decide +kernel
theorem dX11_peg_203 : decode cX11_peg 203 = .ok (.iaload, 1) := by decide +kernel
theorem dX11_peg_204 : decode cX11_peg 204 = .ok (.if_icmp .ne 17, 3) := by decide +kernel
theorem dX11_peg_207 : decode cX11_peg 207 = .ok (.lload 7, 2) := by decide +kernel
theorem dX11_peg_209 : decode cX11_peg 209 = .ok (.aload_n 0, 1) := by decide +kernel
theorem dX11_peg_210 : decode cX11_peg 210 = .ok (.getfield 58, 3) := by decide +kernel
theorem dX11_peg_213 : decode cX11_peg 213 = .ok (.iload 9, 2) := by decide +kernel
theorem dX11_peg_215 : decode cX11_peg 215 = .ok (.iaload, 1) := by decide +kernel
theorem dX11_peg_216 : decode cX11_peg 216 = .ok (.i2l, 1) := by decide +kernel
theorem dX11_peg_217 : decode cX11_peg 217 = .ok (.ladd, 1) := by decide +kernel
theorem dX11_peg_218 : decode cX11_peg 218 = .ok (.goto 5, 3) := by decide +kernel
theorem dX11_peg_221 : decode cX11_peg 221 = .ok (.lload 7, 2) := by decide +kernel
theorem dX11_peg_223 : decode cX11_peg 223 = .ok (.lstore 7, 2) := by decide +kernel
theorem dX11_peg_225 : decode cX11_peg 225 = .ok (.iinc 9 1, 3) := by decide +kernel
theorem dX11_peg_228 : decode cX11_peg 228 = .ok (.goto (-55), 3) := by decide +kernel
theorem dX11_peg_231 : decode cX11_peg 231 = .ok (.lload 7, 2) := by decide +kernel
theorem dX11_peg_233 : decode cX11_peg 233 = .ok (.aload_n 0, 1) := by decide +kernel
theorem dX11_peg_234 : decode cX11_peg 234 = .ok (.getfield 58, 3) := by decide +kernel
theorem dX11_peg_237 : decode cX11_peg 237 = .ok (.iload_n 1, 1) := by decide +kernel
theorem dX11_peg_238 : decode cX11_peg 238 = .ok (.iaload, 1) := by decide +kernel
theorem dX11_peg_239 : decode cX11_peg 239 = .ok (.i2l, 1) := by decide +kernel
theorem dX11_peg_240 : decode cX11_peg 240 = .ok (.ladd, 1) := by decide +kernel
theorem dX11_peg_241 : decode cX11_peg 241 = .ok (.lstore 9, 2) := by decide +kernel
theorem dX11_peg_243 : decode cX11_peg 243 = .ok (.iload_n 2, 1) := by decide +kernel
theorem dX11_peg_244 : decode cX11_peg 244 = .ok (.ifCond .ne 7, 3) := by decide +kernel
theorem dX11_peg_247 : decode cX11_peg 247 = .ok (.lconst 0, 1) := by decide +kernel
theorem dX11_peg_248 : decode cX11_peg 248 = .ok (.goto 11, 3) := by decide +kernel
theorem dX11_peg_251 : decode cX11_peg 251 = .ok (.aload_n 0, 1) := by decide +kernel
theorem dX11_peg_252 : decode cX11_peg 252 = .ok (.iload 6, 2) := by decide +kernel
theorem dX11_peg_254 : decode cX11_peg 254 = .ok (.iload_n 2, 1) := by decide +kernel
theorem dX11_peg_255 : decode cX11_peg 255 = .ok (.iload_n 3, 1) := by decide +kernel
theorem dX11_peg_256 : decode cX11_peg 256 = .ok (.invokevirtual 183, 3) := by decide +kernel
theorem dX11_peg_259 : decode cX11_peg 259 = .ok (.lstore 11, 2) := by decide +kernel
theorem dX11_peg_261 : decode cX11_peg 261 = .ok (.iload_n 2, 1) := by decide +kernel
theorem dX11_peg_262 : decode cX11_peg 262 = .ok (.ifCond .ne 14, 3) := by decide +kernel
theorem dX11_peg_265 : decode cX11_peg 265 = .ok (.aload_n 0, 1) := by decide +kernel
theorem dX11_peg_266 : decode cX11_peg 266 = .ok (.getfield 31, 3) := by decide +kernel
theorem dX11_peg_269 : decode cX11_peg 269 = .ok (.iload 6, 2) := by decide +kernel
theorem dX11_peg_271 : decode cX11_peg 271 = .ok (.iaload, 1) := by decide +kernel
theorem dX11_peg_272 : decode cX11_peg 272 = .ok (.i2l, 1) := by decide +kernel
theorem dX11_peg_273 : decode cX11_peg 273 = .ok (.goto 36, 3) := by decide +kernel
theorem dX11_peg_276 : decode cX11_peg 276 = .ok (.lload 11, 2) := by decide +kernel
theorem dX11_peg_278 : decode cX11_peg 278 = .ok (.iload_n 2, 1) := by decide +kernel
theorem dX11_peg_279 : decode cX11_peg 279 = .ok (.iconst 1, 1) := by decide +kernel
theorem dX11_peg_280 : decode cX11_peg 280 = .ok (.if_icmp .ne 16, 3) := by decide +kernel
theorem dX11_peg_283 : decode cX11_peg 283 = .ok (.aload_n 0, 1) := by decide +kernel
theorem dX11_peg_284 : decode cX11_peg 284 = .ok (.getfield 58, 3) := by decide +kernel
theorem dX11_peg_287 : decode cX11_peg 287 = .ok (.bipush 24, 2) := by decide +kernel
theorem dX11_peg_289 : decode cX11_peg 289 = .ok (.iload_n 3, 1) := by decide +kernel
theorem dX11_peg_290 : decode cX11_peg 290 = .ok (.iadd, 1) := by decide +kernel
theorem dX11_peg_291 : decode cX11_peg 291 = .ok (.iaload, 1) := by decide +kernel
theorem dX11_peg_292 : decode cX11_peg 292 = .ok (.i2l, 1) := by decide +kernel
theorem dX11_peg_293 : decode cX11_peg 293 = .ok (.goto 15, 3) := by decide +kernel
theorem dX11_peg_296 : decode cX11_peg 296 = .ok (.aload_n 0, 1) := by decide +kernel
theorem dX11_peg_297 : decode cX11_peg 297 = .ok (.getfield 73, 3) := by decide +kernel
theorem dX11_peg_300 : decode cX11_peg 300 = .ok (.bipush 12, 2) := by decide +kernel
theorem dX11_peg_302 : decode cX11_peg 302 = .ok (.iload 6, 2) := by decide +kernel
theorem dX11_peg_304 : decode cX11_peg 304 = .ok (.imul, 1) := by decide +kernel
theorem dX11_peg_305 : decode cX11_peg 305 = .ok (.iload_n 3, 1) := by decide +kernel
theorem dX11_peg_306 : decode cX11_peg 306 = .ok (.iadd, 1) := by decide +kernel
theorem dX11_peg_307 : decode cX11_peg 307 = .ok (.laload, 1) := by decide +kernel
theorem dX11_peg_308 : decode cX11_peg 308 = .ok (.ladd, 1) := by decide +kernel
theorem dX11_peg_309 : decode cX11_peg 309 = .ok (.lstore 13, 2) := by decide +kernel
theorem dX11_peg_311 : decode cX11_peg 311 = .ok (.lload 7, 2) := by decide +kernel
theorem dX11_peg_313 : decode cX11_peg 313 = .ok (.lload 11, 2) := by decide +kernel
theorem dX11_peg_315 : decode cX11_peg 315 = .ok (.lcmp, 1) := by decide +kernel
theorem dX11_peg_316 : decode cX11_peg 316 = .ok (.ifCond .le 8, 3) := by decide +kernel
theorem dX11_peg_319 : decode cX11_peg 319 = .ok (.lload 7, 2) := by decide +kernel
theorem dX11_peg_321 : decode cX11_peg 321 = .ok (.goto 5, 3) := by decide +kernel
theorem dX11_peg_324 : decode cX11_peg 324 = .ok (.lload 11, 2) := by decide +kernel
theorem dX11_peg_326 : decode cX11_peg 326 = .ok (.lstore 15, 2) := by decide +kernel
theorem dX11_peg_328 : decode cX11_peg 328 = .ok (.lload 9, 2) := by decide +kernel
theorem dX11_peg_330 : decode cX11_peg 330 = .ok (.lload 13, 2) := by decide +kernel
theorem dX11_peg_332 : decode cX11_peg 332 = .ok (.lcmp, 1) := by decide +kernel
theorem dX11_peg_333 : decode cX11_peg 333 = .ok (.ifCond .ge 8, 3) := by decide +kernel
theorem dX11_peg_336 : decode cX11_peg 336 = .ok (.lload 9, 2) := by decide +kernel
theorem dX11_peg_338 : decode cX11_peg 338 = .ok (.goto 5, 3) := by decide +kernel
theorem dX11_peg_341 : decode cX11_peg 341 = .ok (.lload 13, 2) := by decide +kernel
theorem dX11_peg_343 : decode cX11_peg 343 = .ok (.lstore 17, 2) := by decide +kernel
theorem dX11_peg_345 : decode cX11_peg 345 = .ok (.lload 17, 2) := by decide +kernel
theorem dX11_peg_347 : decode cX11_peg 347 = .ok (.lload 15, 2) := by decide +kernel
theorem dX11_peg_349 : decode cX11_peg 349 = .ok (.lcmp, 1) := by decide +kernel
theorem dX11_peg_350 : decode cX11_peg 350 = .ok (.ifCond .le 11, 3) := by decide +kernel
theorem dX11_peg_353 : decode cX11_peg 353 = .ok (.lload 17, 2) := by decide +kernel
theorem dX11_peg_355 : decode cX11_peg 355 = .ok (.lload 15, 2) := by decide +kernel
theorem dX11_peg_357 : decode cX11_peg 357 = .ok (.lsub, 1) := by decide +kernel
theorem dX11_peg_358 : decode cX11_peg 358 = .ok (.goto 4, 3) := by decide +kernel
theorem dX11_peg_361 : decode cX11_peg 361 = .ok (.lconst 0, 1) := by decide +kernel
theorem dX11_peg_362 : decode cX11_peg 362 = .ok (.lreturn, 1) := by decide +kernel
theorem dX11_supplied_0 : decode cX11_supplied 0 = .ok (.iload_n 2, 1) := by decide +kernel
theorem dX11_supplied_1 : decode cX11_supplied 1 = .ok (.iconst 1, 1) := by decide +kernel
theorem dX11_supplied_2 : decode cX11_supplied 2 = .ok (.if_icmp .ne 15, 3) := by decide +kernel
theorem dX11_supplied_5 : decode cX11_supplied 5 = .ok (.aload_n 0, 1) := by decide +kernel
theorem dX11_supplied_6 : decode cX11_supplied 6 = .ok (.getfield 55, 3) := by decide +kernel
theorem dX11_supplied_9 : decode cX11_supplied 9 = .ok (.bipush 24, 2) := by decide +kernel
theorem dX11_supplied_11 : decode cX11_supplied 11 = .ok (.iload_n 3, 1) := by decide +kernel
theorem dX11_supplied_12 : decode cX11_supplied 12 = .ok (.iadd, 1) := by decide +kernel
theorem dX11_supplied_13 : decode cX11_supplied 13 = .ok (.iaload, 1) := by decide +kernel
theorem dX11_supplied_14 : decode cX11_supplied 14 = .ok (.goto 4, 3) := by decide +kernel
theorem dX11_supplied_17 : decode cX11_supplied 17 = .ok (.iload_n 3, 1) := by decide +kernel
theorem dX11_supplied_18 : decode cX11_supplied 18 = .ok (.istore 4, 2) := by decide +kernel
theorem dX11_supplied_20 : decode cX11_supplied 20 = .ok (.aload_n 0, 1) := by decide +kernel
theorem dX11_supplied_21 : decode cX11_supplied 21 = .ok (.getfield 31, 3) := by decide +kernel
theorem dX11_supplied_24 : decode cX11_supplied 24 = .ok (.iload_n 1, 1) := by decide +kernel
theorem dX11_supplied_25 : decode cX11_supplied 25 = .ok (.iaload, 1) := by decide +kernel
theorem dX11_supplied_26 : decode cX11_supplied 26 = .ok (.i2l, 1) := by decide +kernel
theorem dX11_supplied_27 : decode cX11_supplied 27 = .ok (.lstore 5, 2) := by decide +kernel
theorem dX11_supplied_29 : decode cX11_supplied 29 = .ok (.bipush 24, 2) := by decide +kernel
theorem dX11_supplied_31 : decode cX11_supplied 31 = .ok (.istore 7, 2) := by decide +kernel
theorem dX11_supplied_33 : decode cX11_supplied 33 = .ok (.iload 7, 2) := by decide +kernel
theorem dX11_supplied_35 : decode cX11_supplied 35 = .ok (.bipush 24, 2) := by decide +kernel
theorem dX11_supplied_37 : decode cX11_supplied 37 = .ok (.aload_n 0, 1) := by decide +kernel
theorem dX11_supplied_38 : decode cX11_supplied 38 = .ok (.getfield 49, 3) := by decide +kernel
theorem dX11_supplied_41 : decode cX11_supplied 41 = .ok (.iconst 1, 1) := by decide +kernel
theorem dX11_supplied_42 : decode cX11_supplied 42 = .ok (.iaload, 1) := by decide +kernel
theorem dX11_supplied_43 : decode cX11_supplied 43 = .ok (.iadd, 1) := by decide +kernel
theorem dX11_supplied_44 : decode cX11_supplied 44 = .ok (.if_icmp .ge 88, 3) := by decide +kernel
theorem dX11_supplied_47 : decode cX11_supplied 47 = .ok (.aload_n 0, 1) := by decide +kernel
theorem dX11_supplied_48 : decode cX11_supplied 48 = .ok (.getfield 55, 3) := by decide +kernel
theorem dX11_supplied_51 : decode cX11_supplied 51 = .ok (.iload 7, 2) := by decide +kernel
theorem dX11_supplied_53 : decode cX11_supplied 53 = .ok (.iaload, 1) := by decide +kernel
theorem dX11_supplied_54 : decode cX11_supplied 54 = .ok (.iload 4, 2) := by decide +kernel
theorem dX11_supplied_56 : decode cX11_supplied 56 = .ok (.if_icmp .ne 21, 3) := by decide +kernel
theorem dX11_supplied_59 : decode cX11_supplied 59 = .ok (.iload_n 2, 1) := by decide +kernel
theorem dX11_supplied_60 : decode cX11_supplied 60 = .ok (.iconst 2, 1) := by decide +kernel
theorem dX11_supplied_61 : decode cX11_supplied 61 = .ok (.if_icmp .eq 12, 3) := by decide +kernel
theorem dX11_supplied_64 : decode cX11_supplied 64 = .ok (.iload 7, 2) := by decide +kernel
theorem dX11_supplied_66 : decode cX11_supplied 66 = .ok (.bipush 24, 2) := by decide +kernel
theorem dX11_supplied_68 : decode cX11_supplied 68 = .ok (.iload_n 3, 1) := by decide +kernel
theorem dX11_supplied_69 : decode cX11_supplied 69 = .ok (.iadd, 1) := by decide +kernel
theorem dX11_supplied_70 : decode cX11_supplied 70 = .ok (.if_icmp .ge 7, 3) := by decide +kernel
theorem dX11_supplied_73 : decode cX11_supplied 73 = .ok (.iconst 1, 1) := by decide +kernel
theorem dX11_supplied_74 : decode cX11_supplied 74 = .ok (.goto 4, 3) := by decide +kernel
theorem dX11_supplied_77 : decode cX11_supplied 77 = .ok (.iconst 0, 1) := by decide +kernel
theorem dX11_supplied_78 : decode cX11_supplied 78 = .ok (.istore 8, 2) := by decide +kernel
theorem dX11_supplied_80 : decode cX11_supplied 80 = .ok (.aload_n 0, 1) := by decide +kernel
theorem dX11_supplied_81 : decode cX11_supplied 81 = .ok (.getfield 52, 3) := by decide +kernel
theorem dX11_supplied_84 : decode cX11_supplied 84 = .ok (.iload 7, 2) := by decide +kernel
theorem dX11_supplied_86 : decode cX11_supplied 86 = .ok (.iaload, 1) := by decide +kernel
theorem dX11_supplied_87 : decode cX11_supplied 87 = .ok (.iload_n 1, 1) := by decide +kernel
theorem dX11_supplied_88 : decode cX11_supplied 88 = .ok (.if_icmp .ne 34, 3) := by decide +kernel
theorem dX11_supplied_91 : decode cX11_supplied 91 = .ok (.aload_n 0, 1) := by decide +kernel
theorem dX11_supplied_92 : decode cX11_supplied 92 = .ok (.getfield 55, 3) := by decide +kernel
theorem dX11_supplied_95 : decode cX11_supplied 95 = .ok (.iload 7, 2) := by decide +kernel
theorem dX11_supplied_97 : decode cX11_supplied 97 = .ok (.iaload, 1) := by decide +kernel
theorem dX11_supplied_98 : decode cX11_supplied 98 = .ok (.iload 4, 2) := by decide +kernel
theorem dX11_supplied_100 : decode cX11_supplied 100 = .ok (.if_icmp .lt 8, 3) := by decide +kernel
theorem dX11_supplied_103 : decode cX11_supplied 103 = .ok (.iload 8, 2) := by decide +kernel
theorem dX11_supplied_105 : decode cX11_supplied 105 = .ok (.ifCond .eq 17, 3) := by decide +kernel
theorem dX11_supplied_108 : decode cX11_supplied 108 = .ok (.lload 5, 2) := by decide +kernel
theorem dX11_supplied_110 : decode cX11_supplied 110 = .ok (.aload_n 0, 1) := by decide +kernel
theorem dX11_supplied_111 : decode cX11_supplied 111 = .ok (.getfield 58, 3) := by decide +kernel
theorem dX11_supplied_114 : decode cX11_supplied 114 = .ok (.iload 7, 2) := by decide +kernel
theorem dX11_supplied_116 : decode cX11_supplied 116 = .ok (.iaload, 1) := by decide +kernel
theorem dX11_supplied_117 : decode cX11_supplied 117 = .ok (.i2l, 1) := by decide +kernel
theorem dX11_supplied_118 : decode cX11_supplied 118 = .ok (.ladd, 1) := by decide +kernel
theorem dX11_supplied_119 : decode cX11_supplied 119 = .ok (.goto 5, 3) := by decide +kernel
theorem dX11_supplied_122 : decode cX11_supplied 122 = .ok (.lload 5, 2) := by decide +kernel
theorem dX11_supplied_124 : decode cX11_supplied 124 = .ok (.lstore 5, 2) := by decide +kernel
theorem dX11_supplied_126 : decode cX11_supplied 126 = .ok (.iinc 7 1, 3) := by decide +kernel
theorem dX11_supplied_129 : decode cX11_supplied 129 = .ok (.goto (-96), 3) := by decide +kernel
theorem dX11_supplied_132 : decode cX11_supplied 132 = .ok (.lload 5, 2) := by decide +kernel
theorem dX11_supplied_134 : decode cX11_supplied 134 = .ok (.iload 4, 2) := by decide +kernel
theorem dX11_supplied_136 : decode cX11_supplied 136 = .ok (.ifCond .le 18, 3) := by decide +kernel
theorem dX11_supplied_139 : decode cX11_supplied 139 = .ok (.aload_n 0, 1) := by decide +kernel
theorem dX11_supplied_140 : decode cX11_supplied 140 = .ok (.getfield 73, 3) := by decide +kernel
theorem dX11_supplied_143 : decode cX11_supplied 143 = .ok (.iload_n 1, 1) := by decide +kernel
theorem dX11_supplied_144 : decode cX11_supplied 144 = .ok (.iload 4, 2) := by decide +kernel
theorem dX11_supplied_146 : decode cX11_supplied 146 = .ok (.iconst 1, 1) := by decide +kernel
theorem dX11_supplied_147 : decode cX11_supplied 147 = .ok (.isub, 1) := by decide +kernel
theorem dX11_supplied_148 : decode cX11_supplied 148 = .ok (.invokestatic 131, 3) := by decide +kernel
theorem dX11_supplied_151 : decode cX11_supplied 151 = .ok (.goto 4, 3) := by decide +kernel
theorem dX11_supplied_154 : decode cX11_supplied 154 = .ok (.lconst 0, 1) := by decide +kernel
theorem dX11_supplied_155 : decode cX11_supplied 155 = .ok (.ladd, 1) := by decide +kernel
theorem dX11_supplied_156 : decode cX11_supplied 156 = .ok (.lreturn, 1) := by decide +kernel
theorem dX11_promise_0 : decode cX11_promise 0 = .ok (.aload_n 0, 1) := by decide +kernel
theorem dX11_promise_1 : decode cX11_promise 1 = .ok (.iload_n 1, 1) := by decide +kernel
theorem dX11_promise_2 : decode cX11_promise 2 = .ok (.invokestatic 93, 3) := by decide +kernel
theorem dX11_promise_5 : decode cX11_promise 5 = .ok (.ifCond .eq 10, 3) := by decide +kernel
theorem dX11_promise_8 : decode cX11_promise 8 = .ok (.iload_n 3, 1) := by decide +kernel
theorem dX11_promise_9 : decode cX11_promise 9 = .ok (.invokestatic 93, 3) := by decide +kernel
theorem dX11_promise_12 : decode cX11_promise 12 = .ok (.ifCond .ne 7, 3) := by decide +kernel
theorem dX11_promise_15 : decode cX11_promise 15 = .ok (.iconst 1, 1) := by decide +kernel
theorem dX11_promise_16 : decode cX11_promise 16 = .ok (.goto 30, 3) := by decide +kernel
theorem dX11_promise_19 : decode cX11_promise 19 = .ok (.iload_n 2, 1) := by decide +kernel
theorem dX11_promise_20 : decode cX11_promise 20 = .ok (.iconst 1, 1) := by decide +kernel
theorem dX11_promise_21 : decode cX11_promise 21 = .ok (.sipush 1000, 3) := by decide +kernel
theorem dX11_promise_24 : decode cX11_promise 24 = .ok (.invokestatic 89, 3) := by decide +kernel
theorem dX11_promise_27 : decode cX11_promise 27 = .ok (.ifCond .ne 7, 3) := by decide +kernel
theorem dX11_promise_30 : decode cX11_promise 30 = .ok (.iconst 2, 1) := by decide +kernel
theorem dX11_promise_31 : decode cX11_promise 31 = .ok (.goto 15, 3) := by decide +kernel
theorem dX11_promise_34 : decode cX11_promise 34 = .ok (.aload_n 0, 1) := by decide +kernel
theorem dX11_promise_35 : decode cX11_promise 35 = .ok (.getfield 61, 3) := by decide +kernel
theorem dX11_promise_38 : decode cX11_promise 38 = .ok (.ifCond .eq 7, 3) := by decide +kernel
theorem dX11_promise_41 : decode cX11_promise 41 = .ok (.iconst 3, 1) := by decide +kernel
theorem dX11_promise_42 : decode cX11_promise 42 = .ok (.goto 4, 3) := by decide +kernel
theorem dX11_promise_45 : decode cX11_promise 45 = .ok (.iconst 0, 1) := by decide +kernel
theorem dX11_promise_46 : decode cX11_promise 46 = .ok (.invokevirtual 97, 3) := by decide +kernel
theorem dX11_promise_49 : decode cX11_promise 49 = .ok (.ifCond .eq 5, 3) := by decide +kernel
theorem dX11_promise_52 : decode cX11_promise 52 = .ok (.iconst 0, 1) := by decide +kernel
theorem dX11_promise_53 : decode cX11_promise 53 = .ok (.ireturn, 1) := by decide +kernel
theorem dX11_promise_54 : decode cX11_promise 54 = .ok (.iload_n 3, 1) := by decide +kernel
theorem dX11_promise_55 : decode cX11_promise 55 = .ok (.istore 4, 2) := by decide +kernel
theorem dX11_promise_57 : decode cX11_promise 57 = .ok (.iload 4, 2) := by decide +kernel
theorem dX11_promise_59 : decode cX11_promise 59 = .ok (.bipush 12, 2) := by decide +kernel
theorem dX11_promise_61 : decode cX11_promise 61 = .ok (.if_icmp .ge 23, 3) := by decide +kernel
theorem dX11_promise_64 : decode cX11_promise 64 = .ok (.aload_n 0, 1) := by decide +kernel
theorem dX11_promise_65 : decode cX11_promise 65 = .ok (.iload_n 1, 1) := by decide +kernel
theorem dX11_promise_66 : decode cX11_promise 66 = .ok (.iload_n 2, 1) := by decide +kernel
theorem dX11_promise_67 : decode cX11_promise 67 = .ok (.iload 4, 2) := by decide +kernel
theorem dX11_promise_69 : decode cX11_promise 69 = .ok (.invokevirtual 186, 3) := by decide +kernel
theorem dX11_promise_72 : decode cX11_promise 72 = .ok (.ifCond .eq 6, 3) := by decide +kernel
theorem dX11_promise_75 : decode cX11_promise 75 = .ok (.iload 4, 2) := by decide +kernel
theorem dX11_promise_77 : decode cX11_promise 77 = .ok (.ireturn, 1) := by decide +kernel
theorem dX11_promise_78 : decode cX11_promise 78 = .ok (.iinc 4 1, 3) := by decide +kernel
theorem dX11_promise_81 : decode cX11_promise 81 = .ok (.goto (-24), 3) := by decide +kernel
theorem dX11_promise_84 : decode cX11_promise 84 = .ok (.iconst (-1), 1) := by decide +kernel
theorem dX11_promise_85 : decode cX11_promise 85 = .ok (.ireturn, 1) := by decide +kernel
theorem dX11_isTrue_0 : decode cX11_isTrue 0 = .ok (.iconst 1, 1) := by decide +kernel
theorem dX11_isTrue_1 : decode cX11_isTrue 1 = .ok (.istore 4, 2) := by decide +kernel
theorem dX11_isTrue_3 : decode cX11_isTrue 3 = .ok (.iload_n 3, 1) := by decide +kernel
theorem dX11_isTrue_4 : decode cX11_isTrue 4 = .ok (.istore 5, 2) := by decide +kernel
theorem dX11_isTrue_6 : decode cX11_isTrue 6 = .ok (.iload 5, 2) := by decide +kernel
theorem dX11_isTrue_8 : decode cX11_isTrue 8 = .ok (.bipush 12, 2) := by decide +kernel
theorem dX11_isTrue_10 : decode cX11_isTrue 10 = .ok (.if_icmp .ge 54, 3) := by decide +kernel
theorem dX11_isTrue_13 : decode cX11_isTrue 13 = .ok (.iload 4, 2) := by decide +kernel
theorem dX11_isTrue_15 : decode cX11_isTrue 15 = .ok (.ifCond .eq 40, 3) := by decide +kernel
theorem dX11_isTrue_18 : decode cX11_isTrue 18 = .ok (.aload_n 0, 1) := by decide +kernel
theorem dX11_isTrue_19 : decode cX11_isTrue 19 = .ok (.iload_n 1, 1) := by decide +kernel
theorem dX11_isTrue_20 : decode cX11_isTrue 20 = .ok (.iload 5, 2) := by decide +kernel
theorem dX11_isTrue_22 : decode cX11_isTrue 22 = .ok (.invokevirtual 143, 3) := by decide +kernel
theorem dX11_isTrue_25 : decode cX11_isTrue 25 = .ok (.aload_n 0, 1) := by decide +kernel
theorem dX11_isTrue_26 : decode cX11_isTrue 26 = .ok (.getfield 73, 3) := by decide +kernel
theorem dX11_isTrue_29 : decode cX11_isTrue 29 = .ok (.iload_n 1, 1) := by decide +kernel
theorem dX11_isTrue_30 : decode cX11_isTrue 30 = .ok (.iload 5, 2) := by decide +kernel
theorem dX11_isTrue_32 : decode cX11_isTrue 32 = .ok (.invokestatic 131, 3) := by decide +kernel
theorem dX11_isTrue_35 : decode cX11_isTrue 35 = .ok (.ladd, 1) := by decide +kernel
theorem dX11_isTrue_36 : decode cX11_isTrue 36 = .ok (.aload_n 0, 1) := by decide +kernel
theorem dX11_isTrue_37 : decode cX11_isTrue 37 = .ok (.iconst 2, 1) := by decide +kernel
theorem dX11_isTrue_38 : decode cX11_isTrue 38 = .ok (.iload_n 1, 1) := by decide +kernel
theorem dX11_isTrue_39 : decode cX11_isTrue 39 = .ok (.iload 5, 2) := by decide +kernel
theorem dX11_isTrue_41 : decode cX11_isTrue 41 = .ok (.invokevirtual 127, 3) := by decide +kernel
theorem dX11_isTrue_44 : decode cX11_isTrue 44 = .ok (.lsub, 1) := by decide +kernel
theorem dX11_isTrue_45 : decode cX11_isTrue 45 = .ok (.iload_n 2, 1) := by decide +kernel
theorem dX11_isTrue_46 : decode cX11_isTrue 46 = .ok (.i2l, 1) := by decide +kernel
theorem dX11_isTrue_47 : decode cX11_isTrue 47 = .ok (.lcmp, 1) := by decide +kernel
theorem dX11_isTrue_48 : decode cX11_isTrue 48 = .ok (.ifCond .lt 7, 3) := by decide +kernel
theorem dX11_isTrue_51 : decode cX11_isTrue 51 = .ok (.iconst 1, 1) := by decide +kernel
theorem dX11_isTrue_52 : decode cX11_isTrue 52 = .ok (.goto 4, 3) := by decide +kernel
theorem dX11_isTrue_55 : decode cX11_isTrue 55 = .ok (.iconst 0, 1) := by decide +kernel
theorem dX11_isTrue_56 : decode cX11_isTrue 56 = .ok (.istore 4, 2) := by decide +kernel
theorem dX11_isTrue_58 : decode cX11_isTrue 58 = .ok (.iinc 5 1, 3) := by decide +kernel
theorem dX11_isTrue_61 : decode cX11_isTrue 61 = .ok (.goto (-55), 3) := by decide +kernel
theorem dX11_isTrue_64 : decode cX11_isTrue 64 = .ok (.iload 4, 2) := by decide +kernel
theorem dX11_isTrue_66 : decode cX11_isTrue 66 = .ok (.ireturn, 1) := by decide +kernel
theorem dX11_reserve_0 : decode cX11_reserve 0 = .ok (.iload_n 1, 1) := by decide +kernel
theorem dX11_reserve_1 : decode cX11_reserve 1 = .ok (.invokestatic 93, 3) := by decide +kernel
theorem dX11_reserve_4 : decode cX11_reserve 4 = .ok (.ifCond .eq 14, 3) := by decide +kernel
theorem dX11_reserve_7 : decode cX11_reserve 7 = .ok (.iload_n 3, 1) := by decide +kernel
theorem dX11_reserve_8 : decode cX11_reserve 8 = .ok (.invokestatic 93, 3) := by decide +kernel
theorem dX11_reserve_11 : decode cX11_reserve 11 = .ok (.ifCond .eq 7, 3) := by decide +kernel
theorem dX11_reserve_14 : decode cX11_reserve 14 = .ok (.iconst 1, 1) := by decide +kernel
theorem dX11_reserve_15 : decode cX11_reserve 15 = .ok (.goto 4, 3) := by decide +kernel
theorem dX11_reserve_18 : decode cX11_reserve 18 = .ok (.iconst 0, 1) := by decide +kernel
theorem dX11_reserve_19 : decode cX11_reserve 19 = .ok (.istore 4, 2) := by decide +kernel
theorem dX11_reserve_21 : decode cX11_reserve 21 = .ok (.aload_n 0, 1) := by decide +kernel
theorem dX11_reserve_22 : decode cX11_reserve 22 = .ok (.iload 4, 2) := by decide +kernel
theorem dX11_reserve_24 : decode cX11_reserve 24 = .ok (.ifCond .ne 7, 3) := by decide +kernel
theorem dX11_reserve_27 : decode cX11_reserve 27 = .ok (.iconst 1, 1) := by decide +kernel
theorem dX11_reserve_28 : decode cX11_reserve 28 = .ok (.goto 41, 3) := by decide +kernel
theorem dX11_reserve_31 : decode cX11_reserve 31 = .ok (.iload_n 2, 1) := by decide +kernel
theorem dX11_reserve_32 : decode cX11_reserve 32 = .ok (.iconst 1, 1) := by decide +kernel
theorem dX11_reserve_33 : decode cX11_reserve 33 = .ok (.sipush 1000, 3) := by decide +kernel
theorem dX11_reserve_36 : decode cX11_reserve 36 = .ok (.invokestatic 89, 3) := by decide +kernel
theorem dX11_reserve_39 : decode cX11_reserve 39 = .ok (.ifCond .ne 7, 3) := by decide +kernel
theorem dX11_reserve_42 : decode cX11_reserve 42 = .ok (.iconst 2, 1) := by decide +kernel
theorem dX11_reserve_43 : decode cX11_reserve 43 = .ok (.goto 26, 3) := by decide +kernel
theorem dX11_reserve_46 : decode cX11_reserve 46 = .ok (.aload_n 0, 1) := by decide +kernel
theorem dX11_reserve_47 : decode cX11_reserve 47 = .ok (.getfield 61, 3) := by decide +kernel
theorem dX11_reserve_50 : decode cX11_reserve 50 = .ok (.ifCond .ne 14, 3) := by decide +kernel
theorem dX11_reserve_53 : decode cX11_reserve 53 = .ok (.aload_n 0, 1) := by decide +kernel
theorem dX11_reserve_54 : decode cX11_reserve 54 = .ok (.getfield 49, 3) := by decide +kernel
theorem dX11_reserve_57 : decode cX11_reserve 57 = .ok (.iconst 2, 1) := by decide +kernel
theorem dX11_reserve_58 : decode cX11_reserve 58 = .ok (.iaload, 1) := by decide +kernel
theorem dX11_reserve_59 : decode cX11_reserve 59 = .ok (.bipush 24, 2) := by decide +kernel
theorem dX11_reserve_61 : decode cX11_reserve 61 = .ok (.if_icmp .ne 7, 3) := by decide +kernel
theorem dX11_reserve_64 : decode cX11_reserve 64 = .ok (.iconst 3, 1) := by decide +kernel
theorem dX11_reserve_65 : decode cX11_reserve 65 = .ok (.goto 4, 3) := by decide +kernel
theorem dX11_reserve_68 : decode cX11_reserve 68 = .ok (.iconst 0, 1) := by decide +kernel
theorem dX11_reserve_69 : decode cX11_reserve 69 = .ok (.invokevirtual 97, 3) := by decide +kernel
theorem dX11_reserve_72 : decode cX11_reserve 72 = .ok (.ifCond .eq 5, 3) := by decide +kernel
theorem dX11_reserve_75 : decode cX11_reserve 75 = .ok (.iconst 0, 1) := by decide +kernel
theorem dX11_reserve_76 : decode cX11_reserve 76 = .ok (.ireturn, 1) := by decide +kernel
theorem dX11_reserve_77 : decode cX11_reserve 77 = .ok (.aload_n 0, 1) := by decide +kernel
theorem dX11_reserve_78 : decode cX11_reserve 78 = .ok (.iload_n 1, 1) := by decide +kernel
theorem dX11_reserve_79 : decode cX11_reserve 79 = .ok (.iload_n 2, 1) := by decide +kernel
theorem dX11_reserve_80 : decode cX11_reserve 80 = .ok (.iload_n 3, 1) := by decide +kernel
theorem dX11_reserve_81 : decode cX11_reserve 81 = .ok (.invokevirtual 186, 3) := by decide +kernel
theorem dX11_reserve_84 : decode cX11_reserve 84 = .ok (.ifCond .eq 14, 3) := by decide +kernel
theorem dX11_reserve_87 : decode cX11_reserve 87 = .ok (.aload_n 0, 1) := by decide +kernel
theorem dX11_reserve_88 : decode cX11_reserve 88 = .ok (.iconst 2, 1) := by decide +kernel
theorem dX11_reserve_89 : decode cX11_reserve 89 = .ok (.iload_n 1, 1) := by decide +kernel
theorem dX11_reserve_90 : decode cX11_reserve 90 = .ok (.iload_n 3, 1) := by decide +kernel
theorem dX11_reserve_91 : decode cX11_reserve 91 = .ok (.iload_n 2, 1) := by decide +kernel
theorem dX11_reserve_92 : decode cX11_reserve 92 = .ok (.invokevirtual 120, 3) := by decide +kernel
theorem dX11_reserve_95 : decode cX11_reserve 95 = .ok (.goto 4, 3) := by decide +kernel
theorem dX11_reserve_98 : decode cX11_reserve 98 = .ok (.iconst (-1), 1) := by decide +kernel
theorem dX11_reserve_99 : decode cX11_reserve 99 = .ok (.ireturn, 1) := by decide +kernel
theorem dX11_giveBack_0 : decode cX11_giveBack 0 = .ok (.aload_n 0, 1) := by decide +kernel
theorem dX11_giveBack_1 : decode cX11_giveBack 1 = .ok (.iload_n 1, 1) := by decide +kernel
theorem dX11_giveBack_2 : decode cX11_giveBack 2 = .ok (.iconst 0, 1) := by decide +kernel
theorem dX11_giveBack_3 : decode cX11_giveBack 3 = .ok (.aload_n 0, 1) := by decide +kernel
theorem dX11_giveBack_4 : decode cX11_giveBack 4 = .ok (.getfield 49, 3) := by decide +kernel
theorem dX11_giveBack_7 : decode cX11_giveBack 7 = .ok (.iconst 2, 1) := by decide +kernel
theorem dX11_giveBack_8 : decode cX11_giveBack 8 = .ok (.iaload, 1) := by decide +kernel
theorem dX11_giveBack_9 : decode cX11_giveBack 9 = .ok (.iconst 1, 1) := by decide +kernel
theorem dX11_giveBack_10 : decode cX11_giveBack 10 = .ok (.isub, 1) := by decide +kernel
theorem dX11_giveBack_11 : decode cX11_giveBack 11 = .ok (.invokestatic 89, 3) := by decide +kernel
theorem dX11_giveBack_14 : decode cX11_giveBack 14 = .ok (.ifCond .eq 7, 3) := by decide +kernel
theorem dX11_giveBack_17 : decode cX11_giveBack 17 = .ok (.iconst 0, 1) := by decide +kernel
theorem dX11_giveBack_18 : decode cX11_giveBack 18 = .ok (.goto 4, 3) := by decide +kernel
theorem dX11_giveBack_21 : decode cX11_giveBack 21 = .ok (.iconst 1, 1) := by decide +kernel
theorem dX11_giveBack_22 : decode cX11_giveBack 22 = .ok (.invokevirtual 97, 3) := by decide +kernel
theorem dX11_giveBack_25 : decode cX11_giveBack 25 = .ok (.ifCond .eq 5, 3) := by decide +kernel
theorem dX11_giveBack_28 : decode cX11_giveBack 28 = .ok (.iconst 0, 1) := by decide +kernel
theorem dX11_giveBack_29 : decode cX11_giveBack 29 = .ok (.ireturn, 1) := by decide +kernel
theorem dX11_giveBack_30 : decode cX11_giveBack 30 = .ok (.aload_n 0, 1) := by decide +kernel
theorem dX11_giveBack_31 : decode cX11_giveBack 31 = .ok (.getfield 58, 3) := by decide +kernel
theorem dX11_giveBack_34 : decode cX11_giveBack 34 = .ok (.bipush 48, 2) := by decide +kernel
theorem dX11_giveBack_36 : decode cX11_giveBack 36 = .ok (.iload_n 1, 1) := by decide +kernel
theorem dX11_giveBack_37 : decode cX11_giveBack 37 = .ok (.iadd, 1) := by decide +kernel
theorem dX11_giveBack_38 : decode cX11_giveBack 38 = .ok (.iaload, 1) := by decide +kernel
theorem dX11_giveBack_39 : decode cX11_giveBack 39 = .ok (.istore_n 2, 1) := by decide +kernel
theorem dX11_giveBack_40 : decode cX11_giveBack 40 = .ok (.aload_n 0, 1) := by decide +kernel
theorem dX11_giveBack_41 : decode cX11_giveBack 41 = .ok (.getfield 58, 3) := by decide +kernel
theorem dX11_giveBack_44 : decode cX11_giveBack 44 = .ok (.bipush 48, 2) := by decide +kernel
theorem dX11_giveBack_46 : decode cX11_giveBack 46 = .ok (.iload_n 1, 1) := by decide +kernel
theorem dX11_giveBack_47 : decode cX11_giveBack 47 = .ok (.iadd, 1) := by decide +kernel
theorem dX11_giveBack_48 : decode cX11_giveBack 48 = .ok (.iconst 0, 1) := by decide +kernel
theorem dX11_giveBack_49 : decode cX11_giveBack 49 = .ok (.iastore, 1) := by decide +kernel
theorem dX11_giveBack_50 : decode cX11_giveBack 50 = .ok (.iload_n 2, 1) := by decide +kernel
theorem dX11_giveBack_51 : decode cX11_giveBack 51 = .ok (.ireturn, 1) := by decide +kernel
theorem dX11_load_0 : decode cX11_load 0 = .ok (.aload_n 0, 1) := by decide +kernel
theorem dX11_load_1 : decode cX11_load 1 = .ok (.iload_n 1, 1) := by decide +kernel
theorem dX11_load_2 : decode cX11_load 2 = .ok (.iconst 0, 1) := by decide +kernel
theorem dX11_load_3 : decode cX11_load 3 = .ok (.iconst 2, 1) := by decide +kernel
theorem dX11_load_4 : decode cX11_load 4 = .ok (.invokestatic 89, 3) := by decide +kernel
theorem dX11_load_7 : decode cX11_load 7 = .ok (.ifCond .eq 10, 3) := by decide +kernel
theorem dX11_load_10 : decode cX11_load 10 = .ok (.iload_n 2, 1) := by decide +kernel
theorem dX11_load_11 : decode cX11_load 11 = .ok (.invokestatic 93, 3) := by decide +kernel
theorem dX11_load_14 : decode cX11_load 14 = .ok (.ifCond .ne 7, 3) := by decide +kernel
theorem dX11_load_17 : decode cX11_load 17 = .ok (.iconst 1, 1) := by decide +kernel
theorem dX11_load_18 : decode cX11_load 18 = .ok (.goto 15, 3) := by decide +kernel
theorem dX11_load_21 : decode cX11_load 21 = .ok (.aload_n 0, 1) := by decide +kernel
theorem dX11_load_22 : decode cX11_load 22 = .ok (.getfield 61, 3) := by decide +kernel
theorem dX11_load_25 : decode cX11_load 25 = .ok (.ifCond .eq 7, 3) := by decide +kernel
theorem dX11_load_28 : decode cX11_load 28 = .ok (.iconst 2, 1) := by decide +kernel
theorem dX11_load_29 : decode cX11_load 29 = .ok (.goto 4, 3) := by decide +kernel
theorem dX11_load_32 : decode cX11_load 32 = .ok (.iconst 0, 1) := by decide +kernel
theorem dX11_load_33 : decode cX11_load 33 = .ok (.invokevirtual 97, 3) := by decide +kernel
theorem dX11_load_36 : decode cX11_load 36 = .ok (.ifCond .eq 5, 3) := by decide +kernel
theorem dX11_load_39 : decode cX11_load 39 = .ok (.lconst 0, 1) := by decide +kernel
theorem dX11_load_40 : decode cX11_load 40 = .ok (.lreturn, 1) := by decide +kernel
theorem dX11_load_41 : decode cX11_load 41 = .ok (.lconst 0, 1) := by decide +kernel
theorem dX11_load_42 : decode cX11_load 42 = .ok (.lstore_n 3, 1) := by decide +kernel
theorem dX11_load_43 : decode cX11_load 43 = .ok (.iconst 0, 1) := by decide +kernel
theorem dX11_load_44 : decode cX11_load 44 = .ok (.istore 5, 2) := by decide +kernel
theorem dX11_load_46 : decode cX11_load 46 = .ok (.iload 5, 2) := by decide +kernel
theorem dX11_load_48 : decode cX11_load 48 = .ok (.bipush 12, 2) := by decide +kernel
theorem dX11_load_50 : decode cX11_load 50 = .ok (.if_icmp .ge 67, 3) := by decide +kernel
theorem dX11_load_53 : decode cX11_load 53 = .ok (.iload_n 2, 1) := by decide +kernel
theorem dX11_load_54 : decode cX11_load 54 = .ok (.aload_n 0, 1) := by decide +kernel
theorem dX11_load_55 : decode cX11_load 55 = .ok (.getfield 16, 3) := by decide +kernel
theorem dX11_load_58 : decode cX11_load 58 = .ok (.iload 5, 2) := by decide +kernel
theorem dX11_load_60 : decode cX11_load 60 = .ok (.iaload, 1) := by decide +kernel
theorem dX11_load_61 : decode cX11_load 61 = .ok (.iadd, 1) := by decide +kernel
theorem dX11_load_62 : decode cX11_load 62 = .ok (.istore 6, 2) := by decide +kernel
theorem dX11_load_64 : decode cX11_load 64 = .ok (.aload_n 0, 1) := by decide +kernel
theorem dX11_load_65 : decode cX11_load 65 = .ok (.getfield 34, 3) := by decide +kernel
theorem dX11_load_68 : decode cX11_load 68 = .ok (.iload 5, 2) := by decide +kernel
theorem dX11_load_70 : decode cX11_load 70 = .ok (.iaload, 1) := by decide +kernel
theorem dX11_load_71 : decode cX11_load 71 = .ok (.iload_n 1, 1) := by decide +kernel
theorem dX11_load_72 : decode cX11_load 72 = .ok (.if_icmp .ne 37, 3) := by decide +kernel
theorem dX11_load_75 : decode cX11_load 75 = .ok (.iload 6, 2) := by decide +kernel
theorem dX11_load_77 : decode cX11_load 77 = .ok (.bipush 12, 2) := by decide +kernel
theorem dX11_load_79 : decode cX11_load 79 = .ok (.if_icmp .ge 30, 3) := by decide +kernel
theorem dX11_load_82 : decode cX11_load 82 = .ok (.lload_n 3, 1) := by decide +kernel
theorem dX11_load_83 : decode cX11_load 83 = .ok (.aload_n 0, 1) := by decide +kernel
theorem dX11_load_84 : decode cX11_load 84 = .ok (.getfield 37, 3) := by decide +kernel
theorem dX11_load_87 : decode cX11_load 87 = .ok (.iload 5, 2) := by decide +kernel
theorem dX11_load_89 : decode cX11_load 89 = .ok (.iaload, 1) := by decide +kernel
theorem dX11_load_90 : decode cX11_load 90 = .ok (.i2l, 1) := by decide +kernel
theorem dX11_load_91 : decode cX11_load 91 = .ok (.aload_n 0, 1) := by decide +kernel
theorem dX11_load_92 : decode cX11_load 92 = .ok (.getfield 73, 3) := by decide +kernel
theorem dX11_load_95 : decode cX11_load 95 = .ok (.bipush 12, 2) := by decide +kernel
theorem dX11_load_97 : decode cX11_load 97 = .ok (.iload 5, 2) := by decide +kernel
theorem dX11_load_99 : decode cX11_load 99 = .ok (.imul, 1) := by decide +kernel
theorem dX11_load_100 : decode cX11_load 100 = .ok (.iload 6, 2) := by decide +kernel
theorem dX11_load_102 : decode cX11_load 102 = .ok (.iadd, 1) := by decide +kernel
theorem dX11_load_103 : decode cX11_load 103 = .ok (.laload, 1) := by decide +kernel
theorem dX11_load_104 : decode cX11_load 104 = .ok (.lmul, 1) := by decide +kernel
theorem dX11_load_105 : decode cX11_load 105 = .ok (.ladd, 1) := by decide +kernel
theorem dX11_load_106 : decode cX11_load 106 = .ok (.goto 4, 3) := by decide +kernel
theorem dX11_load_109 : decode cX11_load 109 = .ok (.lload_n 3, 1) := by decide +kernel
theorem dX11_load_110 : decode cX11_load 110 = .ok (.lstore_n 3, 1) := by decide +kernel
theorem dX11_load_111 : decode cX11_load 111 = .ok (.iinc 5 1, 3) := by decide +kernel
theorem dX11_load_114 : decode cX11_load 114 = .ok (.goto (-68), 3) := by decide +kernel
theorem dX11_load_117 : decode cX11_load 117 = .ok (.lload_n 3, 1) := by decide +kernel
theorem dX11_load_118 : decode cX11_load 118 = .ok (.lreturn, 1) := by decide +kernel
theorem dX11_count_0 : decode cX11_count 0 = .ok (.aload_n 0, 1) := by decide +kernel
theorem dX11_count_1 : decode cX11_count 1 = .ok (.iload_n 1, 1) := by decide +kernel
theorem dX11_count_2 : decode cX11_count 2 = .ok (.iconst 4, 1) := by decide +kernel
theorem dX11_count_3 : decode cX11_count 3 = .ok (.if_icmp .ne 14, 3) := by decide +kernel
theorem dX11_count_6 : decode cX11_count 6 = .ok (.aload_n 0, 1) := by decide +kernel
theorem dX11_count_7 : decode cX11_count 7 = .ok (.getfield 61, 3) := by decide +kernel
theorem dX11_count_10 : decode cX11_count 10 = .ok (.ifCond .eq 7, 3) := by decide +kernel
theorem dX11_count_13 : decode cX11_count 13 = .ok (.iconst 1, 1) := by decide +kernel
theorem dX11_count_14 : decode cX11_count 14 = .ok (.goto 4, 3) := by decide +kernel
theorem dX11_count_17 : decode cX11_count 17 = .ok (.iconst 0, 1) := by decide +kernel
theorem dX11_count_18 : decode cX11_count 18 = .ok (.invokevirtual 97, 3) := by decide +kernel
theorem dX11_count_21 : decode cX11_count 21 = .ok (.ifCond .eq 5, 3) := by decide +kernel
theorem dX11_count_24 : decode cX11_count 24 = .ok (.iconst 0, 1) := by decide +kernel
theorem dX11_count_25 : decode cX11_count 25 = .ok (.ireturn, 1) := by decide +kernel
theorem dX11_count_26 : decode cX11_count 26 = .ok (.iload_n 1, 1) := by decide +kernel
theorem dX11_count_27 : decode cX11_count 27 = .ok (.tableswitch 81 0 5 #[37, 42, 49, 56, 63, 68], 37) := by decide +kernel
theorem dX11_count_64 : decode cX11_count 64 = .ok (.aload_n 0, 1) := by decide +kernel
theorem dX11_count_65 : decode cX11_count 65 = .ok (.getfield 109, 3) := by decide +kernel
theorem dX11_count_68 : decode cX11_count 68 = .ok (.ireturn, 1) := by decide +kernel
theorem dX11_count_69 : decode cX11_count 69 = .ok (.aload_n 0, 1) := by decide +kernel
theorem dX11_count_70 : decode cX11_count 70 = .ok (.getfield 49, 3) := by decide +kernel
theorem dX11_count_73 : decode cX11_count 73 = .ok (.iconst 0, 1) := by decide +kernel
theorem dX11_count_74 : decode cX11_count 74 = .ok (.iaload, 1) := by decide +kernel
theorem dX11_count_75 : decode cX11_count 75 = .ok (.ireturn, 1) := by decide +kernel
theorem dX11_count_76 : decode cX11_count 76 = .ok (.aload_n 0, 1) := by decide +kernel
theorem dX11_count_77 : decode cX11_count 77 = .ok (.getfield 49, 3) := by decide +kernel
theorem dX11_count_80 : decode cX11_count 80 = .ok (.iconst 1, 1) := by decide +kernel
theorem dX11_count_81 : decode cX11_count 81 = .ok (.iaload, 1) := by decide +kernel
theorem dX11_count_82 : decode cX11_count 82 = .ok (.ireturn, 1) := by decide +kernel
theorem dX11_count_83 : decode cX11_count 83 = .ok (.aload_n 0, 1) := by decide +kernel
theorem dX11_count_84 : decode cX11_count 84 = .ok (.getfield 49, 3) := by decide +kernel
theorem dX11_count_87 : decode cX11_count 87 = .ok (.iconst 2, 1) := by decide +kernel
theorem dX11_count_88 : decode cX11_count 88 = .ok (.iaload, 1) := by decide +kernel
theorem dX11_count_89 : decode cX11_count 89 = .ok (.ireturn, 1) := by decide +kernel
theorem dX11_count_90 : decode cX11_count 90 = .ok (.aload_n 0, 1) := by decide +kernel
theorem dX11_count_91 : decode cX11_count 91 = .ok (.invokevirtual 189, 3) := by decide +kernel
theorem dX11_count_94 : decode cX11_count 94 = .ok (.ireturn, 1) := by decide +kernel
theorem dX11_count_95 : decode cX11_count 95 = .ok (.aload_n 0, 1) := by decide +kernel
theorem dX11_count_96 : decode cX11_count 96 = .ok (.getfield 61, 3) := by decide +kernel
theorem dX11_count_99 : decode cX11_count 99 = .ok (.ifCond .eq 7, 3) := by decide +kernel
theorem dX11_count_102 : decode cX11_count 102 = .ok (.iconst 1, 1) := by decide +kernel
theorem dX11_count_103 : decode cX11_count 103 = .ok (.goto 4, 3) := by decide +kernel
theorem dX11_count_106 : decode cX11_count 106 = .ok (.iconst 0, 1) := by decide +kernel
theorem dX11_count_107 : decode cX11_count 107 = .ok (.ireturn, 1) := by decide +kernel
theorem dX11_count_108 : decode cX11_count 108 = .ok (.iconst (-1), 1) := by decide +kernel
theorem dX11_count_109 : decode cX11_count 109 = .ok (.ireturn, 1) := by decide +kernel
theorem dX11_shortItems_0 : decode cX11_shortItems 0 = .ok (.iconst 0, 1) := by decide +kernel
theorem dX11_shortItems_1 : decode cX11_shortItems 1 = .ok (.istore_n 1, 1) := by decide +kernel
theorem dX11_shortItems_2 : decode cX11_shortItems 2 = .ok (.iconst 0, 1) := by decide +kernel
theorem dX11_shortItems_3 : decode cX11_shortItems 3 = .ok (.istore_n 2, 1) := by decide +kernel
theorem dX11_shortItems_4 : decode cX11_shortItems 4 = .ok (.iload_n 2, 1) := by decide +kernel
theorem dX11_shortItems_5 : decode cX11_shortItems 5 = .ok (.bipush 12, 2) := by decide +kernel
theorem dX11_shortItems_7 : decode cX11_shortItems 7 = .ok (.if_icmp .ge 72, 3) := by decide +kernel
theorem dX11_shortItems_10 : decode cX11_shortItems 10 = .ok (.iconst 0, 1) := by decide +kernel
theorem dX11_shortItems_11 : decode cX11_shortItems 11 = .ok (.istore_n 3, 1) := by decide +kernel
theorem dX11_shortItems_12 : decode cX11_shortItems 12 = .ok (.iconst 0, 1) := by decide +kernel
theorem dX11_shortItems_13 : decode cX11_shortItems 13 = .ok (.istore 4, 2) := by decide +kernel
theorem dX11_shortItems_15 : decode cX11_shortItems 15 = .ok (.iload 4, 2) := by decide +kernel
theorem dX11_shortItems_17 : decode cX11_shortItems 17 = .ok (.bipush 12, 2) := by decide +kernel
theorem dX11_shortItems_19 : decode cX11_shortItems 19 = .ok (.if_icmp .ge 42, 3) := by decide +kernel
theorem dX11_shortItems_22 : decode cX11_shortItems 22 = .ok (.iload_n 3, 1) := by decide +kernel
theorem dX11_shortItems_23 : decode cX11_shortItems 23 = .ok (.ifCond .ne 26, 3) := by decide +kernel
theorem dX11_shortItems_26 : decode cX11_shortItems 26 = .ok (.aload_n 0, 1) := by decide +kernel
theorem dX11_shortItems_27 : decode cX11_shortItems 27 = .ok (.iload_n 2, 1) := by decide +kernel
theorem dX11_shortItems_28 : decode cX11_shortItems 28 = .ok (.iload 4, 2) := by decide +kernel
theorem dX11_shortItems_30 : decode cX11_shortItems 30 = .ok (.invokevirtual 143, 3) := by decide +kernel
theorem dX11_shortItems_33 : decode cX11_shortItems 33 = .ok (.aload_n 0, 1) := by decide +kernel
theorem dX11_shortItems_34 : decode cX11_shortItems 34 = .ok (.getfield 73, 3) := by decide +kernel
theorem dX11_shortItems_37 : decode cX11_shortItems 37 = .ok (.iload_n 2, 1) := by decide +kernel
theorem dX11_shortItems_38 : decode cX11_shortItems 38 = .ok (.iload 4, 2) := by decide +kernel
theorem dX11_shortItems_40 : decode cX11_shortItems 40 = .ok (.invokestatic 131, 3) := by decide +kernel
theorem dX11_shortItems_43 : decode cX11_shortItems 43 = .ok (.ladd, 1) := by decide +kernel
theorem dX11_shortItems_44 : decode cX11_shortItems 44 = .ok (.lconst 0, 1) := by decide +kernel
theorem dX11_shortItems_45 : decode cX11_shortItems 45 = .ok (.lcmp, 1) := by decide +kernel
theorem dX11_shortItems_46 : decode cX11_shortItems 46 = .ok (.ifCond .ge 7, 3) := by decide +kernel
theorem dX11_shortItems_49 : decode cX11_shortItems 49 = .ok (.iconst 1, 1) := by decide +kernel
theorem dX11_shortItems_50 : decode cX11_shortItems 50 = .ok (.goto 4, 3) := by decide +kernel
theorem dX11_shortItems_53 : decode cX11_shortItems 53 = .ok (.iconst 0, 1) := by decide +kernel
theorem dX11_shortItems_54 : decode cX11_shortItems 54 = .ok (.istore_n 3, 1) := by decide +kernel
theorem dX11_shortItems_55 : decode cX11_shortItems 55 = .ok (.iinc 4 1, 3) := by decide +kernel
theorem dX11_shortItems_58 : decode cX11_shortItems 58 = .ok (.goto (-43), 3) := by decide +kernel
theorem dX11_shortItems_61 : decode cX11_shortItems 61 = .ok (.iload_n 3, 1) := by decide +kernel
theorem dX11_shortItems_62 : decode cX11_shortItems 62 = .ok (.ifCond .eq 9, 3) := by decide +kernel
theorem dX11_shortItems_65 : decode cX11_shortItems 65 = .ok (.iload_n 1, 1) := by decide +kernel
theorem dX11_shortItems_66 : decode cX11_shortItems 66 = .ok (.iconst 1, 1) := by decide +kernel
theorem dX11_shortItems_67 : decode cX11_shortItems 67 = .ok (.iadd, 1) := by decide +kernel
theorem dX11_shortItems_68 : decode cX11_shortItems 68 = .ok (.goto 4, 3) := by decide +kernel
theorem dX11_shortItems_71 : decode cX11_shortItems 71 = .ok (.iload_n 1, 1) := by decide +kernel
theorem dX11_shortItems_72 : decode cX11_shortItems 72 = .ok (.istore_n 1, 1) := by decide +kernel
theorem dX11_shortItems_73 : decode cX11_shortItems 73 = .ok (.iinc 2 1, 3) := by decide +kernel
theorem dX11_shortItems_76 : decode cX11_shortItems 76 = .ok (.goto (-72), 3) := by decide +kernel
theorem dX11_shortItems_79 : decode cX11_shortItems 79 = .ok (.iload_n 1, 1) := by decide +kernel
theorem dX11_shortItems_80 : decode cX11_shortItems 80 = .ok (.ireturn, 1) := by decide +kernel
