set_option maxRecDepth 100000
theorem dX5_divideSmall_144 : decode cX5_divideSmall 144 = .ok (.lload 9, 2) := by decide +kernel
theorem dX5_divideSmall_146 : decode cX5_divideSmall 146 = .ok (.iload_n 2, 1) := by decide +kernel
theorem dX5_divideSmall_147 : decode cX5_divideSmall 147 = .ok (.invokestatic 274, 3) := by decide +kernel
theorem dX5_divideSmall_150 : decode cX5_divideSmall 150 = .ok (.lcmp, 1) := by decide +kernel
theorem dX5_divideSmall_151 : decode cX5_divideSmall 151 = .ok (.ifCond .ne 25, 3) := by decide +kernel
theorem dX5_divideSmall_154 : decode cX5_divideSmall 154 = .ok (.lload 5, 2) := by decide +kernel
theorem dX5_divideSmall_156 : decode cX5_divideSmall 156 = .ok (.ldc2_w 279, 3) := by decide +kernel
theorem dX5_divideSmall_159 : decode cX5_divideSmall 159 = .ok (.lcmp, 1) := by decide +kernel
theorem dX5_divideSmall_160 : decode cX5_divideSmall 160 = .ok (.ifCond .ne 12, 3) := by decide +kernel
theorem dX5_divideSmall_163 : decode cX5_divideSmall 163 = .ok (.lload 7, 2) := by decide +kernel
theorem dX5_divideSmall_165 : decode cX5_divideSmall 165 = .ok (.ldc2_w 277, 3) := by decide +kernel
theorem dX5_divideSmall_168 : decode cX5_divideSmall 168 = .ok (.lcmp, 1) := by decide +kernel
theorem dX5_divideSmall_169 : decode cX5_divideSmall 169 = .ok (.ifCond .eq 7, 3) := by decide +kernel
theorem dX5_divideSmall_172 : decode cX5_divideSmall 172 = .ok (.iconst 1, 1) := by decide +kernel
theorem dX5_divideSmall_173 : decode cX5_divideSmall 173 = .ok (.goto 24, 3) := by decide +kernel
theorem dX5_divideSmall_176 : decode cX5_divideSmall 176 = .ok (.iconst 0, 1) := by decide +kernel
theorem dX5_divideSmall_177 : decode cX5_divideSmall 177 = .ok (.goto 20, 3) := by decide +kernel
theorem dX5_divideSmall_180 : decode cX5_divideSmall 180 = .ok (.lload 9, 2) := by decide +kernel
theorem dX5_divideSmall_182 : decode cX5_divideSmall 182 = .ok (.lload 9, 2) := by decide +kernel
theorem dX5_divideSmall_184 : decode cX5_divideSmall 184 = .ok (.iload_n 2, 1) := by decide +kernel
theorem dX5_divideSmall_185 : decode cX5_divideSmall 185 = .ok (.invokestatic 200, 3) := by decide +kernel
theorem dX5_divideSmall_188 : decode cX5_divideSmall 188 = .ok (.lcmp, 1) := by decide +kernel
theorem dX5_divideSmall_189 : decode cX5_divideSmall 189 = .ok (.ifCond .ne 7, 3) := by decide +kernel
theorem dX5_divideSmall_192 : decode cX5_divideSmall 192 = .ok (.iconst 1, 1) := by decide +kernel
theorem dX5_divideSmall_193 : decode cX5_divideSmall 193 = .ok (.goto 4, 3) := by decide +kernel
theorem dX5_divideSmall_196 : decode cX5_divideSmall 196 = .ok (.iconst 0, 1) := by decide +kernel
theorem dX5_divideSmall_197 : decode cX5_divideSmall 197 = .ok (.istore 13, 2) := by decide +kernel
theorem dX5_divideSmall_199 : decode cX5_divideSmall 199 = .ok (.iload 13, 2) := by decide +kernel
theorem dX5_divideSmall_201 : decode cX5_divideSmall 201 = .ok (.ifCond .ne 12, 3) := by decide +kernel
theorem dX5_divideSmall_204 : decode cX5_divideSmall 204 = .ok (.aload_n 0, 1) := by decide +kernel
theorem dX5_divideSmall_205 : decode cX5_divideSmall 205 = .ok (.iconst 5, 1) := by decide +kernel
theorem dX5_divideSmall_206 : decode cX5_divideSmall 206 = .ok (.lconst 0, 1) := by decide +kernel
theorem dX5_divideSmall_207 : decode cX5_divideSmall 207 = .ok (.invokevirtual 180, 3) := by decide +kernel
theorem dX5_divideSmall_210 : decode cX5_divideSmall 210 = .ok (.goto 60, 3) := by decide +kernel
theorem dX5_divideSmall_213 : decode cX5_divideSmall 213 = .ok (.iload_n 2, 1) := by decide +kernel
theorem dX5_divideSmall_214 : decode cX5_divideSmall 214 = .ok (.iconst 1, 1) := by decide +kernel
theorem dX5_divideSmall_215 : decode cX5_divideSmall 215 = .ok (.if_icmp .ne 39, 3) := by decide +kernel
theorem dX5_divideSmall_218 : decode cX5_divideSmall 218 = .ok (.aload_n 0, 1) := by decide +kernel
theorem dX5_divideSmall_219 : decode cX5_divideSmall 219 = .ok (.getfield 30, 3) := by decide +kernel
theorem dX5_divideSmall_222 : decode cX5_divideSmall 222 = .ok (.iconst 0, 1) := by decide +kernel
theorem dX5_divideSmall_223 : decode cX5_divideSmall 223 = .ok (.aload_n 0, 1) := by decide +kernel
theorem dX5_divideSmall_224 : decode cX5_divideSmall 224 = .ok (.getfield 30, 3) := by decide +kernel
theorem dX5_divideSmall_227 : decode cX5_divideSmall 227 = .ok (.iconst 0, 1) := by decide +kernel
theorem dX5_divideSmall_228 : decode cX5_divideSmall 228 = .ok (.laload, 1) := by decide +kernel
theorem dX5_divideSmall_229 : decode cX5_divideSmall 229 = .ok (.ldc2_w 285, 3) := by decide +kernel
theorem dX5_divideSmall_232 : decode cX5_divideSmall 232 = .ok (.land, 1) := by decide +kernel
theorem dX5_divideSmall_233 : decode cX5_divideSmall 233 = .ok (.lload 11, 2) := by decide +kernel
theorem dX5_divideSmall_235 : decode cX5_divideSmall 235 = .ok (.ldc2_w 145, 3) := by decide +kernel
theorem dX5_divideSmall_238 : decode cX5_divideSmall 238 = .ok (.land, 1) := by decide +kernel
theorem dX5_divideSmall_239 : decode cX5_divideSmall 239 = .ok (.bipush 8, 2) := by decide +kernel
theorem dX5_divideSmall_241 : decode cX5_divideSmall 241 = .ok (.lshl, 1) := by decide +kernel
theorem dX5_divideSmall_242 : decode cX5_divideSmall 242 = .ok (.lor, 1) := by decide +kernel
theorem dX5_divideSmall_243 : decode cX5_divideSmall 243 = .ok (.lload 9, 2) := by decide +kernel
theorem dX5_divideSmall_245 : decode cX5_divideSmall 245 = .ok (.ldc2_w 145, 3) := by decide +kernel
theorem dX5_divideSmall_248 : decode cX5_divideSmall 248 = .ok (.land, 1) := by decide +kernel
theorem dX5_divideSmall_249 : decode cX5_divideSmall 249 = .ok (.lor, 1) := by decide +kernel
theorem dX5_divideSmall_250 : decode cX5_divideSmall 250 = .ok (.lastore, 1) := by decide +kernel
theorem dX5_divideSmall_251 : decode cX5_divideSmall 251 = .ok (.goto 19, 3) := by decide +kernel
theorem dX5_divideSmall_254 : decode cX5_divideSmall 254 = .ok (.aload_n 0, 1) := by decide +kernel
theorem dX5_divideSmall_255 : decode cX5_divideSmall 255 = .ok (.iconst 0, 1) := by decide +kernel
theorem dX5_divideSmall_256 : decode cX5_divideSmall 256 = .ok (.iconst 4, 1) := by decide +kernel
theorem dX5_divideSmall_257 : decode cX5_divideSmall 257 = .ok (.lload 9, 2) := by decide +kernel
theorem dX5_divideSmall_259 : decode cX5_divideSmall 259 = .ok (.invokevirtual 212, 3) := by decide +kernel
theorem dX5_divideSmall_262 : decode cX5_divideSmall 262 = .ok (.aload_n 0, 1) := by decide +kernel
theorem dX5_divideSmall_263 : decode cX5_divideSmall 263 = .ok (.iconst 2, 1) := by decide +kernel
theorem dX5_divideSmall_264 : decode cX5_divideSmall 264 = .ok (.iconst 4, 1) := by decide +kernel
theorem dX5_divideSmall_265 : decode cX5_divideSmall 265 = .ok (.lload 11, 2) := by decide +kernel
theorem dX5_divideSmall_267 : decode cX5_divideSmall 267 = .ok (.invokevirtual 212, 3) := by decide +kernel
theorem dX5_divideSmall_270 : decode cX5_divideSmall 270 = .ok (.return_, 1) := by decide +kernel
theorem dX5_product_0 : decode cX5_product 0 = .ok (.aload_n 0, 1) := by decide +kernel
theorem dX5_product_1 : decode cX5_product 1 = .ok (.iconst 2, 1) := by decide +kernel
theorem dX5_product_2 : decode cX5_product 2 = .ok (.invokevirtual 194, 3) := by decide +kernel
theorem dX5_product_5 : decode cX5_product 5 = .ok (.ifCond .eq 7, 3) := by decide +kernel
theorem dX5_product_8 : decode cX5_product 8 = .ok (.iconst 1, 1) := by decide +kernel
theorem dX5_product_9 : decode cX5_product 9 = .ok (.goto 4, 3) := by decide +kernel
theorem dX5_product_12 : decode cX5_product 12 = .ok (.iconst 0, 1) := by decide +kernel
theorem dX5_product_13 : decode cX5_product 13 = .ok (.istore_n 2, 1) := by decide +kernel
theorem dX5_product_14 : decode cX5_product 14 = .ok (.aload_n 0, 1) := by decide +kernel
theorem dX5_product_15 : decode cX5_product 15 = .ok (.iload_n 2, 1) := by decide +kernel
theorem dX5_product_16 : decode cX5_product 16 = .ok (.ifCond .eq 7, 3) := by decide +kernel
theorem dX5_product_19 : decode cX5_product 19 = .ok (.iconst 1, 1) := by decide +kernel
theorem dX5_product_20 : decode cX5_product 20 = .ok (.goto 4, 3) := by decide +kernel
theorem dX5_product_23 : decode cX5_product 23 = .ok (.iconst 0, 1) := by decide +kernel
theorem dX5_product_24 : decode cX5_product 24 = .ok (.iload_n 1, 1) := by decide +kernel
theorem dX5_product_25 : decode cX5_product 25 = .ok (.invokevirtual 257, 3) := by decide +kernel
theorem dX5_product_28 : decode cX5_product 28 = .ok (.iload_n 1, 1) := by decide +kernel
theorem dX5_product_29 : decode cX5_product 29 = .ok (.invokestatic 274, 3) := by decide +kernel
theorem dX5_product_32 : decode cX5_product 32 = .ok (.lstore_n 3, 1) := by decide +kernel
theorem dX5_product_33 : decode cX5_product 33 = .ok (.iload_n 2, 1) := by decide +kernel
theorem dX5_product_34 : decode cX5_product 34 = .ok (.ifCond .eq 10, 3) := by decide +kernel
theorem dX5_product_37 : decode cX5_product 37 = .ok (.aload_n 0, 1) := by decide +kernel
theorem dX5_product_38 : decode cX5_product 38 = .ok (.getfield 123, 3) := by decide +kernel
theorem dX5_product_41 : decode cX5_product 41 = .ok (.goto 13, 3) := by decide +kernel
theorem dX5_product_44 : decode cX5_product 44 = .ok (.aload_n 0, 1) := by decide +kernel
theorem dX5_product_45 : decode cX5_product 45 = .ok (.iconst 1, 1) := by decide +kernel
theorem dX5_product_46 : decode cX5_product 46 = .ok (.iload_n 1, 1) := by decide +kernel
theorem dX5_product_47 : decode cX5_product 47 = .ok (.invokevirtual 257, 3) := by decide +kernel
theorem dX5_product_50 : decode cX5_product 50 = .ok (.iload_n 1, 1) := by decide +kernel
theorem dX5_product_51 : decode cX5_product 51 = .ok (.invokestatic 274, 3) := by decide +kernel
theorem dX5_product_54 : decode cX5_product 54 = .ok (.lstore 5, 2) := by decide +kernel
theorem dX5_product_56 : decode cX5_product 56 = .ok (.lload_n 3, 1) := by decide +kernel
theorem dX5_product_57 : decode cX5_product 57 = .ok (.lload 5, 2) := by decide +kernel
theorem dX5_product_59 : decode cX5_product 59 = .ok (.lmul, 1) := by decide +kernel
theorem dX5_product_60 : decode cX5_product 60 = .ok (.lstore 7, 2) := by decide +kernel
theorem dX5_product_62 : decode cX5_product 62 = .ok (.aload_n 0, 1) := by decide +kernel
theorem dX5_product_63 : decode cX5_product 63 = .ok (.iload_n 1, 1) := by decide +kernel
theorem dX5_product_64 : decode cX5_product 64 = .ok (.iconst 4, 1) := by decide +kernel
theorem dX5_product_65 : decode cX5_product 65 = .ok (.if_icmp .ne 21, 3) := by decide +kernel
theorem dX5_product_68 : decode cX5_product 68 = .ok (.lload 7, 2) := by decide +kernel
theorem dX5_product_70 : decode cX5_product 70 = .ok (.lload 7, 2) := by decide +kernel
theorem dX5_product_72 : decode cX5_product 72 = .ok (.l2i, 1) := by decide +kernel
theorem dX5_product_73 : decode cX5_product 73 = .ok (.i2l, 1) := by decide +kernel
theorem dX5_product_74 : decode cX5_product 74 = .ok (.lcmp, 1) := by decide +kernel
theorem dX5_product_75 : decode cX5_product 75 = .ok (.ifCond .eq 7, 3) := by decide +kernel
theorem dX5_product_78 : decode cX5_product 78 = .ok (.iconst 1, 1) := by decide +kernel
theorem dX5_product_79 : decode cX5_product 79 = .ok (.goto 27, 3) := by decide +kernel
theorem dX5_product_82 : decode cX5_product 82 = .ok (.iconst 0, 1) := by decide +kernel
theorem dX5_product_83 : decode cX5_product 83 = .ok (.goto 23, 3) := by decide +kernel
theorem dX5_product_86 : decode cX5_product 86 = .ok (.lload_n 3, 1) := by decide +kernel
theorem dX5_product_87 : decode cX5_product 87 = .ok (.lload 5, 2) := by decide +kernel
theorem dX5_product_89 : decode cX5_product 89 = .ok (.invokestatic 287, 3) := by decide +kernel
theorem dX5_product_92 : decode cX5_product 92 = .ok (.lload 7, 2) := by decide +kernel
theorem dX5_product_94 : decode cX5_product 94 = .ok (.bipush 63, 2) := by decide +kernel
theorem dX5_product_96 : decode cX5_product 96 = .ok (.lshr, 1) := by decide +kernel
theorem dX5_product_97 : decode cX5_product 97 = .ok (.lcmp, 1) := by decide +kernel
theorem dX5_product_98 : decode cX5_product 98 = .ok (.ifCond .eq 7, 3) := by decide +kernel
theorem dX5_product_101 : decode cX5_product 101 = .ok (.iconst 1, 1) := by decide +kernel
theorem dX5_product_102 : decode cX5_product 102 = .ok (.goto 4, 3) := by decide +kernel
theorem dX5_product_105 : decode cX5_product 105 = .ok (.iconst 0, 1) := by decide +kernel
theorem dX5_product_106 : decode cX5_product 106 = .ok (.putfield 237, 3) := by decide +kernel
theorem dX5_product_109 : decode cX5_product 109 = .ok (.aload_n 0, 1) := by decide +kernel
theorem dX5_product_110 : decode cX5_product 110 = .ok (.aload_n 0, 1) := by decide +kernel
theorem dX5_product_111 : decode cX5_product 111 = .ok (.getfield 237, 3) := by decide +kernel
theorem dX5_product_114 : decode cX5_product 114 = .ok (.putfield 240, 3) := by decide +kernel
theorem dX5_product_117 : decode cX5_product 117 = .ok (.aload_n 0, 1) := by decide +kernel
theorem dX5_product_118 : decode cX5_product 118 = .ok (.iconst 0, 1) := by decide +kernel
theorem dX5_product_119 : decode cX5_product 119 = .ok (.iload_n 1, 1) := by decide +kernel
theorem dX5_product_120 : decode cX5_product 120 = .ok (.lload 7, 2) := by decide +kernel
theorem dX5_product_122 : decode cX5_product 122 = .ok (.iload_n 1, 1) := by decide +kernel
theorem dX5_product_123 : decode cX5_product 123 = .ok (.invokestatic 200, 3) := by decide +kernel
theorem dX5_product_126 : decode cX5_product 126 = .ok (.invokevirtual 268, 3) := by decide +kernel
theorem dX5_product_129 : decode cX5_product 129 = .ok (.return_, 1) := by decide +kernel
theorem dX5_shift_0 : decode cX5_shift 0 = .ok (.aload_n 0, 1) := by decide +kernel
theorem dX5_shift_1 : decode cX5_shift 1 = .ok (.iconst 0, 1) := by decide +kernel
theorem dX5_shift_2 : decode cX5_shift 2 = .ok (.iload_n 2, 1) := by decide +kernel
theorem dX5_shift_3 : decode cX5_shift 3 = .ok (.invokevirtual 257, 3) := by decide +kernel
theorem dX5_shift_6 : decode cX5_shift 6 = .ok (.lstore_n 3, 1) := by decide +kernel
theorem dX5_shift_7 : decode cX5_shift 7 = .ok (.aload_n 0, 1) := by decide +kernel
theorem dX5_shift_8 : decode cX5_shift 8 = .ok (.iconst 1, 1) := by decide +kernel
theorem dX5_shift_9 : decode cX5_shift 9 = .ok (.iconst 1, 1) := by decide +kernel
theorem dX5_shift_10 : decode cX5_shift 10 = .ok (.invokevirtual 257, 3) := by decide +kernel
theorem dX5_shift_13 : decode cX5_shift 13 = .ok (.l2i, 1) := by decide +kernel
theorem dX5_shift_14 : decode cX5_shift 14 = .ok (.iload_n 2, 1) := by decide +kernel
theorem dX5_shift_15 : decode cX5_shift 15 = .ok (.bipush 8, 2) := by decide +kernel
theorem dX5_shift_17 : decode cX5_shift 17 = .ok (.if_icmp .ne 8, 3) := by decide +kernel
theorem dX5_shift_20 : decode cX5_shift 20 = .ok (.bipush 63, 2) := by decide +kernel
theorem dX5_shift_22 : decode cX5_shift 22 = .ok (.goto 5, 3) := by decide +kernel
theorem dX5_shift_25 : decode cX5_shift 25 = .ok (.bipush 31, 2) := by decide +kernel
theorem dX5_shift_27 : decode cX5_shift 27 = .ok (.iand, 1) := by decide +kernel
theorem dX5_shift_28 : decode cX5_shift 28 = .ok (.istore 5, 2) := by decide +kernel
theorem dX5_shift_30 : decode cX5_shift 30 = .ok (.iload 5, 2) := by decide +kernel
theorem dX5_shift_32 : decode cX5_shift 32 = .ok (.ifCond .ne 4, 3) := by decide +kernel
theorem dX5_shift_35 : decode cX5_shift 35 = .ok (.return_, 1) := by decide +kernel
theorem dX5_shift_36 : decode cX5_shift 36 = .ok (.lload_n 3, 1) := by decide +kernel
theorem dX5_shift_37 : decode cX5_shift 37 = .ok (.lstore 6, 2) := by decide +kernel
theorem dX5_shift_39 : decode cX5_shift 39 = .ok (.lload_n 3, 1) := by decide +kernel
theorem dX5_shift_40 : decode cX5_shift 40 = .ok (.iload_n 2, 1) := by decide +kernel
theorem dX5_shift_41 : decode cX5_shift 41 = .ok (.invokestatic 224, 3) := by decide +kernel
theorem dX5_shift_44 : decode cX5_shift 44 = .ok (.lstore 8, 2) := by decide +kernel
theorem dX5_shift_46 : decode cX5_shift 46 = .ok (.bipush 8, 2) := by decide +kernel
theorem dX5_shift_48 : decode cX5_shift 48 = .ok (.iload_n 2, 1) := by decide +kernel
theorem dX5_shift_49 : decode cX5_shift 49 = .ok (.imul, 1) := by decide +kernel
theorem dX5_shift_50 : decode cX5_shift 50 = .ok (.iconst 1, 1) := by decide +kernel
theorem dX5_shift_51 : decode cX5_shift 51 = .ok (.isub, 1) := by decide +kernel
theorem dX5_shift_52 : decode cX5_shift 52 = .ok (.istore 10, 2) := by decide +kernel
theorem dX5_shift_54 : decode cX5_shift 54 = .ok (.iconst 0, 1) := by decide +kernel
theorem dX5_shift_55 : decode cX5_shift 55 = .ok (.istore 11, 2) := by decide +kernel
theorem dX5_shift_57 : decode cX5_shift 57 = .ok (.iload 11, 2) := by decide +kernel
theorem dX5_shift_59 : decode cX5_shift 59 = .ok (.iload 5, 2) := by decide +kernel
theorem dX5_shift_61 : decode cX5_shift 61 = .ok (.if_icmp .ge 134, 3) := by decide +kernel
theorem dX5_shift_64 : decode cX5_shift 64 = .ok (.iload_n 1, 1) := by decide +kernel
theorem dX5_shift_65 : decode cX5_shift 65 = .ok (.bipush 24, 2) := by decide +kernel
theorem dX5_shift_67 : decode cX5_shift 67 = .ok (.if_icmp .eq 9, 3) := by decide +kernel
theorem dX5_shift_70 : decode cX5_shift 70 = .ok (.iload_n 1, 1) := by decide +kernel
theorem dX5_shift_71 : decode cX5_shift 71 = .ok (.bipush 26, 2) := by decide +kernel
theorem dX5_shift_73 : decode cX5_shift 73 = .ok (.if_icmp .ne 7, 3) := by decide +kernel
theorem dX5_shift_76 : decode cX5_shift 76 = .ok (.iconst 1, 1) := by decide +kernel
theorem dX5_shift_77 : decode cX5_shift 77 = .ok (.goto 4, 3) := by decide +kernel
theorem dX5_shift_80 : decode cX5_shift 80 = .ok (.iconst 0, 1) := by decide +kernel
theorem dX5_shift_81 : decode cX5_shift 81 = .ok (.istore 12, 2) := by decide +kernel
theorem dX5_shift_83 : decode cX5_shift 83 = .ok (.iload 12, 2) := by decide +kernel
theorem dX5_shift_85 : decode cX5_shift 85 = .ok (.ifCond .eq 13, 3) := by decide +kernel
theorem dX5_shift_88 : decode cX5_shift 88 = .ok (.lload 6, 2) := by decide +kernel
theorem dX5_shift_90 : decode cX5_shift 90 = .ok (.iload 10, 2) := by decide +kernel
theorem dX5_shift_92 : decode cX5_shift 92 = .ok (.lushr, 1) := by decide +kernel
theorem dX5_shift_93 : decode cX5_shift 93 = .ok (.lconst 1, 1) := by decide +kernel
theorem dX5_shift_94 : decode cX5_shift 94 = .ok (.land, 1) := by decide +kernel
theorem dX5_shift_95 : decode cX5_shift 95 = .ok (.goto 7, 3) := by decide +kernel
theorem dX5_shift_98 : decode cX5_shift 98 = .ok (.lload 6, 2) := by decide +kernel
theorem dX5_shift_100 : decode cX5_shift 100 = .ok (.lconst 1, 1) := by decide +kernel
theorem dX5_shift_101 : decode cX5_shift 101 = .ok (.land, 1) := by decide +kernel
theorem dX5_shift_102 : decode cX5_shift 102 = .ok (.lstore 13, 2) := by decide +kernel
theorem dX5_shift_104 : decode cX5_shift 104 = .ok (.aload_n 0, 1) := by decide +kernel
theorem dX5_shift_105 : decode cX5_shift 105 = .ok (.lload 13, 2) := by decide +kernel
theorem dX5_shift_107 : decode cX5_shift 107 = .ok (.lconst 1, 1) := by decide +kernel
theorem dX5_shift_108 : decode cX5_shift 108 = .ok (.lcmp, 1) := by decide +kernel
theorem dX5_shift_109 : decode cX5_shift 109 = .ok (.ifCond .ne 7, 3) := by decide +kernel
theorem dX5_shift_112 : decode cX5_shift 112 = .ok (.iconst 1, 1) := by decide +kernel
theorem dX5_shift_113 : decode cX5_shift 113 = .ok (.goto 4, 3) := by decide +kernel
theorem dX5_shift_116 : decode cX5_shift 116 = .ok (.iconst 0, 1) := by decide +kernel
theorem dX5_shift_117 : decode cX5_shift 117 = .ok (.putfield 237, 3) := by decide +kernel
theorem dX5_shift_120 : decode cX5_shift 120 = .ok (.iload 12, 2) := by decide +kernel
theorem dX5_shift_122 : decode cX5_shift 122 = .ok (.ifCond .eq 29, 3) := by decide +kernel
theorem dX5_shift_125 : decode cX5_shift 125 = .ok (.lload 6, 2) := by decide +kernel
theorem dX5_shift_127 : decode cX5_shift 127 = .ok (.iconst 1, 1) := by decide +kernel
theorem dX5_shift_128 : decode cX5_shift 128 = .ok (.lshl, 1) := by decide +kernel
theorem dX5_shift_129 : decode cX5_shift 129 = .ok (.iload_n 2, 1) := by decide +kernel
theorem dX5_shift_130 : decode cX5_shift 130 = .ok (.invokestatic 200, 3) := by decide +kernel
theorem dX5_shift_133 : decode cX5_shift 133 = .ok (.iload_n 1, 1) := by decide +kernel
theorem dX5_shift_134 : decode cX5_shift 134 = .ok (.bipush 24, 2) := by decide +kernel
theorem dX5_shift_136 : decode cX5_shift 136 = .ok (.if_icmp .ne 8, 3) := by decide +kernel
theorem dX5_shift_139 : decode cX5_shift 139 = .ok (.lload 13, 2) := by decide +kernel
theorem dX5_shift_141 : decode cX5_shift 141 = .ok (.goto 4, 3) := by decide +kernel
theorem dX5_shift_144 : decode cX5_shift 144 = .ok (.lconst 0, 1) := by decide +kernel
theorem dX5_shift_145 : decode cX5_shift 145 = .ok (.lor, 1) := by decide +kernel
theorem dX5_shift_146 : decode cX5_shift 146 = .ok (.lstore 6, 2) := by decide +kernel
theorem dX5_shift_148 : decode cX5_shift 148 = .ok (.goto 41, 3) := by decide +kernel
theorem dX5_shift_151 : decode cX5_shift 151 = .ok (.lload 6, 2) := by decide +kernel
theorem dX5_shift_153 : decode cX5_shift 153 = .ok (.iconst 1, 1) := by decide +kernel
theorem dX5_shift_154 : decode cX5_shift 154 = .ok (.lushr, 1) := by decide +kernel
theorem dX5_shift_155 : decode cX5_shift 155 = .ok (.iload_n 1, 1) := by decide +kernel
theorem dX5_shift_156 : decode cX5_shift 156 = .ok (.bipush 25, 2) := by decide +kernel
theorem dX5_shift_158 : decode cX5_shift 158 = .ok (.if_icmp .ne 8, 3) := by decide +kernel
theorem dX5_shift_161 : decode cX5_shift 161 = .ok (.lload 13, 2) := by decide +kernel
theorem dX5_shift_163 : decode cX5_shift 163 = .ok (.goto 20, 3) := by decide +kernel
theorem dX5_shift_166 : decode cX5_shift 166 = .ok (.iload_n 1, 1) := by decide +kernel
theorem dX5_shift_167 : decode cX5_shift 167 = .ok (.bipush 28, 2) := by decide +kernel
theorem dX5_shift_169 : decode cX5_shift 169 = .ok (.if_icmp .ne 13, 3) := by decide +kernel
theorem dX5_shift_172 : decode cX5_shift 172 = .ok (.lload 6, 2) := by decide +kernel
theorem dX5_shift_174 : decode cX5_shift 174 = .ok (.iload 10, 2) := by decide +kernel
theorem dX5_shift_176 : decode cX5_shift 176 = .ok (.lushr, 1) := by decide +kernel
theorem dX5_shift_177 : decode cX5_shift 177 = .ok (.lconst 1, 1) := by decide +kernel
theorem dX5_shift_178 : decode cX5_shift 178 = .ok (.land, 1) := by decide +kernel
theorem dX5_shift_179 : decode cX5_shift 179 = .ok (.goto 4, 3) := by decide +kernel
theorem dX5_shift_182 : decode cX5_shift 182 = .ok (.lconst 0, 1) := by decide +kernel
theorem dX5_shift_183 : decode cX5_shift 183 = .ok (.iload 10, 2) := by decide +kernel
theorem dX5_shift_185 : decode cX5_shift 185 = .ok (.lshl, 1) := by decide +kernel
theorem dX5_shift_186 : decode cX5_shift 186 = .ok (.lor, 1) := by decide +kernel
theorem dX5_shift_187 : decode cX5_shift 187 = .ok (.lstore 6, 2) := by decide +kernel
theorem dX5_shift_189 : decode cX5_shift 189 = .ok (.iinc 11 1, 3) := by decide +kernel
theorem dX5_shift_192 : decode cX5_shift 192 = .ok (.goto (-135), 3) := by decide +kernel
theorem dX5_shift_195 : decode cX5_shift 195 = .ok (.lload 6, 2) := by decide +kernel
theorem dX5_shift_197 : decode cX5_shift 197 = .ok (.iload_n 2, 1) := by decide +kernel
theorem dX5_shift_198 : decode cX5_shift 198 = .ok (.invokestatic 224, 3) := by decide +kernel
theorem dX5_shift_201 : decode cX5_shift 201 = .ok (.lstore 11, 2) := by decide +kernel
theorem dX5_shift_203 : decode cX5_shift 203 = .ok (.iload 5, 2) := by decide +kernel
theorem dX5_shift_205 : decode cX5_shift 205 = .ok (.iconst 1, 1) := by decide +kernel
theorem dX5_shift_206 : decode cX5_shift 206 = .ok (.if_icmp .ne 93, 3) := by decide +kernel
theorem dX5_shift_209 : decode cX5_shift 209 = .ok (.aload_n 0, 1) := by decide +kernel
theorem dX5_shift_210 : decode cX5_shift 210 = .ok (.iload_n 1, 1) := by decide +kernel
theorem dX5_shift_211 : decode cX5_shift 211 = .ok (.bipush 24, 2) := by decide +kernel
theorem dX5_shift_213 : decode cX5_shift 213 = .ok (.if_icmp .eq 9, 3) := by decide +kernel
theorem dX5_shift_216 : decode cX5_shift 216 = .ok (.iload_n 1, 1) := by decide +kernel
theorem dX5_shift_217 : decode cX5_shift 217 = .ok (.bipush 26, 2) := by decide +kernel
theorem dX5_shift_219 : decode cX5_shift 219 = .ok (.if_icmp .ne 30, 3) := by decide +kernel
theorem dX5_shift_222 : decode cX5_shift 222 = .ok (.aload_n 0, 1) := by decide +kernel
theorem dX5_shift_223 : decode cX5_shift 223 = .ok (.getfield 237, 3) := by decide +kernel
theorem dX5_shift_226 : decode cX5_shift 226 = .ok (.lload 11, 2) := by decide +kernel
theorem dX5_shift_228 : decode cX5_shift 228 = .ok (.lconst 1, 1) := by decide +kernel
theorem dX5_shift_229 : decode cX5_shift 229 = .ok (.lcmp, 1) := by decide +kernel
theorem dX5_shift_230 : decode cX5_shift 230 = .ok (.ifCond .ne 7, 3) := by decide +kernel
theorem dX5_shift_233 : decode cX5_shift 233 = .ok (.iconst 1, 1) := by decide +kernel
theorem dX5_shift_234 : decode cX5_shift 234 = .ok (.goto 4, 3) := by decide +kernel
theorem dX5_shift_237 : decode cX5_shift 237 = .ok (.iconst 0, 1) := by decide +kernel
theorem dX5_shift_238 : decode cX5_shift 238 = .ok (.if_icmp .eq 7, 3) := by decide +kernel
theorem dX5_shift_241 : decode cX5_shift 241 = .ok (.iconst 1, 1) := by decide +kernel
theorem dX5_shift_242 : decode cX5_shift 242 = .ok (.goto 54, 3) := by decide +kernel
theorem dX5_shift_245 : decode cX5_shift 245 = .ok (.iconst 0, 1) := by decide +kernel
theorem dX5_shift_246 : decode cX5_shift 246 = .ok (.goto 50, 3) := by decide +kernel
theorem dX5_shift_249 : decode cX5_shift 249 = .ok (.iload_n 1, 1) := by decide +kernel
theorem dX5_shift_250 : decode cX5_shift 250 = .ok (.bipush 25, 2) := by decide +kernel
theorem dX5_shift_252 : decode cX5_shift 252 = .ok (.if_icmp .ne 26, 3) := by decide +kernel
theorem dX5_shift_255 : decode cX5_shift 255 = .ok (.lload 11, 2) := by decide +kernel
theorem dX5_shift_257 : decode cX5_shift 257 = .ok (.lload 6, 2) := by decide +kernel
theorem dX5_shift_259 : decode cX5_shift 259 = .ok (.iload 10, 2) := by decide +kernel
theorem dX5_shift_261 : decode cX5_shift 261 = .ok (.iconst 1, 1) := by decide +kernel
theorem dX5_shift_262 : decode cX5_shift 262 = .ok (.isub, 1) := by decide +kernel
theorem dX5_shift_263 : decode cX5_shift 263 = .ok (.lushr, 1) := by decide +kernel
theorem dX5_shift_264 : decode cX5_shift 264 = .ok (.lconst 1, 1) := by decide +kernel
theorem dX5_shift_265 : decode cX5_shift 265 = .ok (.land, 1) := by decide +kernel
theorem dX5_shift_266 : decode cX5_shift 266 = .ok (.lcmp, 1) := by decide +kernel
theorem dX5_shift_267 : decode cX5_shift 267 = .ok (.ifCond .eq 7, 3) := by decide +kernel
theorem dX5_shift_270 : decode cX5_shift 270 = .ok (.iconst 1, 1) := by decide +kernel
theorem dX5_shift_271 : decode cX5_shift 271 = .ok (.goto 25, 3) := by decide +kernel
theorem dX5_shift_274 : decode cX5_shift 274 = .ok (.iconst 0, 1) := by decide +kernel
theorem dX5_shift_275 : decode cX5_shift 275 = .ok (.goto 21, 3) := by decide +kernel
theorem dX5_shift_278 : decode cX5_shift 278 = .ok (.iload_n 1, 1) := by decide +kernel
theorem dX5_shift_279 : decode cX5_shift 279 = .ok (.bipush 27, 2) := by decide +kernel
theorem dX5_shift_281 : decode cX5_shift 281 = .ok (.if_icmp .ne 14, 3) := by decide +kernel
theorem dX5_shift_284 : decode cX5_shift 284 = .ok (.lload 8, 2) := by decide +kernel
theorem dX5_shift_286 : decode cX5_shift 286 = .ok (.lconst 1, 1) := by decide +kernel
theorem dX5_shift_287 : decode cX5_shift 287 = .ok (.lcmp, 1) := by decide +kernel
theorem dX5_shift_288 : decode cX5_shift 288 = .ok (.ifCond .ne 7, 3) := by decide +kernel
theorem dX5_shift_291 : decode cX5_shift 291 = .ok (.iconst 1, 1) := by decide +kernel
theorem dX5_shift_292 : decode cX5_shift 292 = .ok (.goto 4, 3) := by decide +kernel
theorem dX5_shift_295 : decode cX5_shift 295 = .ok (.iconst 0, 1) := by decide +kernel
theorem dX5_shift_296 : decode cX5_shift 296 = .ok (.putfield 240, 3) := by decide +kernel
theorem dX5_shift_299 : decode cX5_shift 299 = .ok (.iload_n 1, 1) := by decide +kernel
theorem dX5_shift_300 : decode cX5_shift 300 = .ok (.bipush 25, 2) := by decide +kernel
theorem dX5_shift_302 : decode cX5_shift 302 = .ok (.if_icmp .le 10, 3) := by decide +kernel
theorem dX5_shift_305 : decode cX5_shift 305 = .ok (.aload_n 0, 1) := by decide +kernel
theorem dX5_shift_306 : decode cX5_shift 306 = .ok (.lload 6, 2) := by decide +kernel
theorem dX5_shift_308 : decode cX5_shift 308 = .ok (.iload_n 2, 1) := by decide +kernel
theorem dX5_shift_309 : decode cX5_shift 309 = .ok (.invokevirtual 243, 3) := by decide +kernel
theorem dX5_shift_312 : decode cX5_shift 312 = .ok (.aload_n 0, 1) := by decide +kernel
theorem dX5_shift_313 : decode cX5_shift 313 = .ok (.iconst 0, 1) := by decide +kernel
theorem dX5_shift_314 : decode cX5_shift 314 = .ok (.iload_n 2, 1) := by decide +kernel
theorem dX5_shift_315 : decode cX5_shift 315 = .ok (.lload 6, 2) := by decide +kernel
theorem dX5_shift_317 : decode cX5_shift 317 = .ok (.invokevirtual 268, 3) := by decide +kernel
theorem dX5_shift_320 : decode cX5_shift 320 = .ok (.return_, 1) := by decide +kernel
theorem dX5_goes_0 : decode cX5_goes 0 = .ok (.iload_n 1, 1) := by decide +kernel
theorem dX5_goes_1 : decode cX5_goes 1 = .ok (.bipush 29, 2) := by decide +kernel
theorem dX5_goes_3 : decode cX5_goes 3 = .ok (.if_icmp .ne 33, 3) := by decide +kernel
theorem dX5_goes_6 : decode cX5_goes 6 = .ok (.aload_n 0, 1) := by decide +kernel
theorem dX5_goes_7 : decode cX5_goes 7 = .ok (.aload_n 0, 1) := by decide +kernel
theorem dX5_goes_8 : decode cX5_goes 8 = .ok (.iconst 0, 1) := by decide +kernel
theorem dX5_goes_9 : decode cX5_goes 9 = .ok (.invokevirtual 194, 3) := by decide +kernel
theorem dX5_goes_12 : decode cX5_goes 12 = .ok (.iconst 3, 1) := by decide +kernel
theorem dX5_goes_13 : decode cX5_goes 13 = .ok (.if_icmp .ne 10, 3) := by decide +kernel
theorem dX5_goes_16 : decode cX5_goes 16 = .ok (.aload_n 0, 1) := by decide +kernel
theorem dX5_goes_17 : decode cX5_goes 17 = .ok (.getfield 123, 3) := by decide +kernel
theorem dX5_goes_20 : decode cX5_goes 20 = .ok (.goto 10, 3) := by decide +kernel
theorem dX5_goes_23 : decode cX5_goes 23 = .ok (.aload_n 0, 1) := by decide +kernel
theorem dX5_goes_24 : decode cX5_goes 24 = .ok (.iconst 0, 1) := by decide +kernel
theorem dX5_goes_25 : decode cX5_goes 25 = .ok (.bipush 8, 2) := by decide +kernel
theorem dX5_goes_27 : decode cX5_goes 27 = .ok (.invokevirtual 257, 3) := by decide +kernel
theorem dX5_goes_30 : decode cX5_goes 30 = .ok (.invokevirtual 296, 3) := by decide +kernel
theorem dX5_goes_33 : decode cX5_goes 33 = .ok (.goto 170, 3) := by decide +kernel
theorem dX5_goes_36 : decode cX5_goes 36 = .ok (.iload_n 1, 1) := by decide +kernel
theorem dX5_goes_37 : decode cX5_goes 37 = .ok (.bipush 30, 2) := by decide +kernel
theorem dX5_goes_39 : decode cX5_goes 39 = .ok (.if_icmp .ne 36, 3) := by decide +kernel
theorem dX5_goes_42 : decode cX5_goes 42 = .ok (.aload_n 0, 1) := by decide +kernel
theorem dX5_goes_43 : decode cX5_goes 43 = .ok (.invokevirtual 299, 3) := by decide +kernel
theorem dX5_goes_46 : decode cX5_goes 46 = .ok (.lstore_n 2, 1) := by decide +kernel
theorem dX5_goes_47 : decode cX5_goes 47 = .ok (.aload_n 0, 1) := by decide +kernel
theorem dX5_goes_48 : decode cX5_goes 48 = .ok (.iconst 0, 1) := by decide +kernel
theorem dX5_goes_49 : decode cX5_goes 49 = .ok (.invokevirtual 194, 3) := by decide +kernel
theorem dX5_goes_52 : decode cX5_goes 52 = .ok (.iconst 2, 1) := by decide +kernel
theorem dX5_goes_53 : decode cX5_goes 53 = .ok (.if_icmp .ne 11, 3) := by decide +kernel
theorem dX5_goes_56 : decode cX5_goes 56 = .ok (.aload_n 0, 1) := by decide +kernel
theorem dX5_goes_57 : decode cX5_goes 57 = .ok (.aload_n 0, 1) := by decide +kernel
theorem dX5_goes_58 : decode cX5_goes 58 = .ok (.invokevirtual 271, 3) := by decide +kernel
theorem dX5_goes_61 : decode cX5_goes 61 = .ok (.putfield 204, 3) := by decide +kernel
theorem dX5_goes_64 : decode cX5_goes 64 = .ok (.aload_n 0, 1) := by decide +kernel
theorem dX5_goes_65 : decode cX5_goes 65 = .ok (.iconst 0, 1) := by decide +kernel
theorem dX5_goes_66 : decode cX5_goes 66 = .ok (.bipush 8, 2) := by decide +kernel
theorem dX5_goes_68 : decode cX5_goes 68 = .ok (.lload_n 2, 1) := by decide +kernel
theorem dX5_goes_69 : decode cX5_goes 69 = .ok (.invokevirtual 268, 3) := by decide +kernel
theorem dX5_goes_72 : decode cX5_goes 72 = .ok (.goto 131, 3) := by decide +kernel
theorem dX5_goes_75 : decode cX5_goes 75 = .ok (.iload_n 1, 1) := by decide +kernel
theorem dX5_goes_76 : decode cX5_goes 76 = .ok (.bipush 33, 2) := by decide +kernel
theorem dX5_goes_78 : decode cX5_goes 78 = .ok (.if_icmp .ne 40, 3) := by decide +kernel
theorem dX5_goes_81 : decode cX5_goes 81 = .ok (.aload_n 0, 1) := by decide +kernel
theorem dX5_goes_82 : decode cX5_goes 82 = .ok (.aload_n 0, 1) := by decide +kernel
theorem dX5_goes_83 : decode cX5_goes 83 = .ok (.invokevirtual 299, 3) := by decide +kernel
theorem dX5_goes_86 : decode cX5_goes 86 = .ok (.putfield 90, 3) := by decide +kernel
theorem dX5_goes_89 : decode cX5_goes 89 = .ok (.aload_n 0, 1) := by decide +kernel
theorem dX5_goes_90 : decode cX5_goes 90 = .ok (.getfield 30, 3) := by decide +kernel
theorem dX5_goes_93 : decode cX5_goes 93 = .ok (.iconst 4, 1) := by decide +kernel
theorem dX5_goes_94 : decode cX5_goes 94 = .ok (.dup2, 1) := by decide +kernel
theorem dX5_goes_95 : decode cX5_goes 95 = .ok (.laload, 1) := by decide +kernel
theorem dX5_goes_96 : decode cX5_goes 96 = .ok (.aload_n 0, 1) := by decide +kernel
theorem dX5_goes_97 : decode cX5_goes 97 = .ok (.iconst 0, 1) := by decide +kernel
theorem dX5_goes_98 : decode cX5_goes 98 = .ok (.invokevirtual 194, 3) := by decide +kernel
theorem dX5_goes_101 : decode cX5_goes 101 = .ok (.iconst 3, 1) := by decide +kernel
theorem dX5_goes_102 : decode cX5_goes 102 = .ok (.if_icmp .ne 10, 3) := by decide +kernel
theorem dX5_goes_105 : decode cX5_goes 105 = .ok (.aload_n 0, 1) := by decide +kernel
theorem dX5_goes_106 : decode cX5_goes 106 = .ok (.getfield 123, 3) := by decide +kernel
theorem dX5_goes_109 : decode cX5_goes 109 = .ok (.goto 4, 3) := by decide +kernel
theorem dX5_goes_112 : decode cX5_goes 112 = .ok (.lconst 0, 1) := by decide +kernel
theorem dX5_goes_113 : decode cX5_goes 113 = .ok (.ladd, 1) := by decide +kernel
theorem dX5_goes_114 : decode cX5_goes 114 = .ok (.lastore, 1) := by decide +kernel
theorem dX5_goes_115 : decode cX5_goes 115 = .ok (.goto 88, 3) := by decide +kernel
theorem dX5_goes_118 : decode cX5_goes 118 = .ok (.iload_n 1, 1) := by decide +kernel
theorem dX5_goes_119 : decode cX5_goes 119 = .ok (.bipush 34, 2) := by decide +kernel
theorem dX5_goes_121 : decode cX5_goes 121 = .ok (.if_icmp .ne 34, 3) := by decide +kernel
theorem dX5_goes_124 : decode cX5_goes 124 = .ok (.aload_n 0, 1) := by decide +kernel
theorem dX5_goes_125 : decode cX5_goes 125 = .ok (.dup, 1) := by decide +kernel
theorem dX5_goes_126 : decode cX5_goes 126 = .ok (.getfield 90, 3) := by decide +kernel
theorem dX5_goes_129 : decode cX5_goes 129 = .ok (.aload_n 0, 1) := by decide +kernel
theorem dX5_goes_130 : decode cX5_goes 130 = .ok (.aload_n 0, 1) := by decide +kernel
theorem dX5_goes_131 : decode cX5_goes 131 = .ok (.getfield 117, 3) := by decide +kernel
theorem dX5_goes_134 : decode cX5_goes 134 = .ok (.invokevirtual 302, 3) := by decide +kernel
theorem dX5_goes_137 : decode cX5_goes 137 = .ok (.ifCond .eq 10, 3) := by decide +kernel
theorem dX5_goes_140 : decode cX5_goes 140 = .ok (.aload_n 0, 1) := by decide +kernel
theorem dX5_goes_141 : decode cX5_goes 141 = .ok (.getfield 123, 3) := by decide +kernel
theorem dX5_goes_144 : decode cX5_goes 144 = .ok (.goto 4, 3) := by decide +kernel
theorem dX5_goes_147 : decode cX5_goes 147 = .ok (.lconst 0, 1) := by decide +kernel
theorem dX5_goes_148 : decode cX5_goes 148 = .ok (.ladd, 1) := by decide +kernel
theorem dX5_goes_149 : decode cX5_goes 149 = .ok (.putfield 90, 3) := by decide +kernel
theorem dX5_goes_152 : decode cX5_goes 152 = .ok (.goto 51, 3) := by decide +kernel
theorem dX5_goes_155 : decode cX5_goes 155 = .ok (.aload_n 0, 1) := by decide +kernel
theorem dX5_goes_156 : decode cX5_goes 156 = .ok (.iconst 0, 1) := by decide +kernel
theorem dX5_goes_157 : decode cX5_goes 157 = .ok (.invokevirtual 194, 3) := by decide +kernel
theorem dX5_goes_160 : decode cX5_goes 160 = .ok (.iconst 3, 1) := by decide +kernel
theorem dX5_goes_161 : decode cX5_goes 161 = .ok (.if_icmp .ne 15, 3) := by decide +kernel
theorem dX5_goes_164 : decode cX5_goes 164 = .ok (.aload_n 0, 1) := by decide +kernel
theorem dX5_goes_165 : decode cX5_goes 165 = .ok (.getfield 90, 3) := by decide +kernel
theorem dX5_goes_168 : decode cX5_goes 168 = .ok (.aload_n 0, 1) := by decide +kernel
theorem dX5_goes_169 : decode cX5_goes 169 = .ok (.getfield 123, 3) := by decide +kernel
theorem dX5_goes_172 : decode cX5_goes 172 = .ok (.ladd, 1) := by decide +kernel
theorem dX5_goes_173 : decode cX5_goes 173 = .ok (.goto 10, 3) := by decide +kernel
theorem dX5_goes_176 : decode cX5_goes 176 = .ok (.aload_n 0, 1) := by decide +kernel
theorem dX5_goes_177 : decode cX5_goes 177 = .ok (.iconst 0, 1) := by decide +kernel
theorem dX5_goes_178 : decode cX5_goes 178 = .ok (.bipush 8, 2) := by decide +kernel
theorem dX5_goes_180 : decode cX5_goes 180 = .ok (.invokevirtual 257, 3) := by decide +kernel
theorem dX5_goes_183 : decode cX5_goes 183 = .ok (.lstore_n 2, 1) := by decide +kernel
theorem dX5_goes_184 : decode cX5_goes 184 = .ok (.iload_n 1, 1) := by decide +kernel
theorem dX5_goes_185 : decode cX5_goes 185 = .ok (.bipush 32, 2) := by decide +kernel
theorem dX5_goes_187 : decode cX5_goes 187 = .ok (.if_icmp .ne 11, 3) := by decide +kernel
theorem dX5_goes_190 : decode cX5_goes 190 = .ok (.aload_n 0, 1) := by decide +kernel
theorem dX5_goes_191 : decode cX5_goes 191 = .ok (.aload_n 0, 1) := by decide +kernel
theorem dX5_goes_192 : decode cX5_goes 192 = .ok (.getfield 90, 3) := by decide +kernel
theorem dX5_goes_195 : decode cX5_goes 195 = .ok (.invokevirtual 296, 3) := by decide +kernel
theorem dX5_goes_198 : decode cX5_goes 198 = .ok (.aload_n 0, 1) := by decide +kernel
theorem dX5_goes_199 : decode cX5_goes 199 = .ok (.lload_n 2, 1) := by decide +kernel
theorem dX5_goes_200 : decode cX5_goes 200 = .ok (.putfield 90, 3) := by decide +kernel
theorem dX5_goes_203 : decode cX5_goes 203 = .ok (.return_, 1) := by decide +kernel
theorem dX5_push_0 : decode cX5_push 0 = .ok (.aload_n 0, 1) := by decide +kernel
theorem dX5_push_1 : decode cX5_push 1 = .ok (.aload_n 0, 1) := by decide +kernel
theorem dX5_push_2 : decode cX5_push 2 = .ok (.getfield 30, 3) := by decide +kernel
theorem dX5_push_5 : decode cX5_push 5 = .ok (.iconst 4, 1) := by decide +kernel
theorem dX5_push_6 : decode cX5_push 6 = .ok (.laload, 1) := by decide +kernel
theorem dX5_push_7 : decode cX5_push 7 = .ok (.ldc2_w 294, 3) := by decide +kernel
theorem dX5_push_10 : decode cX5_push 10 = .ok (.lsub, 1) := by decide +kernel
theorem dX5_push_11 : decode cX5_push 11 = .ok (.bipush 8, 2) := by decide +kernel
theorem dX5_push_13 : decode cX5_push 13 = .ok (.lload_n 1, 1) := by decide +kernel
theorem dX5_push_14 : decode cX5_push 14 = .ok (.invokevirtual 216, 3) := by decide +kernel
theorem dX5_push_17 : decode cX5_push 17 = .ok (.aload_n 0, 1) := by decide +kernel
theorem dX5_push_18 : decode cX5_push 18 = .ok (.getfield 30, 3) := by decide +kernel
theorem dX5_push_21 : decode cX5_push 21 = .ok (.iconst 4, 1) := by decide +kernel
theorem dX5_push_22 : decode cX5_push 22 = .ok (.dup2, 1) := by decide +kernel
theorem dX5_push_23 : decode cX5_push 23 = .ok (.laload, 1) := by decide +kernel
theorem dX5_push_24 : decode cX5_push 24 = .ok (.ldc2_w 294, 3) := by decide +kernel
theorem dX5_push_27 : decode cX5_push 27 = .ok (.lsub, 1) := by decide +kernel
theorem dX5_push_28 : decode cX5_push 28 = .ok (.lastore, 1) := by decide +kernel
theorem dX5_push_29 : decode cX5_push 29 = .ok (.return_, 1) := by decide +kernel
theorem dX5_pop_0 : decode cX5_pop 0 = .ok (.aload_n 0, 1) := by decide +kernel
theorem dX5_pop_1 : decode cX5_pop 1 = .ok (.aload_n 0, 1) := by decide +kernel
theorem dX5_pop_2 : decode cX5_pop 2 = .ok (.getfield 30, 3) := by decide +kernel
theorem dX5_pop_5 : decode cX5_pop 5 = .ok (.iconst 4, 1) := by decide +kernel
theorem dX5_pop_6 : decode cX5_pop 6 = .ok (.laload, 1) := by decide +kernel
theorem dX5_pop_7 : decode cX5_pop 7 = .ok (.bipush 8, 2) := by decide +kernel
theorem dX5_pop_9 : decode cX5_pop 9 = .ok (.invokevirtual 207, 3) := by decide +kernel
theorem dX5_pop_12 : decode cX5_pop 12 = .ok (.lstore_n 1, 1) := by decide +kernel
theorem dX5_pop_13 : decode cX5_pop 13 = .ok (.aload_n 0, 1) := by decide +kernel
theorem dX5_pop_14 : decode cX5_pop 14 = .ok (.getfield 30, 3) := by decide +kernel
theorem dX5_pop_17 : decode cX5_pop 17 = .ok (.iconst 4, 1) := by decide +kernel
theorem dX5_pop_18 : decode cX5_pop 18 = .ok (.dup2, 1) := by decide +kernel
theorem dX5_pop_19 : decode cX5_pop 19 = .ok (.laload, 1) := by decide +kernel
theorem dX5_pop_20 : decode cX5_pop 20 = .ok (.ldc2_w 294, 3) := by decide +kernel
theorem dX5_pop_23 : decode cX5_pop 23 = .ok (.ladd, 1) := by decide +kernel
theorem dX5_pop_24 : decode cX5_pop 24 = .ok (.lastore, 1) := by decide +kernel
theorem dX5_pop_25 : decode cX5_pop 25 = .ok (.lload_n 1, 1) := by decide +kernel
theorem dX5_pop_26 : decode cX5_pop 26 = .ok (.lreturn, 1) := by decide +kernel
theorem dX5_isMet_0 : decode cX5_isMet 0 = .ok (.iload_n 1, 1) := by decide +kernel
theorem dX5_isMet_1 : decode cX5_isMet 1 = .ok (.iconst 1, 1) := by decide +kernel
theorem dX5_isMet_2 : decode cX5_isMet 2 = .ok (.ishr, 1) := by decide +kernel
theorem dX5_isMet_3 : decode cX5_isMet 3 = .ok (.istore_n 2, 1) := by decide +kernel
theorem dX5_isMet_4 : decode cX5_isMet 4 = .ok (.aload_n 0, 1) := by decide +kernel
theorem dX5_isMet_5 : decode cX5_isMet 5 = .ok (.getfield 227, 3) := by decide +kernel
theorem dX5_isMet_8 : decode cX5_isMet 8 = .ok (.aload_n 0, 1) := by decide +kernel
theorem dX5_isMet_9 : decode cX5_isMet 9 = .ok (.getfield 240, 3) := by decide +kernel
theorem dX5_isMet_12 : decode cX5_isMet 12 = .ok (.if_icmp .eq 7, 3) := by decide +kernel
theorem dX5_isMet_15 : decode cX5_isMet 15 = .ok (.iconst 1, 1) := by decide +kernel
theorem dX5_isMet_16 : decode cX5_isMet 16 = .ok (.goto 4, 3) := by decide +kernel
theorem dX5_isMet_19 : decode cX5_isMet 19 = .ok (.iconst 0, 1) := by decide +kernel
theorem dX5_isMet_20 : decode cX5_isMet 20 = .ok (.istore_n 3, 1) := by decide +kernel
theorem dX5_isMet_21 : decode cX5_isMet 21 = .ok (.iload_n 2, 1) := by decide +kernel
theorem dX5_isMet_22 : decode cX5_isMet 22 = .ok (.ifCond .ne 10, 3) := by decide +kernel
theorem dX5_isMet_25 : decode cX5_isMet 25 = .ok (.aload_n 0, 1) := by decide +kernel
theorem dX5_isMet_26 : decode cX5_isMet 26 = .ok (.getfield 240, 3) := by decide +kernel
theorem dX5_isMet_29 : decode cX5_isMet 29 = .ok (.goto 104, 3) := by decide +kernel
theorem dX5_isMet_32 : decode cX5_isMet 32 = .ok (.iload_n 2, 1) := by decide +kernel
theorem dX5_isMet_33 : decode cX5_isMet 33 = .ok (.iconst 1, 1) := by decide +kernel
theorem dX5_isMet_34 : decode cX5_isMet 34 = .ok (.if_icmp .ne 10, 3) := by decide +kernel
theorem dX5_isMet_37 : decode cX5_isMet 37 = .ok (.aload_n 0, 1) := by decide +kernel
theorem dX5_isMet_38 : decode cX5_isMet 38 = .ok (.getfield 237, 3) := by decide +kernel
theorem dX5_isMet_41 : decode cX5_isMet 41 = .ok (.goto 92, 3) := by decide +kernel
theorem dX5_isMet_44 : decode cX5_isMet 44 = .ok (.iload_n 2, 1) := by decide +kernel
theorem dX5_isMet_45 : decode cX5_isMet 45 = .ok (.iconst 2, 1) := by decide +kernel
theorem dX5_isMet_46 : decode cX5_isMet 46 = .ok (.if_icmp .ne 10, 3) := by decide +kernel
theorem dX5_isMet_49 : decode cX5_isMet 49 = .ok (.aload_n 0, 1) := by decide +kernel
theorem dX5_isMet_50 : decode cX5_isMet 50 = .ok (.getfield 220, 3) := by decide +kernel
theorem dX5_isMet_53 : decode cX5_isMet 53 = .ok (.goto 80, 3) := by decide +kernel
theorem dX5_isMet_56 : decode cX5_isMet 56 = .ok (.iload_n 2, 1) := by decide +kernel
theorem dX5_isMet_57 : decode cX5_isMet 57 = .ok (.iconst 3, 1) := by decide +kernel
theorem dX5_isMet_58 : decode cX5_isMet 58 = .ok (.if_icmp .ne 25, 3) := by decide +kernel
theorem dX5_isMet_61 : decode cX5_isMet 61 = .ok (.aload_n 0, 1) := by decide +kernel
theorem dX5_isMet_62 : decode cX5_isMet 62 = .ok (.getfield 237, 3) := by decide +kernel
theorem dX5_isMet_65 : decode cX5_isMet 65 = .ok (.ifCond .ne 10, 3) := by decide +kernel
theorem dX5_isMet_68 : decode cX5_isMet 68 = .ok (.aload_n 0, 1) := by decide +kernel
theorem dX5_isMet_69 : decode cX5_isMet 69 = .ok (.getfield 220, 3) := by decide +kernel
theorem dX5_isMet_72 : decode cX5_isMet 72 = .ok (.ifCond .eq 7, 3) := by decide +kernel
theorem dX5_isMet_75 : decode cX5_isMet 75 = .ok (.iconst 1, 1) := by decide +kernel
theorem dX5_isMet_76 : decode cX5_isMet 76 = .ok (.goto 57, 3) := by decide +kernel
theorem dX5_isMet_79 : decode cX5_isMet 79 = .ok (.iconst 0, 1) := by decide +kernel
theorem dX5_isMet_80 : decode cX5_isMet 80 = .ok (.goto 53, 3) := by decide +kernel
theorem dX5_isMet_83 : decode cX5_isMet 83 = .ok (.iload_n 2, 1) := by decide +kernel
theorem dX5_isMet_84 : decode cX5_isMet 84 = .ok (.iconst 4, 1) := by decide +kernel
theorem dX5_isMet_85 : decode cX5_isMet 85 = .ok (.if_icmp .ne 10, 3) := by decide +kernel
theorem dX5_isMet_88 : decode cX5_isMet 88 = .ok (.aload_n 0, 1) := by decide +kernel
theorem dX5_isMet_89 : decode cX5_isMet 89 = .ok (.getfield 227, 3) := by decide +kernel
theorem dX5_isMet_92 : decode cX5_isMet 92 = .ok (.goto 41, 3) := by decide +kernel
theorem dX5_isMet_95 : decode cX5_isMet 95 = .ok (.iload_n 2, 1) := by decide +kernel
theorem dX5_isMet_96 : decode cX5_isMet 96 = .ok (.iconst 5, 1) := by decide +kernel
theorem dX5_isMet_97 : decode cX5_isMet 97 = .ok (.if_icmp .ne 10, 3) := by decide +kernel
theorem dX5_isMet_100 : decode cX5_isMet 100 = .ok (.aload_n 0, 1) := by decide +kernel
theorem dX5_isMet_101 : decode cX5_isMet 101 = .ok (.getfield 230, 3) := by decide +kernel
theorem dX5_isMet_104 : decode cX5_isMet 104 = .ok (.goto 29, 3) := by decide +kernel
theorem dX5_isMet_107 : decode cX5_isMet 107 = .ok (.iload_n 2, 1) := by decide +kernel
theorem dX5_isMet_108 : decode cX5_isMet 108 = .ok (.bipush 6, 2) := by decide +kernel
theorem dX5_isMet_110 : decode cX5_isMet 110 = .ok (.if_icmp .ne 7, 3) := by decide +kernel
theorem dX5_isMet_113 : decode cX5_isMet 113 = .ok (.iload_n 3, 1) := by decide +kernel
theorem dX5_isMet_114 : decode cX5_isMet 114 = .ok (.goto 19, 3) := by decide +kernel
theorem dX5_isMet_117 : decode cX5_isMet 117 = .ok (.aload_n 0, 1) := by decide +kernel
theorem dX5_isMet_118 : decode cX5_isMet 118 = .ok (.getfield 220, 3) := by decide +kernel
theorem dX5_isMet_121 : decode cX5_isMet 121 = .ok (.ifCond .ne 7, 3) := by decide +kernel
theorem dX5_isMet_124 : decode cX5_isMet 124 = .ok (.iload_n 3, 1) := by decide +kernel
theorem dX5_isMet_125 : decode cX5_isMet 125 = .ok (.ifCond .eq 7, 3) := by decide +kernel
theorem dX5_isMet_128 : decode cX5_isMet 128 = .ok (.iconst 1, 1) := by decide +kernel
theorem dX5_isMet_129 : decode cX5_isMet 129 = .ok (.goto 4, 3) := by decide +kernel
theorem dX5_isMet_132 : decode cX5_isMet 132 = .ok (.iconst 0, 1) := by decide +kernel
theorem dX5_isMet_133 : decode cX5_isMet 133 = .ok (.istore 4, 2) := by decide +kernel
theorem dX5_isMet_135 : decode cX5_isMet 135 = .ok (.iload 4, 2) := by decide +kernel
theorem dX5_isMet_137 : decode cX5_isMet 137 = .ok (.iload_n 1, 1) := by decide +kernel
theorem dX5_isMet_138 : decode cX5_isMet 138 = .ok (.iconst 1, 1) := by decide +kernel
theorem dX5_isMet_139 : decode cX5_isMet 139 = .ok (.iand, 1) := by decide +kernel
theorem dX5_isMet_140 : decode cX5_isMet 140 = .ok (.ifCond .ne 7, 3) := by decide +kernel
theorem dX5_isMet_143 : decode cX5_isMet 143 = .ok (.iconst 1, 1) := by decide +kernel
theorem dX5_isMet_144 : decode cX5_isMet 144 = .ok (.goto 4, 3) := by decide +kernel
theorem dX5_isMet_147 : decode cX5_isMet 147 = .ok (.iconst 0, 1) := by decide +kernel
theorem dX5_isMet_148 : decode cX5_isMet 148 = .ok (.if_icmp .ne 7, 3) := by decide +kernel
theorem dX5_isMet_151 : decode cX5_isMet 151 = .ok (.iconst 1, 1) := by decide +kernel
theorem dX5_isMet_152 : decode cX5_isMet 152 = .ok (.goto 4, 3) := by decide +kernel
theorem dX5_isMet_155 : decode cX5_isMet 155 = .ok (.iconst 0, 1) := by decide +kernel
theorem dX5_isMet_156 : decode cX5_isMet 156 = .ok (.ireturn, 1) := by decide +kernel
theorem dX5_choose_0 : decode cX5_choose 0 = .ok (.aload_n 0, 1) := by decide +kernel
theorem dX5_choose_1 : decode cX5_choose 1 = .ok (.iconst 1, 1) := by decide +kernel
theorem dX5_choose_2 : decode cX5_choose 2 = .ok (.iload_n 1, 1) := by decide +kernel
theorem dX5_choose_3 : decode cX5_choose 3 = .ok (.invokevirtual 257, 3) := by decide +kernel
theorem dX5_choose_6 : decode cX5_choose 6 = .ok (.lstore_n 2, 1) := by decide +kernel
theorem dX5_choose_7 : decode cX5_choose 7 = .ok (.aload_n 0, 1) := by decide +kernel
theorem dX5_choose_8 : decode cX5_choose 8 = .ok (.iconst 0, 1) := by decide +kernel
theorem dX5_choose_9 : decode cX5_choose 9 = .ok (.iload_n 1, 1) := by decide +kernel
theorem dX5_choose_10 : decode cX5_choose 10 = .ok (.invokevirtual 257, 3) := by decide +kernel
theorem dX5_choose_13 : decode cX5_choose 13 = .ok (.lstore 4, 2) := by decide +kernel
theorem dX5_choose_15 : decode cX5_choose 15 = .ok (.aload_n 0, 1) := by decide +kernel
theorem dX5_choose_16 : decode cX5_choose 16 = .ok (.iconst 0, 1) := by decide +kernel
theorem dX5_choose_17 : decode cX5_choose 17 = .ok (.iload_n 1, 1) := by decide +kernel
theorem dX5_choose_18 : decode cX5_choose 18 = .ok (.aload_n 0, 1) := by decide +kernel
theorem dX5_choose_19 : decode cX5_choose 19 = .ok (.aload_n 0, 1) := by decide +kernel
theorem dX5_choose_20 : decode cX5_choose 20 = .ok (.getfield 117, 3) := by decide +kernel
theorem dX5_choose_23 : decode cX5_choose 23 = .ok (.invokevirtual 302, 3) := by decide +kernel
theorem dX5_choose_26 : decode cX5_choose 26 = .ok (.ifCond .eq 7, 3) := by decide +kernel
theorem dX5_choose_29 : decode cX5_choose 29 = .ok (.lload_n 2, 1) := by decide +kernel
theorem dX5_choose_30 : decode cX5_choose 30 = .ok (.goto 5, 3) := by decide +kernel
theorem dX5_choose_33 : decode cX5_choose 33 = .ok (.lload 4, 2) := by decide +kernel
theorem dX5_choose_35 : decode cX5_choose 35 = .ok (.invokevirtual 268, 3) := by decide +kernel
theorem dX5_choose_38 : decode cX5_choose 38 = .ok (.return_, 1) := by decide +kernel
theorem dX5_spread_0 : decode cX5_spread 0 = .ok (.aload_n 0, 1) := by decide +kernel
theorem dX5_spread_1 : decode cX5_spread 1 = .ok (.getfield 30, 3) := by decide +kernel
theorem dX5_spread_4 : decode cX5_spread 4 = .ok (.iconst 0, 1) := by decide +kernel
theorem dX5_spread_5 : decode cX5_spread 5 = .ok (.laload, 1) := by decide +kernel
theorem dX5_spread_6 : decode cX5_spread 6 = .ok (.lstore_n 3, 1) := by decide +kernel
theorem dX5_spread_7 : decode cX5_spread 7 = .ok (.iload_n 1, 1) := by decide +kernel
theorem dX5_spread_8 : decode cX5_spread 8 = .ok (.bipush 37, 2) := by decide +kernel
theorem dX5_spread_10 : decode cX5_spread 10 = .ok (.if_icmp .ne 29, 3) := by decide +kernel
theorem dX5_spread_13 : decode cX5_spread 13 = .ok (.aload_n 0, 1) := by decide +kernel
theorem dX5_spread_14 : decode cX5_spread 14 = .ok (.iconst 2, 1) := by decide +kernel
theorem dX5_spread_15 : decode cX5_spread 15 = .ok (.iload_n 2, 1) := by decide +kernel
theorem dX5_spread_16 : decode cX5_spread 16 = .ok (.lload_n 3, 1) := by decide +kernel
theorem dX5_spread_17 : decode cX5_spread 17 = .ok (.iload_n 2, 1) := by decide +kernel
theorem dX5_spread_18 : decode cX5_spread 18 = .ok (.invokestatic 224, 3) := by decide +kernel
theorem dX5_spread_21 : decode cX5_spread 21 = .ok (.lconst 1, 1) := by decide +kernel
theorem dX5_spread_22 : decode cX5_spread 22 = .ok (.lcmp, 1) := by decide +kernel
theorem dX5_spread_23 : decode cX5_spread 23 = .ok (.ifCond .ne 9, 3) := by decide +kernel
theorem dX5_spread_26 : decode cX5_spread 26 = .ok (.ldc2_w 277, 3) := by decide +kernel
theorem dX5_spread_29 : decode cX5_spread 29 = .ok (.goto 4, 3) := by decide +kernel
theorem dX5_spread_32 : decode cX5_spread 32 = .ok (.lconst 0, 1) := by decide +kernel
theorem dX5_spread_33 : decode cX5_spread 33 = .ok (.invokevirtual 212, 3) := by decide +kernel
theorem dX5_spread_36 : decode cX5_spread 36 = .ok (.goto 24, 3) := by decide +kernel
theorem dX5_spread_39 : decode cX5_spread 39 = .ok (.aload_n 0, 1) := by decide +kernel
theorem dX5_spread_40 : decode cX5_spread 40 = .ok (.iconst 0, 1) := by decide +kernel
theorem dX5_spread_41 : decode cX5_spread 41 = .ok (.iload_n 2, 1) := by decide +kernel
theorem dX5_spread_42 : decode cX5_spread 42 = .ok (.iload_n 2, 1) := by decide +kernel
theorem dX5_spread_43 : decode cX5_spread 43 = .ok (.iconst 4, 1) := by decide +kernel
theorem dX5_spread_44 : decode cX5_spread 44 = .ok (.if_icmp .ne 10, 3) := by decide +kernel
theorem dX5_spread_47 : decode cX5_spread 47 = .ok (.lload_n 3, 1) := by decide +kernel
theorem dX5_spread_48 : decode cX5_spread 48 = .ok (.l2i, 1) := by decide +kernel
theorem dX5_spread_49 : decode cX5_spread 49 = .ok (.i2s, 1) := by decide +kernel
theorem dX5_spread_50 : decode cX5_spread 50 = .ok (.i2l, 1) := by decide +kernel
theorem dX5_spread_51 : decode cX5_spread 51 = .ok (.goto 6, 3) := by decide +kernel
theorem dX5_spread_54 : decode cX5_spread 54 = .ok (.lload_n 3, 1) := by decide +kernel
theorem dX5_spread_55 : decode cX5_spread 55 = .ok (.l2i, 1) := by decide +kernel
theorem dX5_spread_56 : decode cX5_spread 56 = .ok (.i2l, 1) := by decide +kernel
theorem dX5_spread_57 : decode cX5_spread 57 = .ok (.invokevirtual 212, 3) := by decide +kernel
theorem dX5_spread_60 : decode cX5_spread 60 = .ok (.return_, 1) := by decide +kernel
theorem dX5_service_0 : decode cX5_service 0 = .ok (.aload_n 0, 1) := by decide +kernel
theorem dX5_service_1 : decode cX5_service 1 = .ok (.getfield 30, 3) := by decide +kernel
theorem dX5_service_4 : decode cX5_service 4 = .ok (.iconst 1, 1) := by decide +kernel
theorem dX5_service_5 : decode cX5_service 5 = .ok (.aload_n 0, 1) := by decide +kernel
theorem dX5_service_6 : decode cX5_service 6 = .ok (.getfield 90, 3) := by decide +kernel
theorem dX5_service_9 : decode cX5_service 9 = .ok (.lastore, 1) := by decide +kernel
theorem dX5_service_10 : decode cX5_service 10 = .ok (.aload_n 0, 1) := by decide +kernel
theorem dX5_service_11 : decode cX5_service 11 = .ok (.getfield 30, 3) := by decide +kernel
theorem dX5_service_14 : decode cX5_service 14 = .ok (.bipush 11, 2) := by decide +kernel
theorem dX5_service_16 : decode cX5_service 16 = .ok (.aload_n 0, 1) := by decide +kernel
theorem dX5_service_17 : decode cX5_service 17 = .ok (.invokevirtual 310, 3) := by decide +kernel
theorem dX5_service_20 : decode cX5_service 20 = .ok (.lastore, 1) := by decide +kernel
theorem dX5_service_21 : decode cX5_service 21 = .ok (.aload_n 0, 1) := by decide +kernel
theorem dX5_service_22 : decode cX5_service 22 = .ok (.getfield 30, 3) := by decide +kernel
theorem dX5_service_25 : decode cX5_service 25 = .ok (.iconst 0, 1) := by decide +kernel
theorem dX5_service_26 : decode cX5_service 26 = .ok (.laload, 1) := by decide +kernel
theorem dX5_service_27 : decode cX5_service 27 = .ok (.lstore_n 1, 1) := by decide +kernel
theorem dX5_service_28 : decode cX5_service 28 = .ok (.aload_n 0, 1) := by decide +kernel
theorem dX5_service_29 : decode cX5_service 29 = .ok (.getfield 30, 3) := by decide +kernel
theorem dX5_service_32 : decode cX5_service 32 = .ok (.bipush 7, 2) := by decide +kernel
theorem dX5_service_34 : decode cX5_service 34 = .ok (.laload, 1) := by decide +kernel
theorem dX5_service_35 : decode cX5_service 35 = .ok (.lstore_n 3, 1) := by decide +kernel
theorem dX5_service_36 : decode cX5_service 36 = .ok (.aload_n 0, 1) := by decide +kernel
theorem dX5_service_37 : decode cX5_service 37 = .ok (.getfield 30, 3) := by decide +kernel
theorem dX5_service_40 : decode cX5_service 40 = .ok (.bipush 6, 2) := by decide +kernel
theorem dX5_service_42 : decode cX5_service 42 = .ok (.laload, 1) := by decide +kernel
theorem dX5_service_43 : decode cX5_service 43 = .ok (.lstore 5, 2) := by decide +kernel
theorem dX5_service_45 : decode cX5_service 45 = .ok (.aload_n 0, 1) := by decide +kernel
theorem dX5_service_46 : decode cX5_service 46 = .ok (.getfield 30, 3) := by decide +kernel
theorem dX5_service_49 : decode cX5_service 49 = .ok (.iconst 2, 1) := by decide +kernel
theorem dX5_service_50 : decode cX5_service 50 = .ok (.laload, 1) := by decide +kernel
theorem dX5_service_51 : decode cX5_service 51 = .ok (.lstore 7, 2) := by decide +kernel
theorem dX5_service_53 : decode cX5_service 53 = .ok (.lload_n 1, 1) := by decide +kernel
theorem dX5_service_54 : decode cX5_service 54 = .ok (.lconst 0, 1) := by decide +kernel
theorem dX5_service_55 : decode cX5_service 55 = .ok (.lcmp, 1) := by decide +kernel
theorem dX5_service_56 : decode cX5_service 56 = .ok (.ifCond .ne 172, 3) := by decide +kernel
theorem dX5_service_59 : decode cX5_service 59 = .ok (.lload 7, 2) := by decide +kernel
theorem dX5_service_61 : decode cX5_service 61 = .ok (.lconst 0, 1) := by decide +kernel
theorem dX5_service_62 : decode cX5_service 62 = .ok (.lcmp, 1) := by decide +kernel
theorem dX5_service_63 : decode cX5_service 63 = .ok (.ifCond .lt 14, 3) := by decide +kernel
theorem dX5_service_66 : decode cX5_service 66 = .ok (.lload 7, 2) := by decide +kernel
theorem dX5_service_68 : decode cX5_service 68 = .ok (.aload_n 0, 1) := by decide +kernel
theorem dX5_service_69 : decode cX5_service 69 = .ok (.getfield 97, 3) := by decide +kernel
theorem dX5_service_72 : decode cX5_service 72 = .ok (.i2l, 1) := by decide +kernel
theorem dX5_service_73 : decode cX5_service 73 = .ok (.lcmp, 1) := by decide +kernel
theorem dX5_service_74 : decode cX5_service 74 = .ok (.ifCond .le 10, 3) := by decide +kernel
theorem dX5_service_77 : decode cX5_service 77 = .ok (.aload_n 0, 1) := by decide +kernel
theorem dX5_service_78 : decode cX5_service 78 = .ok (.getfield 97, 3) := by decide +kernel
theorem dX5_service_81 : decode cX5_service 81 = .ok (.goto 6, 3) := by decide +kernel
theorem dX5_service_84 : decode cX5_service 84 = .ok (.lload 7, 2) := by decide +kernel
theorem dX5_service_86 : decode cX5_service 86 = .ok (.l2i, 1) := by decide +kernel
theorem dX5_service_87 : decode cX5_service 87 = .ok (.istore 9, 2) := by decide +kernel
theorem dX5_service_89 : decode cX5_service 89 = .ok (.aload_n 0, 1) := by decide +kernel
theorem dX5_service_90 : decode cX5_service 90 = .ok (.lload 5, 2) := by decide +kernel
theorem dX5_service_92 : decode cX5_service 92 = .ok (.iload 9, 2) := by decide +kernel
theorem dX5_service_94 : decode cX5_service 94 = .ok (.i2l, 1) := by decide +kernel
theorem dX5_service_95 : decode cX5_service 95 = .ok (.iconst 1, 1) := by decide +kernel
theorem dX5_service_96 : decode cX5_service 96 = .ok (.invokevirtual 313, 3) := by decide +kernel
theorem dX5_service_99 : decode cX5_service 99 = .ok (.istore 10, 2) := by decide +kernel
theorem dX5_service_101 : decode cX5_service 101 = .ok (.iconst 0, 1) := by decide +kernel
theorem dX5_service_102 : decode cX5_service 102 = .ok (.istore 11, 2) := by decide +kernel
theorem dX5_service_104 : decode cX5_service 104 = .ok (.iload 11, 2) := by decide +kernel
theorem dX5_service_106 : decode cX5_service 106 = .ok (.iload 9, 2) := by decide +kernel
theorem dX5_service_108 : decode cX5_service 108 = .ok (.if_icmp .ge 36, 3) := by decide +kernel
theorem dX5_service_111 : decode cX5_service 111 = .ok (.iload 10, 2) := by decide +kernel
theorem dX5_service_113 : decode cX5_service 113 = .ok (.ifCond .eq 31, 3) := by decide +kernel
theorem dX5_service_116 : decode cX5_service 116 = .ok (.aload_n 0, 1) := by decide +kernel
theorem dX5_service_117 : decode cX5_service 117 = .ok (.aload_n 0, 1) := by decide +kernel
theorem dX5_service_118 : decode cX5_service 118 = .ok (.lload 5, 2) := by decide +kernel
theorem dX5_service_120 : decode cX5_service 120 = .ok (.iload 11, 2) := by decide +kernel
theorem dX5_service_122 : decode cX5_service 122 = .ok (.i2l, 1) := by decide +kernel
theorem dX5_service_123 : decode cX5_service 123 = .ok (.ladd, 1) := by decide +kernel
theorem dX5_service_124 : decode cX5_service 124 = .ok (.iconst 1, 1) := by decide +kernel
theorem dX5_service_125 : decode cX5_service 125 = .ok (.invokevirtual 176, 3) := by decide +kernel
theorem dX5_service_128 : decode cX5_service 128 = .ok (.aload_n 0, 1) := by decide +kernel
theorem dX5_service_129 : decode cX5_service 129 = .ok (.getfield 24, 3) := by decide +kernel
theorem dX5_service_132 : decode cX5_service 132 = .ok (.iload 11, 2) := by decide +kernel
theorem dX5_service_134 : decode cX5_service 134 = .ok (.baload, 1) := by decide +kernel
theorem dX5_service_135 : decode cX5_service 135 = .ok (.invokevirtual 188, 3) := by decide +kernel
theorem dX5_service_138 : decode cX5_service 138 = .ok (.iinc 11 1, 3) := by decide +kernel
theorem dX5_service_141 : decode cX5_service 141 = .ok (.goto (-37), 3) := by decide +kernel
theorem dX5_service_144 : decode cX5_service 144 = .ok (.iload 9, 2) := by decide +kernel
theorem dX5_service_146 : decode cX5_service 146 = .ok (.istore 11, 2) := by decide +kernel
theorem dX5_service_148 : decode cX5_service 148 = .ok (.iload 11, 2) := by decide +kernel
theorem dX5_service_150 : decode cX5_service 150 = .ok (.aload_n 0, 1) := by decide +kernel
theorem dX5_service_151 : decode cX5_service 151 = .ok (.getfield 97, 3) := by decide +kernel
theorem dX5_service_154 : decode cX5_service 154 = .ok (.if_icmp .ge 31, 3) := by decide +kernel
theorem dX5_service_157 : decode cX5_service 157 = .ok (.iload 10, 2) := by decide +kernel
theorem dX5_service_159 : decode cX5_service 159 = .ok (.ifCond .eq 26, 3) := by decide +kernel
theorem dX5_service_162 : decode cX5_service 162 = .ok (.aload_n 0, 1) := by decide +kernel
theorem dX5_service_163 : decode cX5_service 163 = .ok (.getfield 24, 3) := by decide +kernel
theorem dX5_service_166 : decode cX5_service 166 = .ok (.iload 11, 2) := by decide +kernel
theorem dX5_service_168 : decode cX5_service 168 = .ok (.iload 9, 2) := by decide +kernel
theorem dX5_service_170 : decode cX5_service 170 = .ok (.isub, 1) := by decide +kernel
theorem dX5_service_171 : decode cX5_service 171 = .ok (.aload_n 0, 1) := by decide +kernel
theorem dX5_service_172 : decode cX5_service 172 = .ok (.getfield 24, 3) := by decide +kernel
theorem dX5_service_175 : decode cX5_service 175 = .ok (.iload 11, 2) := by decide +kernel
theorem dX5_service_177 : decode cX5_service 177 = .ok (.baload, 1) := by decide +kernel
theorem dX5_service_178 : decode cX5_service 178 = .ok (.bastore, 1) := by decide +kernel
theorem dX5_service_179 : decode cX5_service 179 = .ok (.iinc 11 1, 3) := by decide +kernel
theorem dX5_service_182 : decode cX5_service 182 = .ok (.goto (-34), 3) := by decide +kernel
theorem dX5_service_185 : decode cX5_service 185 = .ok (.aload_n 0, 1) := by decide +kernel
theorem dX5_service_186 : decode cX5_service 186 = .ok (.dup, 1) := by decide +kernel
theorem dX5_service_187 : decode cX5_service 187 = .ok (.getfield 97, 3) := by decide +kernel
theorem dX5_service_190 : decode cX5_service 190 = .ok (.iload 10, 2) := by decide +kernel
theorem dX5_service_192 : decode cX5_service 192 = .ok (.ifCond .eq 8, 3) := by decide +kernel
theorem dX5_service_195 : decode cX5_service 195 = .ok (.iload 9, 2) := by decide +kernel
theorem dX5_service_197 : decode cX5_service 197 = .ok (.goto 4, 3) := by decide +kernel
theorem dX5_service_200 : decode cX5_service 200 = .ok (.iconst 0, 1) := by decide +kernel
theorem dX5_service_201 : decode cX5_service 201 = .ok (.isub, 1) := by decide +kernel
theorem dX5_service_202 : decode cX5_service 202 = .ok (.putfield 97, 3) := by decide +kernel
theorem dX5_service_205 : decode cX5_service 205 = .ok (.aload_n 0, 1) := by decide +kernel
theorem dX5_service_206 : decode cX5_service 206 = .ok (.getfield 30, 3) := by decide +kernel
theorem dX5_service_209 : decode cX5_service 209 = .ok (.iconst 0, 1) := by decide +kernel
theorem dX5_service_210 : decode cX5_service 210 = .ok (.iload 10, 2) := by decide +kernel
theorem dX5_service_212 : decode cX5_service 212 = .ok (.ifCond .eq 9, 3) := by decide +kernel
theorem dX5_service_215 : decode cX5_service 215 = .ok (.iload 9, 2) := by decide +kernel
theorem dX5_service_217 : decode cX5_service 217 = .ok (.i2l, 1) := by decide +kernel
theorem dX5_service_218 : decode cX5_service 218 = .ok (.goto 6, 3) := by decide +kernel
theorem dX5_service_221 : decode cX5_service 221 = .ok (.ldc2_w 317, 3) := by decide +kernel
theorem dX5_service_224 : decode cX5_service 224 = .ok (.lastore, 1) := by decide +kernel
theorem dX5_service_225 : decode cX5_service 225 = .ok (.goto 265, 3) := by decide +kernel
theorem dX5_service_228 : decode cX5_service 228 = .ok (.lload_n 1, 1) := by decide +kernel
theorem dX5_service_229 : decode cX5_service 229 = .ok (.lconst 1, 1) := by decide +kernel
theorem dX5_service_230 : decode cX5_service 230 = .ok (.lcmp, 1) := by decide +kernel
theorem dX5_service_231 : decode cX5_service 231 = .ok (.ifCond .ne 147, 3) := by decide +kernel
theorem dX5_service_234 : decode cX5_service 234 = .ok (.lload 7, 2) := by decide +kernel
theorem dX5_service_236 : decode cX5_service 236 = .ok (.lconst 0, 1) := by decide +kernel
theorem dX5_service_237 : decode cX5_service 237 = .ok (.lcmp, 1) := by decide +kernel
theorem dX5_service_238 : decode cX5_service 238 = .ok (.ifCond .lt 22, 3) := by decide +kernel
theorem dX5_service_241 : decode cX5_service 241 = .ok (.lload 7, 2) := by decide +kernel
theorem dX5_service_243 : decode cX5_service 243 = .ok (.ldc2_w 166, 3) := by decide +kernel
theorem dX5_service_246 : decode cX5_service 246 = .ok (.aload_n 0, 1) := by decide +kernel
theorem dX5_service_247 : decode cX5_service 247 = .ok (.getfield 100, 3) := by decide +kernel
theorem dX5_service_250 : decode cX5_service 250 = .ok (.i2l, 1) := by decide +kernel
theorem dX5_service_251 : decode cX5_service 251 = .ok (.lsub, 1) := by decide +kernel
theorem dX5_service_252 : decode cX5_service 252 = .ok (.lcmp, 1) := by decide +kernel
theorem dX5_service_253 : decode cX5_service 253 = .ok (.ifCond .gt 7, 3) := by decide +kernel
theorem dX5_service_256 : decode cX5_service 256 = .ok (.iconst 1, 1) := by decide +kernel
theorem dX5_service_257 : decode cX5_service 257 = .ok (.goto 4, 3) := by decide +kernel
theorem dX5_service_260 : decode cX5_service 260 = .ok (.iconst 0, 1) := by decide +kernel
theorem dX5_service_261 : decode cX5_service 261 = .ok (.istore 9, 2) := by decide +kernel
theorem dX5_service_263 : decode cX5_service 263 = .ok (.iload 9, 2) := by decide +kernel
theorem dX5_service_265 : decode cX5_service 265 = .ok (.ifCond .eq 19, 3) := by decide +kernel
theorem dX5_service_268 : decode cX5_service 268 = .ok (.aload_n 0, 1) := by decide +kernel
theorem dX5_service_269 : decode cX5_service 269 = .ok (.lload 5, 2) := by decide +kernel
theorem dX5_service_271 : decode cX5_service 271 = .ok (.lload 7, 2) := by decide +kernel
theorem dX5_service_273 : decode cX5_service 273 = .ok (.iconst 0, 1) := by decide +kernel
theorem dX5_service_274 : decode cX5_service 274 = .ok (.invokevirtual 313, 3) := by decide +kernel
theorem dX5_service_277 : decode cX5_service 277 = .ok (.ifCond .eq 7, 3) := by decide +kernel
theorem dX5_service_280 : decode cX5_service 280 = .ok (.iconst 1, 1) := by decide +kernel
theorem dX5_service_281 : decode cX5_service 281 = .ok (.goto 4, 3) := by decide +kernel
theorem dX5_service_284 : decode cX5_service 284 = .ok (.iconst 0, 1) := by decide +kernel
theorem dX5_service_285 : decode cX5_service 285 = .ok (.istore 10, 2) := by decide +kernel
theorem dX5_service_287 : decode cX5_service 287 = .ok (.iconst 0, 1) := by decide +kernel
theorem dX5_service_288 : decode cX5_service 288 = .ok (.istore 11, 2) := by decide +kernel
theorem dX5_service_290 : decode cX5_service 290 = .ok (.iload 11, 2) := by decide +kernel
theorem dX5_service_292 : decode cX5_service 292 = .ok (.i2l, 1) := by decide +kernel
theorem dX5_service_293 : decode cX5_service 293 = .ok (.lload 7, 2) := by decide +kernel
theorem dX5_service_295 : decode cX5_service 295 = .ok (.lcmp, 1) := by decide +kernel
theorem dX5_service_296 : decode cX5_service 296 = .ok (.ifCond .ge 49, 3) := by decide +kernel
theorem dX5_service_299 : decode cX5_service 299 = .ok (.iload 10, 2) := by decide +kernel
theorem dX5_service_301 : decode cX5_service 301 = .ok (.ifCond .eq 44, 3) := by decide +kernel
theorem dX5_service_304 : decode cX5_service 304 = .ok (.aload_n 0, 1) := by decide +kernel
theorem dX5_service_305 : decode cX5_service 305 = .ok (.getfield 27, 3) := by decide +kernel
theorem dX5_service_308 : decode cX5_service 308 = .ok (.aload_n 0, 1) := by decide +kernel
theorem dX5_service_309 : decode cX5_service 309 = .ok (.getfield 100, 3) := by decide +kernel
theorem dX5_service_312 : decode cX5_service 312 = .ok (.aload_n 0, 1) := by decide +kernel
theorem dX5_service_313 : decode cX5_service 313 = .ok (.aload_n 0, 1) := by decide +kernel
theorem dX5_service_314 : decode cX5_service 314 = .ok (.lload 5, 2) := by decide +kernel
theorem dX5_service_316 : decode cX5_service 316 = .ok (.iload 11, 2) := by decide +kernel
theorem dX5_service_318 : decode cX5_service 318 = .ok (.i2l, 1) := by decide +kernel
theorem dX5_service_319 : decode cX5_service 319 = .ok (.ladd, 1) := by decide +kernel
theorem dX5_service_320 : decode cX5_service 320 = .ok (.iconst 0, 1) := by decide +kernel
theorem dX5_service_321 : decode cX5_service 321 = .ok (.invokevirtual 176, 3) := by decide +kernel
theorem dX5_service_324 : decode cX5_service 324 = .ok (.invokevirtual 184, 3) := by decide +kernel
theorem dX5_service_327 : decode cX5_service 327 = .ok (.i2b, 1) := by decide +kernel
theorem dX5_service_328 : decode cX5_service 328 = .ok (.bastore, 1) := by decide +kernel
theorem dX5_service_329 : decode cX5_service 329 = .ok (.aload_n 0, 1) := by decide +kernel
theorem dX5_service_330 : decode cX5_service 330 = .ok (.dup, 1) := by decide +kernel
theorem dX5_service_331 : decode cX5_service 331 = .ok (.getfield 100, 3) := by decide +kernel
theorem dX5_service_334 : decode cX5_service 334 = .ok (.iconst 1, 1) := by decide +kernel
theorem dX5_service_335 : decode cX5_service 335 = .ok (.iadd, 1) := by decide +kernel
theorem dX5_service_336 : decode cX5_service 336 = .ok (.putfield 100, 3) := by decide +kernel
theorem dX5_service_339 : decode cX5_service 339 = .ok (.iinc 11 1, 3) := by decide +kernel
theorem dX5_service_342 : decode cX5_service 342 = .ok (.goto (-52), 3) := by decide +kernel
theorem dX5_service_345 : decode cX5_service 345 = .ok (.aload_n 0, 1) := by decide +kernel
theorem dX5_service_346 : decode cX5_service 346 = .ok (.getfield 30, 3) := by decide +kernel
theorem dX5_service_349 : decode cX5_service 349 = .ok (.iconst 0, 1) := by decide +kernel
theorem dX5_service_350 : decode cX5_service 350 = .ok (.iload 10, 2) := by decide +kernel
theorem dX5_service_352 : decode cX5_service 352 = .ok (.ifCond .eq 8, 3) := by decide +kernel
theorem dX5_service_355 : decode cX5_service 355 = .ok (.lload 7, 2) := by decide +kernel
theorem dX5_service_357 : decode cX5_service 357 = .ok (.goto 17, 3) := by decide +kernel
theorem dX5_service_360 : decode cX5_service 360 = .ok (.iload 9, 2) := by decide +kernel
theorem dX5_service_362 : decode cX5_service 362 = .ok (.ifCond .eq 9, 3) := by decide +kernel
theorem dX5_service_365 : decode cX5_service 365 = .ok (.ldc2_w 317, 3) := by decide +kernel
theorem dX5_service_368 : decode cX5_service 368 = .ok (.goto 6, 3) := by decide +kernel
theorem dX5_service_371 : decode cX5_service 371 = .ok (.ldc2_w 319, 3) := by decide +kernel
theorem dX5_service_374 : decode cX5_service 374 = .ok (.lastore, 1) := by decide +kernel
theorem dX5_service_375 : decode cX5_service 375 = .ok (.goto 115, 3) := by decide +kernel
theorem dX5_service_378 : decode cX5_service 378 = .ok (.lload_n 1, 1) := by decide +kernel
theorem dX5_service_379 : decode cX5_service 379 = .ok (.ldc2_w 321, 3) := by decide +kernel
theorem dX5_service_382 : decode cX5_service 382 = .ok (.lcmp, 1) := by decide +kernel
theorem dX5_service_383 : decode cX5_service 383 = .ok (.ifCond .ne 81, 3) := by decide +kernel
theorem dX5_service_386 : decode cX5_service 386 = .ok (.lload_n 3, 1) := by decide +kernel
theorem dX5_service_387 : decode cX5_service 387 = .ok (.aload_n 0, 1) := by decide +kernel
theorem dX5_service_388 : decode cX5_service 388 = .ok (.invokevirtual 159, 3) := by decide +kernel
theorem dX5_service_391 : decode cX5_service 391 = .ok (.lsub, 1) := by decide +kernel
theorem dX5_service_392 : decode cX5_service 392 = .ok (.lstore 9, 2) := by decide +kernel
theorem dX5_service_394 : decode cX5_service 394 = .ok (.lload 9, 2) := by decide +kernel
theorem dX5_service_396 : decode cX5_service 396 = .ok (.lconst 0, 1) := by decide +kernel
theorem dX5_service_397 : decode cX5_service 397 = .ok (.lcmp, 1) := by decide +kernel
theorem dX5_service_398 : decode cX5_service 398 = .ok (.ifCond .lt 47, 3) := by decide +kernel
theorem dX5_service_401 : decode cX5_service 401 = .ok (.lload 9, 2) := by decide +kernel
theorem dX5_service_403 : decode cX5_service 403 = .ok (.ldc2_w 166, 3) := by decide +kernel
theorem dX5_service_406 : decode cX5_service 406 = .ok (.lcmp, 1) := by decide +kernel
theorem dX5_service_407 : decode cX5_service 407 = .ok (.ifCond .gt 38, 3) := by decide +kernel
theorem dX5_service_410 : decode cX5_service 410 = .ok (.lload 9, 2) := by decide +kernel
theorem dX5_service_412 : decode cX5_service 412 = .ok (.l2i, 1) := by decide +kernel
theorem dX5_service_413 : decode cX5_service 413 = .ok (.istore 11, 2) := by decide +kernel
theorem dX5_service_415 : decode cX5_service 415 = .ok (.iload 11, 2) := by decide +kernel
theorem dX5_service_417 : decode cX5_service 417 = .ok (.aload_n 0, 1) := by decide +kernel
theorem dX5_service_418 : decode cX5_service 418 = .ok (.getfield 94, 3) := by decide +kernel
theorem dX5_service_421 : decode cX5_service 421 = .ok (.if_icmp .ge 17, 3) := by decide +kernel
theorem dX5_service_424 : decode cX5_service 424 = .ok (.aload_n 0, 1) := by decide +kernel
theorem dX5_service_425 : decode cX5_service 425 = .ok (.getfield 18, 3) := by decide +kernel
theorem dX5_service_428 : decode cX5_service 428 = .ok (.iload 11, 2) := by decide +kernel
theorem dX5_service_430 : decode cX5_service 430 = .ok (.iconst 0, 1) := by decide +kernel
theorem dX5_service_431 : decode cX5_service 431 = .ok (.bastore, 1) := by decide +kernel
theorem dX5_service_432 : decode cX5_service 432 = .ok (.iinc 11 1, 3) := by decide +kernel
theorem dX5_service_435 : decode cX5_service 435 = .ok (.goto (-20), 3) := by decide +kernel
theorem dX5_service_438 : decode cX5_service 438 = .ok (.aload_n 0, 1) := by decide +kernel
theorem dX5_service_439 : decode cX5_service 439 = .ok (.lload 9, 2) := by decide +kernel
theorem dX5_service_441 : decode cX5_service 441 = .ok (.l2i, 1) := by decide +kernel
theorem dX5_service_442 : decode cX5_service 442 = .ok (.putfield 94, 3) := by decide +kernel
theorem dX5_service_445 : decode cX5_service 445 = .ok (.aload_n 0, 1) := by decide +kernel
theorem dX5_service_446 : decode cX5_service 446 = .ok (.getfield 30, 3) := by decide +kernel
theorem dX5_service_449 : decode cX5_service 449 = .ok (.iconst 0, 1) := by decide +kernel
theorem dX5_service_450 : decode cX5_service 450 = .ok (.aload_n 0, 1) := by decide +kernel
theorem dX5_service_451 : decode cX5_service 451 = .ok (.invokevirtual 159, 3) := by decide +kernel
theorem dX5_service_454 : decode cX5_service 454 = .ok (.aload_n 0, 1) := by decide +kernel
theorem dX5_service_455 : decode cX5_service 455 = .ok (.getfield 94, 3) := by decide +kernel
theorem dX5_service_458 : decode cX5_service 458 = .ok (.i2l, 1) := by decide +kernel
theorem dX5_service_459 : decode cX5_service 459 = .ok (.ladd, 1) := by decide +kernel
theorem dX5_service_460 : decode cX5_service 460 = .ok (.lastore, 1) := by decide +kernel
theorem dX5_service_461 : decode cX5_service 461 = .ok (.goto 29, 3) := by decide +kernel
theorem dX5_service_464 : decode cX5_service 464 = .ok (.lload_n 1, 1) := by decide +kernel
theorem dX5_service_465 : decode cX5_service 465 = .ok (.ldc2_w 323, 3) := by decide +kernel
theorem dX5_service_468 : decode cX5_service 468 = .ok (.lcmp, 1) := by decide +kernel
theorem dX5_service_469 : decode cX5_service 469 = .ok (.ifCond .ne 12, 3) := by decide +kernel
theorem dX5_service_472 : decode cX5_service 472 = .ok (.aload_n 0, 1) := by decide +kernel
theorem dX5_service_473 : decode cX5_service 473 = .ok (.iconst 1, 1) := by decide +kernel
theorem dX5_service_474 : decode cX5_service 474 = .ok (.lload_n 3, 1) := by decide +kernel
theorem dX5_service_475 : decode cX5_service 475 = .ok (.invokevirtual 180, 3) := by decide +kernel
theorem dX5_service_478 : decode cX5_service 478 = .ok (.goto 12, 3) := by decide +kernel
theorem dX5_service_481 : decode cX5_service 481 = .ok (.aload_n 0, 1) := by decide +kernel
theorem dX5_service_482 : decode cX5_service 482 = .ok (.getfield 30, 3) := by decide +kernel
theorem dX5_service_485 : decode cX5_service 485 = .ok (.iconst 0, 1) := by decide +kernel
theorem dX5_service_486 : decode cX5_service 486 = .ok (.ldc2_w 325, 3) := by decide +kernel
theorem dX5_service_489 : decode cX5_service 489 = .ok (.lastore, 1) := by decide +kernel
theorem dX5_service_490 : decode cX5_service 490 = .ok (.return_, 1) := by decide +kernel
theorem dX5_may_0 : decode cX5_may 0 = .ok (.lload_n 3, 1) := by decide +kernel
theorem dX5_may_1 : decode cX5_may 1 = .ok (.lconst 0, 1) := by decide +kernel
theorem dX5_may_2 : decode cX5_may 2 = .ok (.lcmp, 1) := by decide +kernel
theorem dX5_may_3 : decode cX5_may 3 = .ok (.ifCond .lt 11, 3) := by decide +kernel
theorem dX5_may_6 : decode cX5_may 6 = .ok (.lload_n 3, 1) := by decide +kernel
theorem dX5_may_7 : decode cX5_may 7 = .ok (.ldc2_w 308, 3) := by decide +kernel
theorem dX5_may_10 : decode cX5_may 10 = .ok (.lcmp, 1) := by decide +kernel
theorem dX5_may_11 : decode cX5_may 11 = .ok (.ifCond .le 5, 3) := by decide +kernel
theorem dX5_may_14 : decode cX5_may 14 = .ok (.iconst 0, 1) := by decide +kernel
theorem dX5_may_15 : decode cX5_may 15 = .ok (.ireturn, 1) := by decide +kernel
theorem dX5_may_16 : decode cX5_may 16 = .ok (.lconst 0, 1) := by decide +kernel
theorem dX5_may_17 : decode cX5_may 17 = .ok (.lstore 6, 2) := by decide +kernel
theorem dX5_may_19 : decode cX5_may 19 = .ok (.lload 6, 2) := by decide +kernel
theorem dX5_may_21 : decode cX5_may 21 = .ok (.lload_n 3, 1) := by decide +kernel
theorem dX5_may_22 : decode cX5_may 22 = .ok (.lcmp, 1) := by decide +kernel
theorem dX5_may_23 : decode cX5_may 23 = .ok (.ifCond .ge 27, 3) := by decide +kernel
theorem dX5_may_26 : decode cX5_may 26 = .ok (.aload_n 0, 1) := by decide +kernel
theorem dX5_may_27 : decode cX5_may 27 = .ok (.lload_n 1, 1) := by decide +kernel
theorem dX5_may_28 : decode cX5_may 28 = .ok (.lload 6, 2) := by decide +kernel
theorem dX5_may_30 : decode cX5_may 30 = .ok (.ladd, 1) := by decide +kernel
theorem dX5_may_31 : decode cX5_may 31 = .ok (.iload 5, 2) := by decide +kernel
theorem dX5_may_33 : decode cX5_may 33 = .ok (.invokevirtual 176, 3) := by decide +kernel
theorem dX5_may_36 : decode cX5_may 36 = .ok (.ifCond .ge 5, 3) := by decide +kernel
theorem dX5_may_39 : decode cX5_may 39 = .ok (.iconst 0, 1) := by decide +kernel
theorem dX5_may_40 : decode cX5_may 40 = .ok (.ireturn, 1) := by decide +kernel
theorem dX5_may_41 : decode cX5_may 41 = .ok (.lload 6, 2) := by decide +kernel
theorem dX5_may_43 : decode cX5_may 43 = .ok (.lconst 1, 1) := by decide +kernel
theorem dX5_may_44 : decode cX5_may 44 = .ok (.ladd, 1) := by decide +kernel
theorem dX5_may_45 : decode cX5_may 45 = .ok (.lstore 6, 2) := by decide +kernel
theorem dX5_may_47 : decode cX5_may 47 = .ok (.goto (-28), 3) := by decide +kernel
theorem dX5_may_50 : decode cX5_may 50 = .ok (.iconst 1, 1) := by decide +kernel
