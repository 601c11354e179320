set_option maxRecDepth 100000
theorem dX2_product_47 : decode cX2_product 47 = .ok (.lload_n 3, 1) := by decide +kernel
theorem dX2_product_48 : decode cX2_product 48 = .ok (.invokestatic 202, 3) := by decide +kernel
theorem dX2_product_51 : decode cX2_product 51 = .ok (.lstore 9, 2) := by decide +kernel
theorem dX2_product_53 : decode cX2_product 53 = .ok (.aload_n 0, 1) := by decide +kernel
theorem dX2_product_54 : decode cX2_product 54 = .ok (.sipush 2049, 3) := by decide +kernel
theorem dX2_product_57 : decode cX2_product 57 = .ok (.iload_n 1, 1) := by decide +kernel
theorem dX2_product_58 : decode cX2_product 58 = .ok (.ifCond .eq 22, 3) := by decide +kernel
theorem dX2_product_61 : decode cX2_product 61 = .ok (.lload 9, 2) := by decide +kernel
theorem dX2_product_63 : decode cX2_product 63 = .ok (.lload 7, 2) := by decide +kernel
theorem dX2_product_65 : decode cX2_product 65 = .ok (.bipush 63, 2) := by decide +kernel
theorem dX2_product_67 : decode cX2_product 67 = .ok (.lshr, 1) := by decide +kernel
theorem dX2_product_68 : decode cX2_product 68 = .ok (.lcmp, 1) := by decide +kernel
theorem dX2_product_69 : decode cX2_product 69 = .ok (.ifCond .eq 7, 3) := by decide +kernel
theorem dX2_product_72 : decode cX2_product 72 = .ok (.iconst 1, 1) := by decide +kernel
theorem dX2_product_73 : decode cX2_product 73 = .ok (.goto 19, 3) := by decide +kernel
theorem dX2_product_76 : decode cX2_product 76 = .ok (.iconst 0, 1) := by decide +kernel
theorem dX2_product_77 : decode cX2_product 77 = .ok (.goto 15, 3) := by decide +kernel
theorem dX2_product_80 : decode cX2_product 80 = .ok (.lload 9, 2) := by decide +kernel
theorem dX2_product_82 : decode cX2_product 82 = .ok (.lconst 0, 1) := by decide +kernel
theorem dX2_product_83 : decode cX2_product 83 = .ok (.lcmp, 1) := by decide +kernel
theorem dX2_product_84 : decode cX2_product 84 = .ok (.ifCond .eq 7, 3) := by decide +kernel
theorem dX2_product_87 : decode cX2_product 87 = .ok (.iconst 1, 1) := by decide +kernel
theorem dX2_product_88 : decode cX2_product 88 = .ok (.goto 4, 3) := by decide +kernel
theorem dX2_product_91 : decode cX2_product 91 = .ok (.iconst 0, 1) := by decide +kernel
theorem dX2_product_92 : decode cX2_product 92 = .ok (.invokevirtual 125, 3) := by decide +kernel
theorem dX2_product_95 : decode cX2_product 95 = .ok (.aload_n 0, 1) := by decide +kernel
theorem dX2_product_96 : decode cX2_product 96 = .ok (.getfield 26, 3) := by decide +kernel
theorem dX2_product_99 : decode cX2_product 99 = .ok (.iconst 0, 1) := by decide +kernel
theorem dX2_product_100 : decode cX2_product 100 = .ok (.lload 7, 2) := by decide +kernel
theorem dX2_product_102 : decode cX2_product 102 = .ok (.lastore, 1) := by decide +kernel
theorem dX2_product_103 : decode cX2_product 103 = .ok (.aload_n 0, 1) := by decide +kernel
theorem dX2_product_104 : decode cX2_product 104 = .ok (.getfield 26, 3) := by decide +kernel
theorem dX2_product_107 : decode cX2_product 107 = .ok (.iconst 2, 1) := by decide +kernel
theorem dX2_product_108 : decode cX2_product 108 = .ok (.lload 9, 2) := by decide +kernel
theorem dX2_product_110 : decode cX2_product 110 = .ok (.lastore, 1) := by decide +kernel
theorem dX2_product_111 : decode cX2_product 111 = .ok (.return_, 1) := by decide +kernel
theorem dX2_product_112 : decode cX2_product 112 = .ok (.iload_n 1, 1) := by decide +kernel
theorem dX2_product_113 : decode cX2_product 113 = .ok (.ifCond .eq 18, 3) := by decide +kernel
theorem dX2_product_116 : decode cX2_product 116 = .ok (.lload 5, 2) := by decide +kernel
theorem dX2_product_118 : decode cX2_product 118 = .ok (.iload_n 2, 1) := by decide +kernel
theorem dX2_product_119 : decode cX2_product 119 = .ok (.invokestatic 122, 3) := by decide +kernel
theorem dX2_product_122 : decode cX2_product 122 = .ok (.lload_n 3, 1) := by decide +kernel
theorem dX2_product_123 : decode cX2_product 123 = .ok (.iload_n 2, 1) := by decide +kernel
theorem dX2_product_124 : decode cX2_product 124 = .ok (.invokestatic 122, 3) := by decide +kernel
theorem dX2_product_127 : decode cX2_product 127 = .ok (.lmul, 1) := by decide +kernel
theorem dX2_product_128 : decode cX2_product 128 = .ok (.goto 7, 3) := by decide +kernel
theorem dX2_product_131 : decode cX2_product 131 = .ok (.lload 5, 2) := by decide +kernel
theorem dX2_product_133 : decode cX2_product 133 = .ok (.lload_n 3, 1) := by decide +kernel
theorem dX2_product_134 : decode cX2_product 134 = .ok (.lmul, 1) := by decide +kernel
theorem dX2_product_135 : decode cX2_product 135 = .ok (.lstore 7, 2) := by decide +kernel
theorem dX2_product_137 : decode cX2_product 137 = .ok (.aload_n 0, 1) := by decide +kernel
theorem dX2_product_138 : decode cX2_product 138 = .ok (.sipush 2049, 3) := by decide +kernel
theorem dX2_product_141 : decode cX2_product 141 = .ok (.iload_n 1, 1) := by decide +kernel
theorem dX2_product_142 : decode cX2_product 142 = .ok (.ifCond .eq 23, 3) := by decide +kernel
theorem dX2_product_145 : decode cX2_product 145 = .ok (.lload 7, 2) := by decide +kernel
theorem dX2_product_147 : decode cX2_product 147 = .ok (.lload 7, 2) := by decide +kernel
theorem dX2_product_149 : decode cX2_product 149 = .ok (.iload_n 2, 1) := by decide +kernel
theorem dX2_product_150 : decode cX2_product 150 = .ok (.invokestatic 122, 3) := by decide +kernel
theorem dX2_product_153 : decode cX2_product 153 = .ok (.lcmp, 1) := by decide +kernel
theorem dX2_product_154 : decode cX2_product 154 = .ok (.ifCond .eq 7, 3) := by decide +kernel
theorem dX2_product_157 : decode cX2_product 157 = .ok (.iconst 1, 1) := by decide +kernel
theorem dX2_product_158 : decode cX2_product 158 = .ok (.goto 24, 3) := by decide +kernel
theorem dX2_product_161 : decode cX2_product 161 = .ok (.iconst 0, 1) := by decide +kernel
theorem dX2_product_162 : decode cX2_product 162 = .ok (.goto 20, 3) := by decide +kernel
theorem dX2_product_165 : decode cX2_product 165 = .ok (.lload 7, 2) := by decide +kernel
theorem dX2_product_167 : decode cX2_product 167 = .ok (.bipush 8, 2) := by decide +kernel
theorem dX2_product_169 : decode cX2_product 169 = .ok (.iload_n 2, 1) := by decide +kernel
theorem dX2_product_170 : decode cX2_product 170 = .ok (.imul, 1) := by decide +kernel
theorem dX2_product_171 : decode cX2_product 171 = .ok (.lushr, 1) := by decide +kernel
theorem dX2_product_172 : decode cX2_product 172 = .ok (.lconst 0, 1) := by decide +kernel
theorem dX2_product_173 : decode cX2_product 173 = .ok (.lcmp, 1) := by decide +kernel
theorem dX2_product_174 : decode cX2_product 174 = .ok (.ifCond .eq 7, 3) := by decide +kernel
theorem dX2_product_177 : decode cX2_product 177 = .ok (.iconst 1, 1) := by decide +kernel
theorem dX2_product_178 : decode cX2_product 178 = .ok (.goto 4, 3) := by decide +kernel
theorem dX2_product_181 : decode cX2_product 181 = .ok (.iconst 0, 1) := by decide +kernel
theorem dX2_product_182 : decode cX2_product 182 = .ok (.invokevirtual 125, 3) := by decide +kernel
theorem dX2_product_185 : decode cX2_product 185 = .ok (.iload_n 2, 1) := by decide +kernel
theorem dX2_product_186 : decode cX2_product 186 = .ok (.iconst 1, 1) := by decide +kernel
theorem dX2_product_187 : decode cX2_product 187 = .ok (.if_icmp .ne 29, 3) := by decide +kernel
theorem dX2_product_190 : decode cX2_product 190 = .ok (.aload_n 0, 1) := by decide +kernel
theorem dX2_product_191 : decode cX2_product 191 = .ok (.getfield 26, 3) := by decide +kernel
theorem dX2_product_194 : decode cX2_product 194 = .ok (.iconst 0, 1) := by decide +kernel
theorem dX2_product_195 : decode cX2_product 195 = .ok (.aload_n 0, 1) := by decide +kernel
theorem dX2_product_196 : decode cX2_product 196 = .ok (.getfield 26, 3) := by decide +kernel
theorem dX2_product_199 : decode cX2_product 199 = .ok (.iconst 0, 1) := by decide +kernel
theorem dX2_product_200 : decode cX2_product 200 = .ok (.laload, 1) := by decide +kernel
theorem dX2_product_201 : decode cX2_product 201 = .ok (.ldc2_w 209, 3) := by decide +kernel
theorem dX2_product_204 : decode cX2_product 204 = .ok (.land, 1) := by decide +kernel
theorem dX2_product_205 : decode cX2_product 205 = .ok (.lload 7, 2) := by decide +kernel
theorem dX2_product_207 : decode cX2_product 207 = .ok (.ldc2_w 211, 3) := by decide +kernel
theorem dX2_product_210 : decode cX2_product 210 = .ok (.land, 1) := by decide +kernel
theorem dX2_product_211 : decode cX2_product 211 = .ok (.lor, 1) := by decide +kernel
theorem dX2_product_212 : decode cX2_product 212 = .ok (.lastore, 1) := by decide +kernel
theorem dX2_product_213 : decode cX2_product 213 = .ok (.goto 30, 3) := by decide +kernel
theorem dX2_product_216 : decode cX2_product 216 = .ok (.aload_n 0, 1) := by decide +kernel
theorem dX2_product_217 : decode cX2_product 217 = .ok (.getfield 26, 3) := by decide +kernel
theorem dX2_product_220 : decode cX2_product 220 = .ok (.iconst 0, 1) := by decide +kernel
theorem dX2_product_221 : decode cX2_product 221 = .ok (.lload 7, 2) := by decide +kernel
theorem dX2_product_223 : decode cX2_product 223 = .ok (.iconst 4, 1) := by decide +kernel
theorem dX2_product_224 : decode cX2_product 224 = .ok (.invokestatic 110, 3) := by decide +kernel
theorem dX2_product_227 : decode cX2_product 227 = .ok (.lastore, 1) := by decide +kernel
theorem dX2_product_228 : decode cX2_product 228 = .ok (.aload_n 0, 1) := by decide +kernel
theorem dX2_product_229 : decode cX2_product 229 = .ok (.getfield 26, 3) := by decide +kernel
theorem dX2_product_232 : decode cX2_product 232 = .ok (.iconst 2, 1) := by decide +kernel
theorem dX2_product_233 : decode cX2_product 233 = .ok (.lload 7, 2) := by decide +kernel
theorem dX2_product_235 : decode cX2_product 235 = .ok (.bipush 32, 2) := by decide +kernel
theorem dX2_product_237 : decode cX2_product 237 = .ok (.lshr, 1) := by decide +kernel
theorem dX2_product_238 : decode cX2_product 238 = .ok (.iconst 4, 1) := by decide +kernel
theorem dX2_product_239 : decode cX2_product 239 = .ok (.invokestatic 110, 3) := by decide +kernel
theorem dX2_product_242 : decode cX2_product 242 = .ok (.lastore, 1) := by decide +kernel
theorem dX2_product_243 : decode cX2_product 243 = .ok (.return_, 1) := by decide +kernel
theorem dX2_upperSigned_0 : decode cX2_upperSigned 0 = .ok (.lload_n 0, 1) := by decide +kernel
theorem dX2_upperSigned_1 : decode cX2_upperSigned 1 = .ok (.lload_n 2, 1) := by decide +kernel
theorem dX2_upperSigned_2 : decode cX2_upperSigned 2 = .ok (.invokestatic 202, 3) := by decide +kernel
theorem dX2_upperSigned_5 : decode cX2_upperSigned 5 = .ok (.lload_n 0, 1) := by decide +kernel
theorem dX2_upperSigned_6 : decode cX2_upperSigned 6 = .ok (.lconst 0, 1) := by decide +kernel
theorem dX2_upperSigned_7 : decode cX2_upperSigned 7 = .ok (.lcmp, 1) := by decide +kernel
theorem dX2_upperSigned_8 : decode cX2_upperSigned 8 = .ok (.ifCond .ge 7, 3) := by decide +kernel
theorem dX2_upperSigned_11 : decode cX2_upperSigned 11 = .ok (.lload_n 2, 1) := by decide +kernel
theorem dX2_upperSigned_12 : decode cX2_upperSigned 12 = .ok (.goto 4, 3) := by decide +kernel
theorem dX2_upperSigned_15 : decode cX2_upperSigned 15 = .ok (.lconst 0, 1) := by decide +kernel
theorem dX2_upperSigned_16 : decode cX2_upperSigned 16 = .ok (.lsub, 1) := by decide +kernel
theorem dX2_upperSigned_17 : decode cX2_upperSigned 17 = .ok (.lload_n 2, 1) := by decide +kernel
theorem dX2_upperSigned_18 : decode cX2_upperSigned 18 = .ok (.lconst 0, 1) := by decide +kernel
theorem dX2_upperSigned_19 : decode cX2_upperSigned 19 = .ok (.lcmp, 1) := by decide +kernel
theorem dX2_upperSigned_20 : decode cX2_upperSigned 20 = .ok (.ifCond .ge 7, 3) := by decide +kernel
theorem dX2_upperSigned_23 : decode cX2_upperSigned 23 = .ok (.lload_n 0, 1) := by decide +kernel
theorem dX2_upperSigned_24 : decode cX2_upperSigned 24 = .ok (.goto 4, 3) := by decide +kernel
theorem dX2_upperSigned_27 : decode cX2_upperSigned 27 = .ok (.lconst 0, 1) := by decide +kernel
theorem dX2_upperSigned_28 : decode cX2_upperSigned 28 = .ok (.lsub, 1) := by decide +kernel
theorem dX2_upperSigned_29 : decode cX2_upperSigned 29 = .ok (.lreturn, 1) := by decide +kernel
theorem dX2_upper_0 : decode cX2_upper 0 = .ok (.lload_n 0, 1) := by decide +kernel
theorem dX2_upper_1 : decode cX2_upper 1 = .ok (.bipush 32, 2) := by decide +kernel
theorem dX2_upper_3 : decode cX2_upper 3 = .ok (.lushr, 1) := by decide +kernel
theorem dX2_upper_4 : decode cX2_upper 4 = .ok (.lstore 4, 2) := by decide +kernel
theorem dX2_upper_6 : decode cX2_upper 6 = .ok (.lload_n 0, 1) := by decide +kernel
theorem dX2_upper_7 : decode cX2_upper 7 = .ok (.ldc2_w 58, 3) := by decide +kernel
theorem dX2_upper_10 : decode cX2_upper 10 = .ok (.land, 1) := by decide +kernel
theorem dX2_upper_11 : decode cX2_upper 11 = .ok (.lstore 6, 2) := by decide +kernel
theorem dX2_upper_13 : decode cX2_upper 13 = .ok (.lload_n 2, 1) := by decide +kernel
theorem dX2_upper_14 : decode cX2_upper 14 = .ok (.bipush 32, 2) := by decide +kernel
theorem dX2_upper_16 : decode cX2_upper 16 = .ok (.lushr, 1) := by decide +kernel
theorem dX2_upper_17 : decode cX2_upper 17 = .ok (.lstore 8, 2) := by decide +kernel
theorem dX2_upper_19 : decode cX2_upper 19 = .ok (.lload_n 2, 1) := by decide +kernel
theorem dX2_upper_20 : decode cX2_upper 20 = .ok (.ldc2_w 58, 3) := by decide +kernel
theorem dX2_upper_23 : decode cX2_upper 23 = .ok (.land, 1) := by decide +kernel
theorem dX2_upper_24 : decode cX2_upper 24 = .ok (.lstore 10, 2) := by decide +kernel
theorem dX2_upper_26 : decode cX2_upper 26 = .ok (.lload 4, 2) := by decide +kernel
theorem dX2_upper_28 : decode cX2_upper 28 = .ok (.lload 10, 2) := by decide +kernel
theorem dX2_upper_30 : decode cX2_upper 30 = .ok (.lmul, 1) := by decide +kernel
theorem dX2_upper_31 : decode cX2_upper 31 = .ok (.lload 6, 2) := by decide +kernel
theorem dX2_upper_33 : decode cX2_upper 33 = .ok (.lload 10, 2) := by decide +kernel
theorem dX2_upper_35 : decode cX2_upper 35 = .ok (.lmul, 1) := by decide +kernel
theorem dX2_upper_36 : decode cX2_upper 36 = .ok (.bipush 32, 2) := by decide +kernel
theorem dX2_upper_38 : decode cX2_upper 38 = .ok (.lushr, 1) := by decide +kernel
theorem dX2_upper_39 : decode cX2_upper 39 = .ok (.ladd, 1) := by decide +kernel
theorem dX2_upper_40 : decode cX2_upper 40 = .ok (.lstore 12, 2) := by decide +kernel
theorem dX2_upper_42 : decode cX2_upper 42 = .ok (.lload 6, 2) := by decide +kernel
theorem dX2_upper_44 : decode cX2_upper 44 = .ok (.lload 8, 2) := by decide +kernel
theorem dX2_upper_46 : decode cX2_upper 46 = .ok (.lmul, 1) := by decide +kernel
theorem dX2_upper_47 : decode cX2_upper 47 = .ok (.lload 12, 2) := by decide +kernel
theorem dX2_upper_49 : decode cX2_upper 49 = .ok (.ldc2_w 58, 3) := by decide +kernel
theorem dX2_upper_52 : decode cX2_upper 52 = .ok (.land, 1) := by decide +kernel
theorem dX2_upper_53 : decode cX2_upper 53 = .ok (.ladd, 1) := by decide +kernel
theorem dX2_upper_54 : decode cX2_upper 54 = .ok (.lstore 14, 2) := by decide +kernel
theorem dX2_upper_56 : decode cX2_upper 56 = .ok (.lload 4, 2) := by decide +kernel
theorem dX2_upper_58 : decode cX2_upper 58 = .ok (.lload 8, 2) := by decide +kernel
theorem dX2_upper_60 : decode cX2_upper 60 = .ok (.lmul, 1) := by decide +kernel
theorem dX2_upper_61 : decode cX2_upper 61 = .ok (.lload 12, 2) := by decide +kernel
theorem dX2_upper_63 : decode cX2_upper 63 = .ok (.bipush 32, 2) := by decide +kernel
theorem dX2_upper_65 : decode cX2_upper 65 = .ok (.lushr, 1) := by decide +kernel
theorem dX2_upper_66 : decode cX2_upper 66 = .ok (.ladd, 1) := by decide +kernel
theorem dX2_upper_67 : decode cX2_upper 67 = .ok (.lload 14, 2) := by decide +kernel
theorem dX2_upper_69 : decode cX2_upper 69 = .ok (.bipush 32, 2) := by decide +kernel
theorem dX2_upper_71 : decode cX2_upper 71 = .ok (.lushr, 1) := by decide +kernel
theorem dX2_upper_72 : decode cX2_upper 72 = .ok (.ladd, 1) := by decide +kernel
theorem dX2_upper_73 : decode cX2_upper 73 = .ok (.lreturn, 1) := by decide +kernel
theorem dX2_quotient_0 : decode cX2_quotient 0 = .ok (.aload_n 0, 1) := by decide +kernel
theorem dX2_quotient_1 : decode cX2_quotient 1 = .ok (.getfield 46, 3) := by decide +kernel
theorem dX2_quotient_4 : decode cX2_quotient 4 = .ok (.ifCond .eq 4, 3) := by decide +kernel
theorem dX2_quotient_7 : decode cX2_quotient 7 = .ok (.return_, 1) := by decide +kernel
theorem dX2_quotient_8 : decode cX2_quotient 8 = .ok (.lload_n 3, 1) := by decide +kernel
theorem dX2_quotient_9 : decode cX2_quotient 9 = .ok (.lconst 0, 1) := by decide +kernel
theorem dX2_quotient_10 : decode cX2_quotient 10 = .ok (.lcmp, 1) := by decide +kernel
theorem dX2_quotient_11 : decode cX2_quotient 11 = .ok (.ifCond .ne 12, 3) := by decide +kernel
theorem dX2_quotient_14 : decode cX2_quotient 14 = .ok (.aload_n 0, 1) := by decide +kernel
theorem dX2_quotient_15 : decode cX2_quotient 15 = .ok (.iconst 5, 1) := by decide +kernel
theorem dX2_quotient_16 : decode cX2_quotient 16 = .ok (.lconst 0, 1) := by decide +kernel
theorem dX2_quotient_17 : decode cX2_quotient 17 = .ok (.invokevirtual 85, 3) := by decide +kernel
theorem dX2_quotient_20 : decode cX2_quotient 20 = .ok (.goto 222, 3) := by decide +kernel
theorem dX2_quotient_23 : decode cX2_quotient 23 = .ok (.iload_n 2, 1) := by decide +kernel
theorem dX2_quotient_24 : decode cX2_quotient 24 = .ok (.bipush 8, 2) := by decide +kernel
theorem dX2_quotient_26 : decode cX2_quotient 26 = .ok (.if_icmp .ne 24, 3) := by decide +kernel
theorem dX2_quotient_29 : decode cX2_quotient 29 = .ok (.aload_n 0, 1) := by decide +kernel
theorem dX2_quotient_30 : decode cX2_quotient 30 = .ok (.iload_n 1, 1) := by decide +kernel
theorem dX2_quotient_31 : decode cX2_quotient 31 = .ok (.aload_n 0, 1) := by decide +kernel
theorem dX2_quotient_32 : decode cX2_quotient 32 = .ok (.getfield 26, 3) := by decide +kernel
theorem dX2_quotient_35 : decode cX2_quotient 35 = .ok (.iconst 2, 1) := by decide +kernel
theorem dX2_quotient_36 : decode cX2_quotient 36 = .ok (.laload, 1) := by decide +kernel
theorem dX2_quotient_37 : decode cX2_quotient 37 = .ok (.aload_n 0, 1) := by decide +kernel
theorem dX2_quotient_38 : decode cX2_quotient 38 = .ok (.getfield 26, 3) := by decide +kernel
theorem dX2_quotient_41 : decode cX2_quotient 41 = .ok (.iconst 0, 1) := by decide +kernel
theorem dX2_quotient_42 : decode cX2_quotient 42 = .ok (.laload, 1) := by decide +kernel
theorem dX2_quotient_43 : decode cX2_quotient 43 = .ok (.lload_n 3, 1) := by decide +kernel
theorem dX2_quotient_44 : decode cX2_quotient 44 = .ok (.invokevirtual 213, 3) := by decide +kernel
theorem dX2_quotient_47 : decode cX2_quotient 47 = .ok (.goto 195, 3) := by decide +kernel
theorem dX2_quotient_50 : decode cX2_quotient 50 = .ok (.iload_n 2, 1) := by decide +kernel
theorem dX2_quotient_51 : decode cX2_quotient 51 = .ok (.iconst 1, 1) := by decide +kernel
theorem dX2_quotient_52 : decode cX2_quotient 52 = .ok (.if_icmp .ne 16, 3) := by decide +kernel
theorem dX2_quotient_55 : decode cX2_quotient 55 = .ok (.aload_n 0, 1) := by decide +kernel
theorem dX2_quotient_56 : decode cX2_quotient 56 = .ok (.getfield 26, 3) := by decide +kernel
theorem dX2_quotient_59 : decode cX2_quotient 59 = .ok (.iconst 0, 1) := by decide +kernel
theorem dX2_quotient_60 : decode cX2_quotient 60 = .ok (.laload, 1) := by decide +kernel
theorem dX2_quotient_61 : decode cX2_quotient 61 = .ok (.ldc2_w 211, 3) := by decide +kernel
theorem dX2_quotient_64 : decode cX2_quotient 64 = .ok (.land, 1) := by decide +kernel
theorem dX2_quotient_65 : decode cX2_quotient 65 = .ok (.goto 23, 3) := by decide +kernel
theorem dX2_quotient_68 : decode cX2_quotient 68 = .ok (.aload_n 0, 1) := by decide +kernel
theorem dX2_quotient_69 : decode cX2_quotient 69 = .ok (.getfield 26, 3) := by decide +kernel
theorem dX2_quotient_72 : decode cX2_quotient 72 = .ok (.iconst 2, 1) := by decide +kernel
theorem dX2_quotient_73 : decode cX2_quotient 73 = .ok (.laload, 1) := by decide +kernel
theorem dX2_quotient_74 : decode cX2_quotient 74 = .ok (.bipush 32, 2) := by decide +kernel
theorem dX2_quotient_76 : decode cX2_quotient 76 = .ok (.lshl, 1) := by decide +kernel
theorem dX2_quotient_77 : decode cX2_quotient 77 = .ok (.aload_n 0, 1) := by decide +kernel
theorem dX2_quotient_78 : decode cX2_quotient 78 = .ok (.getfield 26, 3) := by decide +kernel
theorem dX2_quotient_81 : decode cX2_quotient 81 = .ok (.iconst 0, 1) := by decide +kernel
theorem dX2_quotient_82 : decode cX2_quotient 82 = .ok (.laload, 1) := by decide +kernel
theorem dX2_quotient_83 : decode cX2_quotient 83 = .ok (.ldc2_w 58, 3) := by decide +kernel
theorem dX2_quotient_86 : decode cX2_quotient 86 = .ok (.land, 1) := by decide +kernel
theorem dX2_quotient_87 : decode cX2_quotient 87 = .ok (.lor, 1) := by decide +kernel
theorem dX2_quotient_88 : decode cX2_quotient 88 = .ok (.lstore 5, 2) := by decide +kernel
theorem dX2_quotient_90 : decode cX2_quotient 90 = .ok (.iload_n 1, 1) := by decide +kernel
theorem dX2_quotient_91 : decode cX2_quotient 91 = .ok (.ifCond .eq 16, 3) := by decide +kernel
theorem dX2_quotient_94 : decode cX2_quotient 94 = .ok (.iload_n 2, 1) := by decide +kernel
theorem dX2_quotient_95 : decode cX2_quotient 95 = .ok (.iconst 1, 1) := by decide +kernel
theorem dX2_quotient_96 : decode cX2_quotient 96 = .ok (.if_icmp .ne 11, 3) := by decide +kernel
theorem dX2_quotient_99 : decode cX2_quotient 99 = .ok (.lload 5, 2) := by decide +kernel
theorem dX2_quotient_101 : decode cX2_quotient 101 = .ok (.l2i, 1) := by decide +kernel
theorem dX2_quotient_102 : decode cX2_quotient 102 = .ok (.i2s, 1) := by decide +kernel
theorem dX2_quotient_103 : decode cX2_quotient 103 = .ok (.i2l, 1) := by decide +kernel
theorem dX2_quotient_104 : decode cX2_quotient 104 = .ok (.goto 5, 3) := by decide +kernel
theorem dX2_quotient_107 : decode cX2_quotient 107 = .ok (.lload 5, 2) := by decide +kernel
theorem dX2_quotient_109 : decode cX2_quotient 109 = .ok (.lstore 7, 2) := by decide +kernel
theorem dX2_quotient_111 : decode cX2_quotient 111 = .ok (.iload_n 1, 1) := by decide +kernel
theorem dX2_quotient_112 : decode cX2_quotient 112 = .ok (.ifCond .eq 11, 3) := by decide +kernel
theorem dX2_quotient_115 : decode cX2_quotient 115 = .ok (.lload_n 3, 1) := by decide +kernel
theorem dX2_quotient_116 : decode cX2_quotient 116 = .ok (.iload_n 2, 1) := by decide +kernel
theorem dX2_quotient_117 : decode cX2_quotient 117 = .ok (.invokestatic 122, 3) := by decide +kernel
theorem dX2_quotient_120 : decode cX2_quotient 120 = .ok (.goto 4, 3) := by decide +kernel
theorem dX2_quotient_123 : decode cX2_quotient 123 = .ok (.lload_n 3, 1) := by decide +kernel
theorem dX2_quotient_124 : decode cX2_quotient 124 = .ok (.lstore 9, 2) := by decide +kernel
theorem dX2_quotient_126 : decode cX2_quotient 126 = .ok (.iload_n 1, 1) := by decide +kernel
theorem dX2_quotient_127 : decode cX2_quotient 127 = .ok (.ifCond .ne 8, 3) := by decide +kernel
theorem dX2_quotient_130 : decode cX2_quotient 130 = .ok (.iload_n 2, 1) := by decide +kernel
theorem dX2_quotient_131 : decode cX2_quotient 131 = .ok (.iconst 1, 1) := by decide +kernel
theorem dX2_quotient_132 : decode cX2_quotient 132 = .ok (.if_icmp .ne 11, 3) := by decide +kernel
theorem dX2_quotient_135 : decode cX2_quotient 135 = .ok (.lload 7, 2) := by decide +kernel
theorem dX2_quotient_137 : decode cX2_quotient 137 = .ok (.lload 9, 2) := by decide +kernel
theorem dX2_quotient_139 : decode cX2_quotient 139 = .ok (.ldiv, 1) := by decide +kernel
theorem dX2_quotient_140 : decode cX2_quotient 140 = .ok (.goto 10, 3) := by decide +kernel
theorem dX2_quotient_143 : decode cX2_quotient 143 = .ok (.lload 7, 2) := by decide +kernel
theorem dX2_quotient_145 : decode cX2_quotient 145 = .ok (.lload 9, 2) := by decide +kernel
theorem dX2_quotient_147 : decode cX2_quotient 147 = .ok (.invokestatic 217, 3) := by decide +kernel
theorem dX2_quotient_150 : decode cX2_quotient 150 = .ok (.lstore 11, 2) := by decide +kernel
theorem dX2_quotient_152 : decode cX2_quotient 152 = .ok (.iload_n 1, 1) := by decide +kernel
theorem dX2_quotient_153 : decode cX2_quotient 153 = .ok (.ifCond .eq 41, 3) := by decide +kernel
theorem dX2_quotient_156 : decode cX2_quotient 156 = .ok (.lload 11, 2) := by decide +kernel
theorem dX2_quotient_158 : decode cX2_quotient 158 = .ok (.lload 11, 2) := by decide +kernel
theorem dX2_quotient_160 : decode cX2_quotient 160 = .ok (.iload_n 2, 1) := by decide +kernel
theorem dX2_quotient_161 : decode cX2_quotient 161 = .ok (.invokestatic 122, 3) := by decide +kernel
theorem dX2_quotient_164 : decode cX2_quotient 164 = .ok (.lcmp, 1) := by decide +kernel
theorem dX2_quotient_165 : decode cX2_quotient 165 = .ok (.ifCond .ne 25, 3) := by decide +kernel
theorem dX2_quotient_168 : decode cX2_quotient 168 = .ok (.lload 7, 2) := by decide +kernel
theorem dX2_quotient_170 : decode cX2_quotient 170 = .ok (.ldc2_w 222, 3) := by decide +kernel
theorem dX2_quotient_173 : decode cX2_quotient 173 = .ok (.lcmp, 1) := by decide +kernel
theorem dX2_quotient_174 : decode cX2_quotient 174 = .ok (.ifCond .ne 12, 3) := by decide +kernel
theorem dX2_quotient_177 : decode cX2_quotient 177 = .ok (.lload 9, 2) := by decide +kernel
theorem dX2_quotient_179 : decode cX2_quotient 179 = .ok (.ldc2_w 133, 3) := by decide +kernel
theorem dX2_quotient_182 : decode cX2_quotient 182 = .ok (.lcmp, 1) := by decide +kernel
theorem dX2_quotient_183 : decode cX2_quotient 183 = .ok (.ifCond .eq 7, 3) := by decide +kernel
theorem dX2_quotient_186 : decode cX2_quotient 186 = .ok (.iconst 1, 1) := by decide +kernel
theorem dX2_quotient_187 : decode cX2_quotient 187 = .ok (.goto 24, 3) := by decide +kernel
theorem dX2_quotient_190 : decode cX2_quotient 190 = .ok (.iconst 0, 1) := by decide +kernel
theorem dX2_quotient_191 : decode cX2_quotient 191 = .ok (.goto 20, 3) := by decide +kernel
theorem dX2_quotient_194 : decode cX2_quotient 194 = .ok (.lload 11, 2) := by decide +kernel
theorem dX2_quotient_196 : decode cX2_quotient 196 = .ok (.iload_n 2, 1) := by decide +kernel
theorem dX2_quotient_197 : decode cX2_quotient 197 = .ok (.invokestatic 110, 3) := by decide +kernel
theorem dX2_quotient_200 : decode cX2_quotient 200 = .ok (.lload 11, 2) := by decide +kernel
theorem dX2_quotient_202 : decode cX2_quotient 202 = .ok (.lcmp, 1) := by decide +kernel
theorem dX2_quotient_203 : decode cX2_quotient 203 = .ok (.ifCond .ne 7, 3) := by decide +kernel
theorem dX2_quotient_206 : decode cX2_quotient 206 = .ok (.iconst 1, 1) := by decide +kernel
theorem dX2_quotient_207 : decode cX2_quotient 207 = .ok (.goto 4, 3) := by decide +kernel
theorem dX2_quotient_210 : decode cX2_quotient 210 = .ok (.iconst 0, 1) := by decide +kernel
theorem dX2_quotient_211 : decode cX2_quotient 211 = .ok (.istore 13, 2) := by decide +kernel
theorem dX2_quotient_213 : decode cX2_quotient 213 = .ok (.iload 13, 2) := by decide +kernel
theorem dX2_quotient_215 : decode cX2_quotient 215 = .ok (.ifCond .eq 21, 3) := by decide +kernel
theorem dX2_quotient_218 : decode cX2_quotient 218 = .ok (.aload_n 0, 1) := by decide +kernel
theorem dX2_quotient_219 : decode cX2_quotient 219 = .ok (.iload_n 2, 1) := by decide +kernel
theorem dX2_quotient_220 : decode cX2_quotient 220 = .ok (.lload 11, 2) := by decide +kernel
theorem dX2_quotient_222 : decode cX2_quotient 222 = .ok (.lload 7, 2) := by decide +kernel
theorem dX2_quotient_224 : decode cX2_quotient 224 = .ok (.lload 11, 2) := by decide +kernel
theorem dX2_quotient_226 : decode cX2_quotient 226 = .ok (.lload 9, 2) := by decide +kernel
theorem dX2_quotient_228 : decode cX2_quotient 228 = .ok (.lmul, 1) := by decide +kernel
theorem dX2_quotient_229 : decode cX2_quotient 229 = .ok (.lsub, 1) := by decide +kernel
theorem dX2_quotient_230 : decode cX2_quotient 230 = .ok (.invokevirtual 224, 3) := by decide +kernel
theorem dX2_quotient_233 : decode cX2_quotient 233 = .ok (.goto 9, 3) := by decide +kernel
theorem dX2_quotient_236 : decode cX2_quotient 236 = .ok (.aload_n 0, 1) := by decide +kernel
theorem dX2_quotient_237 : decode cX2_quotient 237 = .ok (.iconst 5, 1) := by decide +kernel
theorem dX2_quotient_238 : decode cX2_quotient 238 = .ok (.lconst 0, 1) := by decide +kernel
theorem dX2_quotient_239 : decode cX2_quotient 239 = .ok (.invokevirtual 85, 3) := by decide +kernel
theorem dX2_quotient_242 : decode cX2_quotient 242 = .ok (.return_, 1) := by decide +kernel
theorem dX2_wide_0 : decode cX2_wide 0 = .ok (.iload_n 1, 1) := by decide +kernel
theorem dX2_wide_1 : decode cX2_wide 1 = .ok (.ifCond .eq 13, 3) := by decide +kernel
theorem dX2_wide_4 : decode cX2_wide 4 = .ok (.lload_n 2, 1) := by decide +kernel
theorem dX2_wide_5 : decode cX2_wide 5 = .ok (.lconst 0, 1) := by decide +kernel
theorem dX2_wide_6 : decode cX2_wide 6 = .ok (.lcmp, 1) := by decide +kernel
theorem dX2_wide_7 : decode cX2_wide 7 = .ok (.ifCond .ge 7, 3) := by decide +kernel
theorem dX2_wide_10 : decode cX2_wide 10 = .ok (.iconst 1, 1) := by decide +kernel
theorem dX2_wide_11 : decode cX2_wide 11 = .ok (.goto 4, 3) := by decide +kernel
theorem dX2_wide_14 : decode cX2_wide 14 = .ok (.iconst 0, 1) := by decide +kernel
theorem dX2_wide_15 : decode cX2_wide 15 = .ok (.istore 8, 2) := by decide +kernel
theorem dX2_wide_17 : decode cX2_wide 17 = .ok (.iload_n 1, 1) := by decide +kernel
theorem dX2_wide_18 : decode cX2_wide 18 = .ok (.ifCond .eq 14, 3) := by decide +kernel
theorem dX2_wide_21 : decode cX2_wide 21 = .ok (.lload 6, 2) := by decide +kernel
theorem dX2_wide_23 : decode cX2_wide 23 = .ok (.lconst 0, 1) := by decide +kernel
theorem dX2_wide_24 : decode cX2_wide 24 = .ok (.lcmp, 1) := by decide +kernel
theorem dX2_wide_25 : decode cX2_wide 25 = .ok (.ifCond .ge 7, 3) := by decide +kernel
theorem dX2_wide_28 : decode cX2_wide 28 = .ok (.iconst 1, 1) := by decide +kernel
theorem dX2_wide_29 : decode cX2_wide 29 = .ok (.goto 4, 3) := by decide +kernel
theorem dX2_wide_32 : decode cX2_wide 32 = .ok (.iconst 0, 1) := by decide +kernel
theorem dX2_wide_33 : decode cX2_wide 33 = .ok (.istore 9, 2) := by decide +kernel
theorem dX2_wide_35 : decode cX2_wide 35 = .ok (.iload 8, 2) := by decide +kernel
theorem dX2_wide_37 : decode cX2_wide 37 = .ok (.ifCond .eq 24, 3) := by decide +kernel
theorem dX2_wide_40 : decode cX2_wide 40 = .ok (.lload_n 2, 1) := by decide +kernel
theorem dX2_wide_41 : decode cX2_wide 41 = .ok (.ldc2_w 133, 3) := by decide +kernel
theorem dX2_wide_44 : decode cX2_wide 44 = .ok (.lxor, 1) := by decide +kernel
theorem dX2_wide_45 : decode cX2_wide 45 = .ok (.lload 4, 2) := by decide +kernel
theorem dX2_wide_47 : decode cX2_wide 47 = .ok (.lconst 0, 1) := by decide +kernel
theorem dX2_wide_48 : decode cX2_wide 48 = .ok (.lcmp, 1) := by decide +kernel
theorem dX2_wide_49 : decode cX2_wide 49 = .ok (.ifCond .ne 7, 3) := by decide +kernel
theorem dX2_wide_52 : decode cX2_wide 52 = .ok (.lconst 1, 1) := by decide +kernel
theorem dX2_wide_53 : decode cX2_wide 53 = .ok (.goto 4, 3) := by decide +kernel
theorem dX2_wide_56 : decode cX2_wide 56 = .ok (.lconst 0, 1) := by decide +kernel
theorem dX2_wide_57 : decode cX2_wide 57 = .ok (.ladd, 1) := by decide +kernel
theorem dX2_wide_58 : decode cX2_wide 58 = .ok (.goto 4, 3) := by decide +kernel
theorem dX2_wide_61 : decode cX2_wide 61 = .ok (.lload_n 2, 1) := by decide +kernel
theorem dX2_wide_62 : decode cX2_wide 62 = .ok (.lstore 10, 2) := by decide +kernel
theorem dX2_wide_64 : decode cX2_wide 64 = .ok (.iload 8, 2) := by decide +kernel
theorem dX2_wide_66 : decode cX2_wide 66 = .ok (.ifCond .eq 9, 3) := by decide +kernel
theorem dX2_wide_69 : decode cX2_wide 69 = .ok (.lload 4, 2) := by decide +kernel
theorem dX2_wide_71 : decode cX2_wide 71 = .ok (.lneg, 1) := by decide +kernel
theorem dX2_wide_72 : decode cX2_wide 72 = .ok (.goto 5, 3) := by decide +kernel
theorem dX2_wide_75 : decode cX2_wide 75 = .ok (.lload 4, 2) := by decide +kernel
theorem dX2_wide_77 : decode cX2_wide 77 = .ok (.lstore 12, 2) := by decide +kernel
theorem dX2_wide_79 : decode cX2_wide 79 = .ok (.iload 9, 2) := by decide +kernel
theorem dX2_wide_81 : decode cX2_wide 81 = .ok (.ifCond .eq 9, 3) := by decide +kernel
theorem dX2_wide_84 : decode cX2_wide 84 = .ok (.lload 6, 2) := by decide +kernel
theorem dX2_wide_86 : decode cX2_wide 86 = .ok (.lneg, 1) := by decide +kernel
theorem dX2_wide_87 : decode cX2_wide 87 = .ok (.goto 5, 3) := by decide +kernel
theorem dX2_wide_90 : decode cX2_wide 90 = .ok (.lload 6, 2) := by decide +kernel
theorem dX2_wide_92 : decode cX2_wide 92 = .ok (.lstore 14, 2) := by decide +kernel
theorem dX2_wide_94 : decode cX2_wide 94 = .ok (.lload 10, 2) := by decide +kernel
theorem dX2_wide_96 : decode cX2_wide 96 = .ok (.lload 14, 2) := by decide +kernel
theorem dX2_wide_98 : decode cX2_wide 98 = .ok (.invokestatic 228, 3) := by decide +kernel
theorem dX2_wide_101 : decode cX2_wide 101 = .ok (.ifCond .lt 10, 3) := by decide +kernel
theorem dX2_wide_104 : decode cX2_wide 104 = .ok (.aload_n 0, 1) := by decide +kernel
theorem dX2_wide_105 : decode cX2_wide 105 = .ok (.iconst 5, 1) := by decide +kernel
theorem dX2_wide_106 : decode cX2_wide 106 = .ok (.lconst 0, 1) := by decide +kernel
theorem dX2_wide_107 : decode cX2_wide 107 = .ok (.invokevirtual 85, 3) := by decide +kernel
theorem dX2_wide_110 : decode cX2_wide 110 = .ok (.return_, 1) := by decide +kernel
theorem dX2_wide_111 : decode cX2_wide 111 = .ok (.lconst 0, 1) := by decide +kernel
theorem dX2_wide_112 : decode cX2_wide 112 = .ok (.lstore 16, 2) := by decide +kernel
theorem dX2_wide_114 : decode cX2_wide 114 = .ok (.bipush 63, 2) := by decide +kernel
theorem dX2_wide_116 : decode cX2_wide 116 = .ok (.istore 18, 2) := by decide +kernel
theorem dX2_wide_118 : decode cX2_wide 118 = .ok (.iload 18, 2) := by decide +kernel
theorem dX2_wide_120 : decode cX2_wide 120 = .ok (.ifCond .lt 93, 3) := by decide +kernel
theorem dX2_wide_123 : decode cX2_wide 123 = .ok (.lload 10, 2) := by decide +kernel
theorem dX2_wide_125 : decode cX2_wide 125 = .ok (.lconst 0, 1) := by decide +kernel
theorem dX2_wide_126 : decode cX2_wide 126 = .ok (.lcmp, 1) := by decide +kernel
theorem dX2_wide_127 : decode cX2_wide 127 = .ok (.ifCond .ge 7, 3) := by decide +kernel
theorem dX2_wide_130 : decode cX2_wide 130 = .ok (.iconst 1, 1) := by decide +kernel
theorem dX2_wide_131 : decode cX2_wide 131 = .ok (.goto 4, 3) := by decide +kernel
theorem dX2_wide_134 : decode cX2_wide 134 = .ok (.iconst 0, 1) := by decide +kernel
theorem dX2_wide_135 : decode cX2_wide 135 = .ok (.istore 19, 2) := by decide +kernel
theorem dX2_wide_137 : decode cX2_wide 137 = .ok (.lload 10, 2) := by decide +kernel
theorem dX2_wide_139 : decode cX2_wide 139 = .ok (.iconst 1, 1) := by decide +kernel
theorem dX2_wide_140 : decode cX2_wide 140 = .ok (.lshl, 1) := by decide +kernel
theorem dX2_wide_141 : decode cX2_wide 141 = .ok (.lload 12, 2) := by decide +kernel
theorem dX2_wide_143 : decode cX2_wide 143 = .ok (.iload 18, 2) := by decide +kernel
theorem dX2_wide_145 : decode cX2_wide 145 = .ok (.lushr, 1) := by decide +kernel
theorem dX2_wide_146 : decode cX2_wide 146 = .ok (.lconst 1, 1) := by decide +kernel
theorem dX2_wide_147 : decode cX2_wide 147 = .ok (.land, 1) := by decide +kernel
theorem dX2_wide_148 : decode cX2_wide 148 = .ok (.lor, 1) := by decide +kernel
theorem dX2_wide_149 : decode cX2_wide 149 = .ok (.lstore 10, 2) := by decide +kernel
theorem dX2_wide_151 : decode cX2_wide 151 = .ok (.iload 19, 2) := by decide +kernel
theorem dX2_wide_153 : decode cX2_wide 153 = .ok (.ifCond .ne 13, 3) := by decide +kernel
theorem dX2_wide_156 : decode cX2_wide 156 = .ok (.lload 10, 2) := by decide +kernel
theorem dX2_wide_158 : decode cX2_wide 158 = .ok (.lload 14, 2) := by decide +kernel
theorem dX2_wide_160 : decode cX2_wide 160 = .ok (.invokestatic 228, 3) := by decide +kernel
theorem dX2_wide_163 : decode cX2_wide 163 = .ok (.ifCond .lt 7, 3) := by decide +kernel
theorem dX2_wide_166 : decode cX2_wide 166 = .ok (.iconst 1, 1) := by decide +kernel
theorem dX2_wide_167 : decode cX2_wide 167 = .ok (.goto 4, 3) := by decide +kernel
theorem dX2_wide_170 : decode cX2_wide 170 = .ok (.iconst 0, 1) := by decide +kernel
theorem dX2_wide_171 : decode cX2_wide 171 = .ok (.istore 20, 2) := by decide +kernel
theorem dX2_wide_173 : decode cX2_wide 173 = .ok (.iload 20, 2) := by decide +kernel
theorem dX2_wide_175 : decode cX2_wide 175 = .ok (.ifCond .eq 11, 3) := by decide +kernel
theorem dX2_wide_178 : decode cX2_wide 178 = .ok (.lload 10, 2) := by decide +kernel
theorem dX2_wide_180 : decode cX2_wide 180 = .ok (.lload 14, 2) := by decide +kernel
theorem dX2_wide_182 : decode cX2_wide 182 = .ok (.lsub, 1) := by decide +kernel
theorem dX2_wide_183 : decode cX2_wide 183 = .ok (.goto 5, 3) := by decide +kernel
theorem dX2_wide_186 : decode cX2_wide 186 = .ok (.lload 10, 2) := by decide +kernel
theorem dX2_wide_188 : decode cX2_wide 188 = .ok (.lstore 10, 2) := by decide +kernel
theorem dX2_wide_190 : decode cX2_wide 190 = .ok (.lload 16, 2) := by decide +kernel
theorem dX2_wide_192 : decode cX2_wide 192 = .ok (.iconst 1, 1) := by decide +kernel
theorem dX2_wide_193 : decode cX2_wide 193 = .ok (.lshl, 1) := by decide +kernel
theorem dX2_wide_194 : decode cX2_wide 194 = .ok (.iload 20, 2) := by decide +kernel
theorem dX2_wide_196 : decode cX2_wide 196 = .ok (.ifCond .eq 7, 3) := by decide +kernel
theorem dX2_wide_199 : decode cX2_wide 199 = .ok (.lconst 1, 1) := by decide +kernel
theorem dX2_wide_200 : decode cX2_wide 200 = .ok (.goto 4, 3) := by decide +kernel
theorem dX2_wide_203 : decode cX2_wide 203 = .ok (.lconst 0, 1) := by decide +kernel
theorem dX2_wide_204 : decode cX2_wide 204 = .ok (.lor, 1) := by decide +kernel
theorem dX2_wide_205 : decode cX2_wide 205 = .ok (.lstore 16, 2) := by decide +kernel
theorem dX2_wide_207 : decode cX2_wide 207 = .ok (.iinc 18 (-1), 3) := by decide +kernel
theorem dX2_wide_210 : decode cX2_wide 210 = .ok (.goto (-92), 3) := by decide +kernel
theorem dX2_wide_213 : decode cX2_wide 213 = .ok (.iload 8, 2) := by decide +kernel
theorem dX2_wide_215 : decode cX2_wide 215 = .ok (.iload 9, 2) := by decide +kernel
theorem dX2_wide_217 : decode cX2_wide 217 = .ok (.if_icmp .eq 7, 3) := by decide +kernel
theorem dX2_wide_220 : decode cX2_wide 220 = .ok (.iconst 1, 1) := by decide +kernel
theorem dX2_wide_221 : decode cX2_wide 221 = .ok (.goto 4, 3) := by decide +kernel
theorem dX2_wide_224 : decode cX2_wide 224 = .ok (.iconst 0, 1) := by decide +kernel
theorem dX2_wide_225 : decode cX2_wide 225 = .ok (.istore 18, 2) := by decide +kernel
theorem dX2_wide_227 : decode cX2_wide 227 = .ok (.iload_n 1, 1) := by decide +kernel
theorem dX2_wide_228 : decode cX2_wide 228 = .ok (.ifCond .eq 29, 3) := by decide +kernel
theorem dX2_wide_231 : decode cX2_wide 231 = .ok (.iload 18, 2) := by decide +kernel
theorem dX2_wide_233 : decode cX2_wide 233 = .ok (.ifCond .eq 17, 3) := by decide +kernel
theorem dX2_wide_236 : decode cX2_wide 236 = .ok (.lload 16, 2) := by decide +kernel
theorem dX2_wide_238 : decode cX2_wide 238 = .ok (.ldc2_w 222, 3) := by decide +kernel
theorem dX2_wide_241 : decode cX2_wide 241 = .ok (.invokestatic 228, 3) := by decide +kernel
theorem dX2_wide_244 : decode cX2_wide 244 = .ok (.ifCond .gt 17, 3) := by decide +kernel
theorem dX2_wide_247 : decode cX2_wide 247 = .ok (.goto 10, 3) := by decide +kernel
theorem dX2_wide_250 : decode cX2_wide 250 = .ok (.lload 16, 2) := by decide +kernel
theorem dX2_wide_252 : decode cX2_wide 252 = .ok (.lconst 0, 1) := by decide +kernel
theorem dX2_wide_253 : decode cX2_wide 253 = .ok (.lcmp, 1) := by decide +kernel
theorem dX2_wide_254 : decode cX2_wide 254 = .ok (.ifCond .lt 7, 3) := by decide +kernel
theorem dX2_wide_257 : decode cX2_wide 257 = .ok (.iconst 1, 1) := by decide +kernel
theorem dX2_wide_258 : decode cX2_wide 258 = .ok (.goto 4, 3) := by decide +kernel
theorem dX2_wide_261 : decode cX2_wide 261 = .ok (.iconst 0, 1) := by decide +kernel
theorem dX2_wide_262 : decode cX2_wide 262 = .ok (.istore 19, 2) := by decide +kernel
theorem dX2_wide_264 : decode cX2_wide 264 = .ok (.iload 19, 2) := by decide +kernel
theorem dX2_wide_266 : decode cX2_wide 266 = .ok (.ifCond .eq 38, 3) := by decide +kernel
theorem dX2_wide_269 : decode cX2_wide 269 = .ok (.aload_n 0, 1) := by decide +kernel
theorem dX2_wide_270 : decode cX2_wide 270 = .ok (.bipush 8, 2) := by decide +kernel
theorem dX2_wide_272 : decode cX2_wide 272 = .ok (.iload 18, 2) := by decide +kernel
theorem dX2_wide_274 : decode cX2_wide 274 = .ok (.ifCond .eq 9, 3) := by decide +kernel
theorem dX2_wide_277 : decode cX2_wide 277 = .ok (.lload 16, 2) := by decide +kernel
theorem dX2_wide_279 : decode cX2_wide 279 = .ok (.lneg, 1) := by decide +kernel
theorem dX2_wide_280 : decode cX2_wide 280 = .ok (.goto 5, 3) := by decide +kernel
theorem dX2_wide_283 : decode cX2_wide 283 = .ok (.lload 16, 2) := by decide +kernel
theorem dX2_wide_285 : decode cX2_wide 285 = .ok (.iload 8, 2) := by decide +kernel
theorem dX2_wide_287 : decode cX2_wide 287 = .ok (.ifCond .eq 9, 3) := by decide +kernel
theorem dX2_wide_290 : decode cX2_wide 290 = .ok (.lload 10, 2) := by decide +kernel
theorem dX2_wide_292 : decode cX2_wide 292 = .ok (.lneg, 1) := by decide +kernel
theorem dX2_wide_293 : decode cX2_wide 293 = .ok (.goto 5, 3) := by decide +kernel
theorem dX2_wide_296 : decode cX2_wide 296 = .ok (.lload 10, 2) := by decide +kernel
theorem dX2_wide_298 : decode cX2_wide 298 = .ok (.invokevirtual 224, 3) := by decide +kernel
theorem dX2_wide_301 : decode cX2_wide 301 = .ok (.goto 9, 3) := by decide +kernel
theorem dX2_wide_304 : decode cX2_wide 304 = .ok (.aload_n 0, 1) := by decide +kernel
theorem dX2_wide_305 : decode cX2_wide 305 = .ok (.iconst 5, 1) := by decide +kernel
theorem dX2_wide_306 : decode cX2_wide 306 = .ok (.lconst 0, 1) := by decide +kernel
theorem dX2_wide_307 : decode cX2_wide 307 = .ok (.invokevirtual 85, 3) := by decide +kernel
theorem dX2_wide_310 : decode cX2_wide 310 = .ok (.return_, 1) := by decide +kernel
theorem dX2_divided_0 : decode cX2_divided 0 = .ok (.iload_n 1, 1) := by decide +kernel
theorem dX2_divided_1 : decode cX2_divided 1 = .ok (.iconst 1, 1) := by decide +kernel
theorem dX2_divided_2 : decode cX2_divided 2 = .ok (.if_icmp .ne 38, 3) := by decide +kernel
theorem dX2_divided_5 : decode cX2_divided 5 = .ok (.aload_n 0, 1) := by decide +kernel
theorem dX2_divided_6 : decode cX2_divided 6 = .ok (.getfield 26, 3) := by decide +kernel
theorem dX2_divided_9 : decode cX2_divided 9 = .ok (.iconst 0, 1) := by decide +kernel
theorem dX2_divided_10 : decode cX2_divided 10 = .ok (.aload_n 0, 1) := by decide +kernel
theorem dX2_divided_11 : decode cX2_divided 11 = .ok (.getfield 26, 3) := by decide +kernel
theorem dX2_divided_14 : decode cX2_divided 14 = .ok (.iconst 0, 1) := by decide +kernel
theorem dX2_divided_15 : decode cX2_divided 15 = .ok (.laload, 1) := by decide +kernel
theorem dX2_divided_16 : decode cX2_divided 16 = .ok (.ldc2_w 209, 3) := by decide +kernel
theorem dX2_divided_19 : decode cX2_divided 19 = .ok (.land, 1) := by decide +kernel
theorem dX2_divided_20 : decode cX2_divided 20 = .ok (.lload 4, 2) := by decide +kernel
theorem dX2_divided_22 : decode cX2_divided 22 = .ok (.ldc2_w 60, 3) := by decide +kernel
theorem dX2_divided_25 : decode cX2_divided 25 = .ok (.land, 1) := by decide +kernel
theorem dX2_divided_26 : decode cX2_divided 26 = .ok (.bipush 8, 2) := by decide +kernel
theorem dX2_divided_28 : decode cX2_divided 28 = .ok (.lshl, 1) := by decide +kernel
theorem dX2_divided_29 : decode cX2_divided 29 = .ok (.lor, 1) := by decide +kernel
theorem dX2_divided_30 : decode cX2_divided 30 = .ok (.lload_n 2, 1) := by decide +kernel
theorem dX2_divided_31 : decode cX2_divided 31 = .ok (.ldc2_w 60, 3) := by decide +kernel
theorem dX2_divided_34 : decode cX2_divided 34 = .ok (.land, 1) := by decide +kernel
theorem dX2_divided_35 : decode cX2_divided 35 = .ok (.lor, 1) := by decide +kernel
theorem dX2_divided_36 : decode cX2_divided 36 = .ok (.lastore, 1) := by decide +kernel
theorem dX2_divided_37 : decode cX2_divided 37 = .ok (.goto 18, 3) := by decide +kernel
theorem dX2_divided_40 : decode cX2_divided 40 = .ok (.aload_n 0, 1) := by decide +kernel
theorem dX2_divided_41 : decode cX2_divided 41 = .ok (.iconst 0, 1) := by decide +kernel
theorem dX2_divided_42 : decode cX2_divided 42 = .ok (.iload_n 1, 1) := by decide +kernel
theorem dX2_divided_43 : decode cX2_divided 43 = .ok (.lload_n 2, 1) := by decide +kernel
theorem dX2_divided_44 : decode cX2_divided 44 = .ok (.invokevirtual 118, 3) := by decide +kernel
theorem dX2_divided_47 : decode cX2_divided 47 = .ok (.aload_n 0, 1) := by decide +kernel
theorem dX2_divided_48 : decode cX2_divided 48 = .ok (.iconst 2, 1) := by decide +kernel
theorem dX2_divided_49 : decode cX2_divided 49 = .ok (.iload_n 1, 1) := by decide +kernel
theorem dX2_divided_50 : decode cX2_divided 50 = .ok (.lload 4, 2) := by decide +kernel
theorem dX2_divided_52 : decode cX2_divided 52 = .ok (.invokevirtual 118, 3) := by decide +kernel
theorem dX2_divided_55 : decode cX2_divided 55 = .ok (.return_, 1) := by decide +kernel
theorem dX2_times_0 : decode cX2_times 0 = .ok (.aload_n 0, 1) := by decide +kernel
theorem dX2_times_1 : decode cX2_times 1 = .ok (.getfield 22, 3) := by decide +kernel
theorem dX2_times_4 : decode cX2_times 4 = .ok (.getfield 93, 3) := by decide +kernel
theorem dX2_times_7 : decode cX2_times 7 = .ok (.iconst 2, 1) := by decide +kernel
theorem dX2_times_8 : decode cX2_times 8 = .ok (.iaload, 1) := by decide +kernel
theorem dX2_times_9 : decode cX2_times 9 = .ok (.iconst 3, 1) := by decide +kernel
theorem dX2_times_10 : decode cX2_times 10 = .ok (.if_icmp .ne 7, 3) := by decide +kernel
theorem dX2_times_13 : decode cX2_times 13 = .ok (.iconst 1, 1) := by decide +kernel
theorem dX2_times_14 : decode cX2_times 14 = .ok (.goto 4, 3) := by decide +kernel
theorem dX2_times_17 : decode cX2_times 17 = .ok (.iconst 0, 1) := by decide +kernel
theorem dX2_times_18 : decode cX2_times 18 = .ok (.istore_n 2, 1) := by decide +kernel
theorem dX2_times_19 : decode cX2_times 19 = .ok (.aload_n 0, 1) := by decide +kernel
theorem dX2_times_20 : decode cX2_times 20 = .ok (.iload_n 2, 1) := by decide +kernel
theorem dX2_times_21 : decode cX2_times 21 = .ok (.ifCond .eq 7, 3) := by decide +kernel
theorem dX2_times_24 : decode cX2_times 24 = .ok (.iconst 1, 1) := by decide +kernel
theorem dX2_times_25 : decode cX2_times 25 = .ok (.goto 4, 3) := by decide +kernel
theorem dX2_times_28 : decode cX2_times 28 = .ok (.iconst 0, 1) := by decide +kernel
theorem dX2_times_29 : decode cX2_times 29 = .ok (.iload_n 1, 1) := by decide +kernel
theorem dX2_times_30 : decode cX2_times 30 = .ok (.invokevirtual 160, 3) := by decide +kernel
theorem dX2_times_33 : decode cX2_times 33 = .ok (.iload_n 1, 1) := by decide +kernel
theorem dX2_times_34 : decode cX2_times 34 = .ok (.invokestatic 122, 3) := by decide +kernel
theorem dX2_times_37 : decode cX2_times 37 = .ok (.lstore_n 3, 1) := by decide +kernel
theorem dX2_times_38 : decode cX2_times 38 = .ok (.iload_n 2, 1) := by decide +kernel
theorem dX2_times_39 : decode cX2_times 39 = .ok (.ifCond .eq 13, 3) := by decide +kernel
theorem dX2_times_42 : decode cX2_times 42 = .ok (.aload_n 0, 1) := by decide +kernel
theorem dX2_times_43 : decode cX2_times 43 = .ok (.getfield 22, 3) := by decide +kernel
theorem dX2_times_46 : decode cX2_times 46 = .ok (.getfield 107, 3) := by decide +kernel
theorem dX2_times_49 : decode cX2_times 49 = .ok (.goto 13, 3) := by decide +kernel
theorem dX2_times_52 : decode cX2_times 52 = .ok (.aload_n 0, 1) := by decide +kernel
theorem dX2_times_53 : decode cX2_times 53 = .ok (.iconst 1, 1) := by decide +kernel
theorem dX2_times_54 : decode cX2_times 54 = .ok (.iload_n 1, 1) := by decide +kernel
theorem dX2_times_55 : decode cX2_times 55 = .ok (.invokevirtual 160, 3) := by decide +kernel
theorem dX2_times_58 : decode cX2_times 58 = .ok (.iload_n 1, 1) := by decide +kernel
theorem dX2_times_59 : decode cX2_times 59 = .ok (.invokestatic 122, 3) := by decide +kernel
theorem dX2_times_62 : decode cX2_times 62 = .ok (.lstore 5, 2) := by decide +kernel
theorem dX2_times_64 : decode cX2_times 64 = .ok (.lload_n 3, 1) := by decide +kernel
theorem dX2_times_65 : decode cX2_times 65 = .ok (.lload 5, 2) := by decide +kernel
theorem dX2_times_67 : decode cX2_times 67 = .ok (.lmul, 1) := by decide +kernel
theorem dX2_times_68 : decode cX2_times 68 = .ok (.lstore 7, 2) := by decide +kernel
theorem dX2_times_70 : decode cX2_times 70 = .ok (.iload_n 1, 1) := by decide +kernel
theorem dX2_times_71 : decode cX2_times 71 = .ok (.bipush 8, 2) := by decide +kernel
theorem dX2_times_73 : decode cX2_times 73 = .ok (.if_icmp .ne 26, 3) := by decide +kernel
theorem dX2_times_76 : decode cX2_times 76 = .ok (.lload_n 3, 1) := by decide +kernel
theorem dX2_times_77 : decode cX2_times 77 = .ok (.lload 5, 2) := by decide +kernel
theorem dX2_times_79 : decode cX2_times 79 = .ok (.invokestatic 206, 3) := by decide +kernel
theorem dX2_times_82 : decode cX2_times 82 = .ok (.lload 7, 2) := by decide +kernel
theorem dX2_times_84 : decode cX2_times 84 = .ok (.bipush 63, 2) := by decide +kernel
theorem dX2_times_86 : decode cX2_times 86 = .ok (.lshr, 1) := by decide +kernel
theorem dX2_times_87 : decode cX2_times 87 = .ok (.lcmp, 1) := by decide +kernel
theorem dX2_times_88 : decode cX2_times 88 = .ok (.ifCond .ne 7, 3) := by decide +kernel
theorem dX2_times_91 : decode cX2_times 91 = .ok (.iconst 1, 1) := by decide +kernel
theorem dX2_times_92 : decode cX2_times 92 = .ok (.goto 24, 3) := by decide +kernel
theorem dX2_times_95 : decode cX2_times 95 = .ok (.iconst 0, 1) := by decide +kernel
theorem dX2_times_96 : decode cX2_times 96 = .ok (.goto 20, 3) := by decide +kernel
theorem dX2_times_99 : decode cX2_times 99 = .ok (.lload 7, 2) := by decide +kernel
theorem dX2_times_101 : decode cX2_times 101 = .ok (.lload 7, 2) := by decide +kernel
theorem dX2_times_103 : decode cX2_times 103 = .ok (.iload_n 1, 1) := by decide +kernel
theorem dX2_times_104 : decode cX2_times 104 = .ok (.invokestatic 122, 3) := by decide +kernel
theorem dX2_times_107 : decode cX2_times 107 = .ok (.lcmp, 1) := by decide +kernel
theorem dX2_times_108 : decode cX2_times 108 = .ok (.ifCond .ne 7, 3) := by decide +kernel
theorem dX2_times_111 : decode cX2_times 111 = .ok (.iconst 1, 1) := by decide +kernel
theorem dX2_times_112 : decode cX2_times 112 = .ok (.goto 4, 3) := by decide +kernel
theorem dX2_times_115 : decode cX2_times 115 = .ok (.iconst 0, 1) := by decide +kernel
theorem dX2_times_116 : decode cX2_times 116 = .ok (.istore 9, 2) := by decide +kernel
theorem dX2_times_118 : decode cX2_times 118 = .ok (.aload_n 0, 1) := by decide +kernel
theorem dX2_times_119 : decode cX2_times 119 = .ok (.sipush 2049, 3) := by decide +kernel
theorem dX2_times_122 : decode cX2_times 122 = .ok (.iload 9, 2) := by decide +kernel
theorem dX2_times_124 : decode cX2_times 124 = .ok (.ifCond .ne 7, 3) := by decide +kernel
theorem dX2_times_127 : decode cX2_times 127 = .ok (.iconst 1, 1) := by decide +kernel
theorem dX2_times_128 : decode cX2_times 128 = .ok (.goto 4, 3) := by decide +kernel
theorem dX2_times_131 : decode cX2_times 131 = .ok (.iconst 0, 1) := by decide +kernel
theorem dX2_times_132 : decode cX2_times 132 = .ok (.invokevirtual 125, 3) := by decide +kernel
theorem dX2_times_135 : decode cX2_times 135 = .ok (.aload_n 0, 1) := by decide +kernel
theorem dX2_times_136 : decode cX2_times 136 = .ok (.iconst 0, 1) := by decide +kernel
theorem dX2_times_137 : decode cX2_times 137 = .ok (.iload_n 1, 1) := by decide +kernel
theorem dX2_times_138 : decode cX2_times 138 = .ok (.lload 7, 2) := by decide +kernel
theorem dX2_times_140 : decode cX2_times 140 = .ok (.invokevirtual 188, 3) := by decide +kernel
theorem dX2_times_143 : decode cX2_times 143 = .ok (.return_, 1) := by decide +kernel
theorem dX2_shift_0 : decode cX2_shift 0 = .ok (.iload 5, 2) := by decide +kernel
theorem dX2_shift_2 : decode cX2_shift 2 = .ok (.iload_n 2, 1) := by decide +kernel
theorem dX2_shift_3 : decode cX2_shift 3 = .ok (.bipush 8, 2) := by decide +kernel
theorem dX2_shift_5 : decode cX2_shift 5 = .ok (.if_icmp .ne 8, 3) := by decide +kernel
theorem dX2_shift_8 : decode cX2_shift 8 = .ok (.bipush 63, 2) := by decide +kernel
theorem dX2_shift_10 : decode cX2_shift 10 = .ok (.goto 5, 3) := by decide +kernel
theorem dX2_shift_13 : decode cX2_shift 13 = .ok (.bipush 31, 2) := by decide +kernel
theorem dX2_shift_15 : decode cX2_shift 15 = .ok (.iand, 1) := by decide +kernel
theorem dX2_shift_16 : decode cX2_shift 16 = .ok (.istore 6, 2) := by decide +kernel
theorem dX2_shift_18 : decode cX2_shift 18 = .ok (.aload_n 0, 1) := by decide +kernel
theorem dX2_shift_19 : decode cX2_shift 19 = .ok (.getfield 46, 3) := by decide +kernel
theorem dX2_shift_22 : decode cX2_shift 22 = .ok (.ifCond .ne 8, 3) := by decide +kernel
theorem dX2_shift_25 : decode cX2_shift 25 = .ok (.iload 6, 2) := by decide +kernel
theorem dX2_shift_27 : decode cX2_shift 27 = .ok (.ifCond .ne 4, 3) := by decide +kernel
theorem dX2_shift_30 : decode cX2_shift 30 = .ok (.return_, 1) := by decide +kernel
theorem dX2_shift_31 : decode cX2_shift 31 = .ok (.bipush 8, 2) := by decide +kernel
theorem dX2_shift_33 : decode cX2_shift 33 = .ok (.iload_n 2, 1) := by decide +kernel
theorem dX2_shift_34 : decode cX2_shift 34 = .ok (.imul, 1) := by decide +kernel
theorem dX2_shift_35 : decode cX2_shift 35 = .ok (.iconst 1, 1) := by decide +kernel
theorem dX2_shift_36 : decode cX2_shift 36 = .ok (.isub, 1) := by decide +kernel
theorem dX2_shift_37 : decode cX2_shift 37 = .ok (.istore 7, 2) := by decide +kernel
theorem dX2_shift_39 : decode cX2_shift 39 = .ok (.lload_n 3, 1) := by decide +kernel
theorem dX2_shift_40 : decode cX2_shift 40 = .ok (.lstore 8, 2) := by decide +kernel
theorem dX2_shift_42 : decode cX2_shift 42 = .ok (.iconst 0, 1) := by decide +kernel
theorem dX2_shift_43 : decode cX2_shift 43 = .ok (.istore 10, 2) := by decide +kernel
theorem dX2_shift_45 : decode cX2_shift 45 = .ok (.iconst 0, 1) := by decide +kernel
theorem dX2_shift_46 : decode cX2_shift 46 = .ok (.istore 11, 2) := by decide +kernel
theorem dX2_shift_48 : decode cX2_shift 48 = .ok (.iload 11, 2) := by decide +kernel
theorem dX2_shift_50 : decode cX2_shift 50 = .ok (.iload 6, 2) := by decide +kernel
theorem dX2_shift_52 : decode cX2_shift 52 = .ok (.if_icmp .ge 133, 3) := by decide +kernel
theorem dX2_shift_55 : decode cX2_shift 55 = .ok (.iload_n 1, 1) := by decide +kernel
theorem dX2_shift_56 : decode cX2_shift 56 = .ok (.bipush 24, 2) := by decide +kernel
theorem dX2_shift_58 : decode cX2_shift 58 = .ok (.if_icmp .eq 9, 3) := by decide +kernel
theorem dX2_shift_61 : decode cX2_shift 61 = .ok (.iload_n 1, 1) := by decide +kernel
theorem dX2_shift_62 : decode cX2_shift 62 = .ok (.bipush 26, 2) := by decide +kernel
theorem dX2_shift_64 : decode cX2_shift 64 = .ok (.if_icmp .ne 7, 3) := by decide +kernel
theorem dX2_shift_67 : decode cX2_shift 67 = .ok (.iconst 1, 1) := by decide +kernel
theorem dX2_shift_68 : decode cX2_shift 68 = .ok (.goto 4, 3) := by decide +kernel
theorem dX2_shift_71 : decode cX2_shift 71 = .ok (.iconst 0, 1) := by decide +kernel
theorem dX2_shift_72 : decode cX2_shift 72 = .ok (.istore 12, 2) := by decide +kernel
theorem dX2_shift_74 : decode cX2_shift 74 = .ok (.lload 8, 2) := by decide +kernel
theorem dX2_shift_76 : decode cX2_shift 76 = .ok (.iload 12, 2) := by decide +kernel
theorem dX2_shift_78 : decode cX2_shift 78 = .ok (.ifCond .eq 8, 3) := by decide +kernel
theorem dX2_shift_81 : decode cX2_shift 81 = .ok (.iload 7, 2) := by decide +kernel
theorem dX2_shift_83 : decode cX2_shift 83 = .ok (.goto 4, 3) := by decide +kernel
theorem dX2_shift_86 : decode cX2_shift 86 = .ok (.iconst 0, 1) := by decide +kernel
theorem dX2_shift_87 : decode cX2_shift 87 = .ok (.invokestatic 135, 3) := by decide +kernel
theorem dX2_shift_90 : decode cX2_shift 90 = .ok (.istore 10, 2) := by decide +kernel
theorem dX2_shift_92 : decode cX2_shift 92 = .ok (.iload_n 1, 1) := by decide +kernel
theorem dX2_shift_93 : decode cX2_shift 93 = .ok (.bipush 24, 2) := by decide +kernel
theorem dX2_shift_95 : decode cX2_shift 95 = .ok (.if_icmp .eq 9, 3) := by decide +kernel
theorem dX2_shift_98 : decode cX2_shift 98 = .ok (.iload_n 1, 1) := by decide +kernel
theorem dX2_shift_99 : decode cX2_shift 99 = .ok (.bipush 25, 2) := by decide +kernel
theorem dX2_shift_101 : decode cX2_shift 101 = .ok (.if_icmp .ne 8, 3) := by decide +kernel
theorem dX2_shift_104 : decode cX2_shift 104 = .ok (.iload 10, 2) := by decide +kernel
theorem dX2_shift_106 : decode cX2_shift 106 = .ok (.goto 24, 3) := by decide +kernel
theorem dX2_shift_109 : decode cX2_shift 109 = .ok (.iload_n 1, 1) := by decide +kernel
theorem dX2_shift_110 : decode cX2_shift 110 = .ok (.bipush 28, 2) := by decide +kernel
theorem dX2_shift_112 : decode cX2_shift 112 = .ok (.if_icmp .ne 17, 3) := by decide +kernel
theorem dX2_shift_115 : decode cX2_shift 115 = .ok (.lload 8, 2) := by decide +kernel
theorem dX2_shift_117 : decode cX2_shift 117 = .ok (.iload 7, 2) := by decide +kernel
theorem dX2_shift_119 : decode cX2_shift 119 = .ok (.invokestatic 135, 3) := by decide +kernel
theorem dX2_shift_122 : decode cX2_shift 122 = .ok (.ifCond .eq 7, 3) := by decide +kernel
theorem dX2_shift_125 : decode cX2_shift 125 = .ok (.iconst 1, 1) := by decide +kernel
theorem dX2_shift_126 : decode cX2_shift 126 = .ok (.goto 4, 3) := by decide +kernel
theorem dX2_shift_129 : decode cX2_shift 129 = .ok (.iconst 0, 1) := by decide +kernel
theorem dX2_shift_130 : decode cX2_shift 130 = .ok (.istore 13, 2) := by decide +kernel
theorem dX2_shift_132 : decode cX2_shift 132 = .ok (.iload 12, 2) := by decide +kernel
theorem dX2_shift_134 : decode cX2_shift 134 = .ok (.ifCond .eq 25, 3) := by decide +kernel
theorem dX2_shift_137 : decode cX2_shift 137 = .ok (.lload 8, 2) := by decide +kernel
theorem dX2_shift_139 : decode cX2_shift 139 = .ok (.iconst 1, 1) := by decide +kernel
theorem dX2_shift_140 : decode cX2_shift 140 = .ok (.lshl, 1) := by decide +kernel
theorem dX2_shift_141 : decode cX2_shift 141 = .ok (.iload_n 2, 1) := by decide +kernel
theorem dX2_shift_142 : decode cX2_shift 142 = .ok (.invokestatic 110, 3) := by decide +kernel
theorem dX2_shift_145 : decode cX2_shift 145 = .ok (.iload 13, 2) := by decide +kernel
theorem dX2_shift_147 : decode cX2_shift 147 = .ok (.ifCond .eq 7, 3) := by decide +kernel
theorem dX2_shift_150 : decode cX2_shift 150 = .ok (.lconst 1, 1) := by decide +kernel
theorem dX2_shift_151 : decode cX2_shift 151 = .ok (.goto 4, 3) := by decide +kernel
theorem dX2_shift_154 : decode cX2_shift 154 = .ok (.lconst 0, 1) := by decide +kernel
theorem dX2_shift_155 : decode cX2_shift 155 = .ok (.lor, 1) := by decide +kernel
theorem dX2_shift_156 : decode cX2_shift 156 = .ok (.goto 21, 3) := by decide +kernel
theorem dX2_shift_159 : decode cX2_shift 159 = .ok (.lload 8, 2) := by decide +kernel
theorem dX2_shift_161 : decode cX2_shift 161 = .ok (.iconst 1, 1) := by decide +kernel
theorem dX2_shift_162 : decode cX2_shift 162 = .ok (.lushr, 1) := by decide +kernel
theorem dX2_shift_163 : decode cX2_shift 163 = .ok (.iload 13, 2) := by decide +kernel
theorem dX2_shift_165 : decode cX2_shift 165 = .ok (.ifCond .eq 10, 3) := by decide +kernel
theorem dX2_shift_168 : decode cX2_shift 168 = .ok (.lconst 1, 1) := by decide +kernel
theorem dX2_shift_169 : decode cX2_shift 169 = .ok (.iload 7, 2) := by decide +kernel
theorem dX2_shift_171 : decode cX2_shift 171 = .ok (.lshl, 1) := by decide +kernel
theorem dX2_shift_172 : decode cX2_shift 172 = .ok (.goto 4, 3) := by decide +kernel
theorem dX2_shift_175 : decode cX2_shift 175 = .ok (.lconst 0, 1) := by decide +kernel
theorem dX2_shift_176 : decode cX2_shift 176 = .ok (.lor, 1) := by decide +kernel
theorem dX2_shift_177 : decode cX2_shift 177 = .ok (.lstore 8, 2) := by decide +kernel
theorem dX2_shift_179 : decode cX2_shift 179 = .ok (.iinc 11 1, 3) := by decide +kernel
theorem dX2_shift_182 : decode cX2_shift 182 = .ok (.goto (-134), 3) := by decide +kernel
theorem dX2_shift_185 : decode cX2_shift 185 = .ok (.aload_n 0, 1) := by decide +kernel
theorem dX2_shift_186 : decode cX2_shift 186 = .ok (.iconst 1, 1) := by decide +kernel
theorem dX2_shift_187 : decode cX2_shift 187 = .ok (.iload 10, 2) := by decide +kernel
theorem dX2_shift_189 : decode cX2_shift 189 = .ok (.invokevirtual 125, 3) := by decide +kernel
theorem dX2_shift_192 : decode cX2_shift 192 = .ok (.iload 6, 2) := by decide +kernel
theorem dX2_shift_194 : decode cX2_shift 194 = .ok (.iconst 1, 1) := by decide +kernel
theorem dX2_shift_195 : decode cX2_shift 195 = .ok (.if_icmp .ne 95, 3) := by decide +kernel
theorem dX2_shift_198 : decode cX2_shift 198 = .ok (.aload_n 0, 1) := by decide +kernel
theorem dX2_shift_199 : decode cX2_shift 199 = .ok (.sipush 2048, 3) := by decide +kernel
theorem dX2_shift_202 : decode cX2_shift 202 = .ok (.iload_n 1, 1) := by decide +kernel
theorem dX2_shift_203 : decode cX2_shift 203 = .ok (.bipush 24, 2) := by decide +kernel
theorem dX2_shift_205 : decode cX2_shift 205 = .ok (.if_icmp .eq 9, 3) := by decide +kernel
theorem dX2_shift_208 : decode cX2_shift 208 = .ok (.iload_n 1, 1) := by decide +kernel
theorem dX2_shift_209 : decode cX2_shift 209 = .ok (.bipush 26, 2) := by decide +kernel
theorem dX2_shift_211 : decode cX2_shift 211 = .ok (.if_icmp .ne 23, 3) := by decide +kernel
theorem dX2_shift_214 : decode cX2_shift 214 = .ok (.iload 10, 2) := by decide +kernel
theorem dX2_shift_216 : decode cX2_shift 216 = .ok (.lload 8, 2) := by decide +kernel
theorem dX2_shift_218 : decode cX2_shift 218 = .ok (.iload 7, 2) := by decide +kernel
theorem dX2_shift_220 : decode cX2_shift 220 = .ok (.invokestatic 135, 3) := by decide +kernel
theorem dX2_shift_223 : decode cX2_shift 223 = .ok (.if_icmp .eq 7, 3) := by decide +kernel
theorem dX2_shift_226 : decode cX2_shift 226 = .ok (.iconst 1, 1) := by decide +kernel
theorem dX2_shift_227 : decode cX2_shift 227 = .ok (.goto 60, 3) := by decide +kernel
theorem dX2_shift_230 : decode cX2_shift 230 = .ok (.iconst 0, 1) := by decide +kernel
theorem dX2_shift_231 : decode cX2_shift 231 = .ok (.goto 56, 3) := by decide +kernel
theorem dX2_shift_234 : decode cX2_shift 234 = .ok (.iload_n 1, 1) := by decide +kernel
theorem dX2_shift_235 : decode cX2_shift 235 = .ok (.bipush 25, 2) := by decide +kernel
theorem dX2_shift_237 : decode cX2_shift 237 = .ok (.if_icmp .ne 30, 3) := by decide +kernel
theorem dX2_shift_240 : decode cX2_shift 240 = .ok (.lload 8, 2) := by decide +kernel
theorem dX2_shift_242 : decode cX2_shift 242 = .ok (.iload 7, 2) := by decide +kernel
theorem dX2_shift_244 : decode cX2_shift 244 = .ok (.invokestatic 135, 3) := by decide +kernel
theorem dX2_shift_247 : decode cX2_shift 247 = .ok (.lload 8, 2) := by decide +kernel
theorem dX2_shift_249 : decode cX2_shift 249 = .ok (.iload 7, 2) := by decide +kernel
theorem dX2_shift_251 : decode cX2_shift 251 = .ok (.iconst 1, 1) := by decide +kernel
theorem dX2_shift_252 : decode cX2_shift 252 = .ok (.isub, 1) := by decide +kernel
theorem dX2_shift_253 : decode cX2_shift 253 = .ok (.invokestatic 135, 3) := by decide +kernel
theorem dX2_shift_256 : decode cX2_shift 256 = .ok (.if_icmp .eq 7, 3) := by decide +kernel
theorem dX2_shift_259 : decode cX2_shift 259 = .ok (.iconst 1, 1) := by decide +kernel
theorem dX2_shift_260 : decode cX2_shift 260 = .ok (.goto 27, 3) := by decide +kernel
theorem dX2_shift_263 : decode cX2_shift 263 = .ok (.iconst 0, 1) := by decide +kernel
theorem dX2_shift_264 : decode cX2_shift 264 = .ok (.goto 23, 3) := by decide +kernel
theorem dX2_shift_267 : decode cX2_shift 267 = .ok (.iload_n 1, 1) := by decide +kernel
theorem dX2_shift_268 : decode cX2_shift 268 = .ok (.bipush 27, 2) := by decide +kernel
theorem dX2_shift_270 : decode cX2_shift 270 = .ok (.if_icmp .ne 16, 3) := by decide +kernel
theorem dX2_shift_273 : decode cX2_shift 273 = .ok (.lload_n 3, 1) := by decide +kernel
theorem dX2_shift_274 : decode cX2_shift 274 = .ok (.iload 7, 2) := by decide +kernel
theorem dX2_shift_276 : decode cX2_shift 276 = .ok (.invokestatic 135, 3) := by decide +kernel
theorem dX2_shift_279 : decode cX2_shift 279 = .ok (.ifCond .eq 7, 3) := by decide +kernel
theorem dX2_shift_282 : decode cX2_shift 282 = .ok (.iconst 1, 1) := by decide +kernel
theorem dX2_shift_283 : decode cX2_shift 283 = .ok (.goto 4, 3) := by decide +kernel
theorem dX2_shift_286 : decode cX2_shift 286 = .ok (.iconst 0, 1) := by decide +kernel
theorem dX2_shift_287 : decode cX2_shift 287 = .ok (.invokevirtual 125, 3) := by decide +kernel
theorem dX2_shift_290 : decode cX2_shift 290 = .ok (.iload_n 1, 1) := by decide +kernel
theorem dX2_shift_291 : decode cX2_shift 291 = .ok (.bipush 25, 2) := by decide +kernel
theorem dX2_shift_293 : decode cX2_shift 293 = .ok (.if_icmp .le 10, 3) := by decide +kernel
theorem dX2_shift_296 : decode cX2_shift 296 = .ok (.aload_n 0, 1) := by decide +kernel
theorem dX2_shift_297 : decode cX2_shift 297 = .ok (.lload 8, 2) := by decide +kernel
theorem dX2_shift_299 : decode cX2_shift 299 = .ok (.iload_n 2, 1) := by decide +kernel
theorem dX2_shift_300 : decode cX2_shift 300 = .ok (.invokevirtual 138, 3) := by decide +kernel
theorem dX2_shift_303 : decode cX2_shift 303 = .ok (.aload_n 0, 1) := by decide +kernel
theorem dX2_shift_304 : decode cX2_shift 304 = .ok (.iconst 0, 1) := by decide +kernel
theorem dX2_shift_305 : decode cX2_shift 305 = .ok (.iload_n 2, 1) := by decide +kernel
theorem dX2_shift_306 : decode cX2_shift 306 = .ok (.lload 8, 2) := by decide +kernel
theorem dX2_shift_308 : decode cX2_shift 308 = .ok (.invokevirtual 188, 3) := by decide +kernel
theorem dX2_shift_311 : decode cX2_shift 311 = .ok (.return_, 1) := by decide +kernel
theorem dX2_flow_0 : decode cX2_flow 0 = .ok (.iload_n 1, 1) := by decide +kernel
theorem dX2_flow_1 : decode cX2_flow 1 = .ok (.tableswitch 253 29 35 #[43, 80, 87, 127, 157, 87, 225], 43) := by decide +kernel
theorem dX2_flow_44 : decode cX2_flow 44 = .ok (.aload_n 0, 1) := by decide +kernel
theorem dX2_flow_45 : decode cX2_flow 45 = .ok (.aload_n 0, 1) := by decide +kernel
theorem dX2_flow_46 : decode cX2_flow 46 = .ok (.getfield 22, 3) := by decide +kernel
theorem dX2_flow_49 : decode cX2_flow 49 = .ok (.getfield 93, 3) := by decide +kernel
theorem dX2_flow_52 : decode cX2_flow 52 = .ok (.iconst 0, 1) := by decide +kernel
theorem dX2_flow_53 : decode cX2_flow 53 = .ok (.iaload, 1) := by decide +kernel
theorem dX2_flow_54 : decode cX2_flow 54 = .ok (.iconst 3, 1) := by decide +kernel
theorem dX2_flow_55 : decode cX2_flow 55 = .ok (.if_icmp .ne 13, 3) := by decide +kernel
theorem dX2_flow_58 : decode cX2_flow 58 = .ok (.aload_n 0, 1) := by decide +kernel
theorem dX2_flow_59 : decode cX2_flow 59 = .ok (.getfield 22, 3) := by decide +kernel
theorem dX2_flow_62 : decode cX2_flow 62 = .ok (.getfield 107, 3) := by decide +kernel
theorem dX2_flow_65 : decode cX2_flow 65 = .ok (.goto 10, 3) := by decide +kernel
theorem dX2_flow_68 : decode cX2_flow 68 = .ok (.aload_n 0, 1) := by decide +kernel
theorem dX2_flow_69 : decode cX2_flow 69 = .ok (.iconst 0, 1) := by decide +kernel
theorem dX2_flow_70 : decode cX2_flow 70 = .ok (.bipush 8, 2) := by decide +kernel
theorem dX2_flow_72 : decode cX2_flow 72 = .ok (.invokevirtual 160, 3) := by decide +kernel
theorem dX2_flow_75 : decode cX2_flow 75 = .ok (.invokevirtual 234, 3) := by decide +kernel
theorem dX2_flow_78 : decode cX2_flow 78 = .ok (.goto 215, 3) := by decide +kernel
theorem dX2_flow_81 : decode cX2_flow 81 = .ok (.aload_n 0, 1) := by decide +kernel
theorem dX2_flow_82 : decode cX2_flow 82 = .ok (.invokevirtual 238, 3) := by decide +kernel
theorem dX2_flow_85 : decode cX2_flow 85 = .ok (.goto 208, 3) := by decide +kernel
theorem dX2_flow_88 : decode cX2_flow 88 = .ok (.aload_n 0, 1) := by decide +kernel
theorem dX2_flow_89 : decode cX2_flow 89 = .ok (.invokevirtual 241, 3) := by decide +kernel
theorem dX2_flow_92 : decode cX2_flow 92 = .ok (.lstore_n 3, 1) := by decide +kernel
theorem dX2_flow_93 : decode cX2_flow 93 = .ok (.aload_n 0, 1) := by decide +kernel
theorem dX2_flow_94 : decode cX2_flow 94 = .ok (.getfield 46, 3) := by decide +kernel
theorem dX2_flow_97 : decode cX2_flow 97 = .ok (.ifCond .ne 196, 3) := by decide +kernel
theorem dX2_flow_100 : decode cX2_flow 100 = .ok (.iload_n 1, 1) := by decide +kernel
theorem dX2_flow_101 : decode cX2_flow 101 = .ok (.bipush 31, 2) := by decide +kernel
theorem dX2_flow_103 : decode cX2_flow 103 = .ok (.if_icmp .eq 17, 3) := by decide +kernel
theorem dX2_flow_106 : decode cX2_flow 106 = .ok (.aload_n 0, 1) := by decide +kernel
theorem dX2_flow_107 : decode cX2_flow 107 = .ok (.aload_n 0, 1) := by decide +kernel
theorem dX2_flow_108 : decode cX2_flow 108 = .ok (.getfield 22, 3) := by decide +kernel
theorem dX2_flow_111 : decode cX2_flow 111 = .ok (.getfield 244, 3) := by decide +kernel
theorem dX2_flow_114 : decode cX2_flow 114 = .ok (.invokevirtual 247, 3) := by decide +kernel
theorem dX2_flow_117 : decode cX2_flow 117 = .ok (.ifCond .eq 176, 3) := by decide +kernel
theorem dX2_flow_120 : decode cX2_flow 120 = .ok (.aload_n 0, 1) := by decide +kernel
theorem dX2_flow_121 : decode cX2_flow 121 = .ok (.lload_n 3, 1) := by decide +kernel
theorem dX2_flow_122 : decode cX2_flow 122 = .ok (.putfield 68, 3) := by decide +kernel
theorem dX2_flow_125 : decode cX2_flow 125 = .ok (.goto 168, 3) := by decide +kernel
theorem dX2_flow_128 : decode cX2_flow 128 = .ok (.aload_n 0, 1) := by decide +kernel
theorem dX2_flow_129 : decode cX2_flow 129 = .ok (.invokevirtual 241, 3) := by decide +kernel
theorem dX2_flow_132 : decode cX2_flow 132 = .ok (.lstore 5, 2) := by decide +kernel
theorem dX2_flow_134 : decode cX2_flow 134 = .ok (.aload_n 0, 1) := by decide +kernel
theorem dX2_flow_135 : decode cX2_flow 135 = .ok (.aload_n 0, 1) := by decide +kernel
theorem dX2_flow_136 : decode cX2_flow 136 = .ok (.getfield 68, 3) := by decide +kernel
theorem dX2_flow_139 : decode cX2_flow 139 = .ok (.invokevirtual 234, 3) := by decide +kernel
theorem dX2_flow_142 : decode cX2_flow 142 = .ok (.aload_n 0, 1) := by decide +kernel
theorem dX2_flow_143 : decode cX2_flow 143 = .ok (.getfield 46, 3) := by decide +kernel
theorem dX2_flow_146 : decode cX2_flow 146 = .ok (.ifCond .ne 147, 3) := by decide +kernel
theorem dX2_flow_149 : decode cX2_flow 149 = .ok (.aload_n 0, 1) := by decide +kernel
theorem dX2_flow_150 : decode cX2_flow 150 = .ok (.lload 5, 2) := by decide +kernel
theorem dX2_flow_152 : decode cX2_flow 152 = .ok (.putfield 68, 3) := by decide +kernel
theorem dX2_flow_155 : decode cX2_flow 155 = .ok (.goto 138, 3) := by decide +kernel
theorem dX2_flow_158 : decode cX2_flow 158 = .ok (.aload_n 0, 1) := by decide +kernel
theorem dX2_flow_159 : decode cX2_flow 159 = .ok (.aload_n 0, 1) := by decide +kernel
theorem dX2_flow_160 : decode cX2_flow 160 = .ok (.getfield 26, 3) := by decide +kernel
theorem dX2_flow_163 : decode cX2_flow 163 = .ok (.iconst 4, 1) := by decide +kernel
theorem dX2_flow_164 : decode cX2_flow 164 = .ok (.laload, 1) := by decide +kernel
theorem dX2_flow_165 : decode cX2_flow 165 = .ok (.bipush 8, 2) := by decide +kernel
theorem dX2_flow_167 : decode cX2_flow 167 = .ok (.invokevirtual 101, 3) := by decide +kernel
theorem dX2_flow_170 : decode cX2_flow 170 = .ok (.lstore 7, 2) := by decide +kernel
theorem dX2_flow_172 : decode cX2_flow 172 = .ok (.aload_n 0, 1) := by decide +kernel
theorem dX2_flow_173 : decode cX2_flow 173 = .ok (.getfield 46, 3) := by decide +kernel
theorem dX2_flow_176 : decode cX2_flow 176 = .ok (.ifCond .eq 4, 3) := by decide +kernel
theorem dX2_flow_179 : decode cX2_flow 179 = .ok (.return_, 1) := by decide +kernel
theorem dX2_flow_180 : decode cX2_flow 180 = .ok (.aload_n 0, 1) := by decide +kernel
theorem dX2_flow_181 : decode cX2_flow 181 = .ok (.lload 7, 2) := by decide +kernel
theorem dX2_flow_183 : decode cX2_flow 183 = .ok (.putfield 68, 3) := by decide +kernel
theorem dX2_flow_186 : decode cX2_flow 186 = .ok (.aload_n 0, 1) := by decide +kernel
theorem dX2_flow_187 : decode cX2_flow 187 = .ok (.getfield 26, 3) := by decide +kernel
theorem dX2_flow_190 : decode cX2_flow 190 = .ok (.iconst 4, 1) := by decide +kernel
theorem dX2_flow_191 : decode cX2_flow 191 = .ok (.dup2, 1) := by decide +kernel
theorem dX2_flow_192 : decode cX2_flow 192 = .ok (.laload, 1) := by decide +kernel
theorem dX2_flow_193 : decode cX2_flow 193 = .ok (.ldc2_w 232, 3) := by decide +kernel
theorem dX2_flow_196 : decode cX2_flow 196 = .ok (.aload_n 0, 1) := by decide +kernel
theorem dX2_flow_197 : decode cX2_flow 197 = .ok (.getfield 22, 3) := by decide +kernel
theorem dX2_flow_200 : decode cX2_flow 200 = .ok (.getfield 93, 3) := by decide +kernel
theorem dX2_flow_203 : decode cX2_flow 203 = .ok (.iconst 0, 1) := by decide +kernel
theorem dX2_flow_204 : decode cX2_flow 204 = .ok (.iaload, 1) := by decide +kernel
theorem dX2_flow_205 : decode cX2_flow 205 = .ok (.iconst 3, 1) := by decide +kernel
theorem dX2_flow_206 : decode cX2_flow 206 = .ok (.if_icmp .ne 13, 3) := by decide +kernel
theorem dX2_flow_209 : decode cX2_flow 209 = .ok (.aload_n 0, 1) := by decide +kernel
theorem dX2_flow_210 : decode cX2_flow 210 = .ok (.getfield 22, 3) := by decide +kernel
theorem dX2_flow_213 : decode cX2_flow 213 = .ok (.getfield 107, 3) := by decide +kernel
theorem dX2_flow_216 : decode cX2_flow 216 = .ok (.goto 4, 3) := by decide +kernel
theorem dX2_flow_219 : decode cX2_flow 219 = .ok (.lconst 0, 1) := by decide +kernel
theorem dX2_flow_220 : decode cX2_flow 220 = .ok (.ladd, 1) := by decide +kernel
theorem dX2_flow_221 : decode cX2_flow 221 = .ok (.ladd, 1) := by decide +kernel
theorem dX2_flow_222 : decode cX2_flow 222 = .ok (.lastore, 1) := by decide +kernel
theorem dX2_flow_223 : decode cX2_flow 223 = .ok (.goto 70, 3) := by decide +kernel
theorem dX2_flow_226 : decode cX2_flow 226 = .ok (.aload_n 0, 1) := by decide +kernel
theorem dX2_flow_227 : decode cX2_flow 227 = .ok (.iconst 0, 1) := by decide +kernel
theorem dX2_flow_228 : decode cX2_flow 228 = .ok (.iconst 1, 1) := by decide +kernel
theorem dX2_flow_229 : decode cX2_flow 229 = .ok (.aload_n 0, 1) := by decide +kernel
theorem dX2_flow_230 : decode cX2_flow 230 = .ok (.aload_n 0, 1) := by decide +kernel
theorem dX2_flow_231 : decode cX2_flow 231 = .ok (.getfield 22, 3) := by decide +kernel
theorem dX2_flow_234 : decode cX2_flow 234 = .ok (.getfield 244, 3) := by decide +kernel
theorem dX2_flow_237 : decode cX2_flow 237 = .ok (.invokevirtual 247, 3) := by decide +kernel
theorem dX2_flow_240 : decode cX2_flow 240 = .ok (.ifCond .eq 7, 3) := by decide +kernel
theorem dX2_flow_243 : decode cX2_flow 243 = .ok (.lconst 1, 1) := by decide +kernel
theorem dX2_flow_244 : decode cX2_flow 244 = .ok (.goto 4, 3) := by decide +kernel
theorem dX2_flow_247 : decode cX2_flow 247 = .ok (.lconst 0, 1) := by decide +kernel
theorem dX2_flow_248 : decode cX2_flow 248 = .ok (.invokevirtual 188, 3) := by decide +kernel
theorem dX2_flow_251 : decode cX2_flow 251 = .ok (.goto 42, 3) := by decide +kernel
theorem dX2_flow_254 : decode cX2_flow 254 = .ok (.aload_n 0, 1) := by decide +kernel
theorem dX2_flow_255 : decode cX2_flow 255 = .ok (.iconst 1, 1) := by decide +kernel
theorem dX2_flow_256 : decode cX2_flow 256 = .ok (.iload_n 2, 1) := by decide +kernel
theorem dX2_flow_257 : decode cX2_flow 257 = .ok (.invokevirtual 160, 3) := by decide +kernel
theorem dX2_flow_260 : decode cX2_flow 260 = .ok (.lstore 9, 2) := by decide +kernel
theorem dX2_flow_262 : decode cX2_flow 262 = .ok (.aload_n 0, 1) := by decide +kernel
theorem dX2_flow_263 : decode cX2_flow 263 = .ok (.iconst 0, 1) := by decide +kernel
theorem dX2_flow_264 : decode cX2_flow 264 = .ok (.iload_n 2, 1) := by decide +kernel
theorem dX2_flow_265 : decode cX2_flow 265 = .ok (.aload_n 0, 1) := by decide +kernel
theorem dX2_flow_266 : decode cX2_flow 266 = .ok (.aload_n 0, 1) := by decide +kernel
theorem dX2_flow_267 : decode cX2_flow 267 = .ok (.getfield 22, 3) := by decide +kernel
theorem dX2_flow_270 : decode cX2_flow 270 = .ok (.getfield 244, 3) := by decide +kernel
theorem dX2_flow_273 : decode cX2_flow 273 = .ok (.invokevirtual 247, 3) := by decide +kernel
theorem dX2_flow_276 : decode cX2_flow 276 = .ok (.ifCond .eq 8, 3) := by decide +kernel
theorem dX2_flow_279 : decode cX2_flow 279 = .ok (.lload 9, 2) := by decide +kernel
theorem dX2_flow_281 : decode cX2_flow 281 = .ok (.goto 9, 3) := by decide +kernel
theorem dX2_flow_284 : decode cX2_flow 284 = .ok (.aload_n 0, 1) := by decide +kernel
theorem dX2_flow_285 : decode cX2_flow 285 = .ok (.iconst 0, 1) := by decide +kernel
theorem dX2_flow_286 : decode cX2_flow 286 = .ok (.iload_n 2, 1) := by decide +kernel
theorem dX2_flow_287 : decode cX2_flow 287 = .ok (.invokevirtual 160, 3) := by decide +kernel
theorem dX2_flow_290 : decode cX2_flow 290 = .ok (.invokevirtual 188, 3) := by decide +kernel
theorem dX2_flow_293 : decode cX2_flow 293 = .ok (.return_, 1) := by decide +kernel
theorem dX2_push_0 : decode cX2_push 0 = .ok (.aload_n 0, 1) := by decide +kernel
theorem dX2_push_1 : decode cX2_push 1 = .ok (.aload_n 0, 1) := by decide +kernel
theorem dX2_push_2 : decode cX2_push 2 = .ok (.getfield 26, 3) := by decide +kernel
theorem dX2_push_5 : decode cX2_push 5 = .ok (.iconst 4, 1) := by decide +kernel
theorem dX2_push_6 : decode cX2_push 6 = .ok (.laload, 1) := by decide +kernel
theorem dX2_push_7 : decode cX2_push 7 = .ok (.ldc2_w 232, 3) := by decide +kernel
theorem dX2_push_10 : decode cX2_push 10 = .ok (.lsub, 1) := by decide +kernel
theorem dX2_push_11 : decode cX2_push 11 = .ok (.bipush 8, 2) := by decide +kernel
theorem dX2_push_13 : decode cX2_push 13 = .ok (.lload_n 1, 1) := by decide +kernel
theorem dX2_push_14 : decode cX2_push 14 = .ok (.invokevirtual 115, 3) := by decide +kernel
theorem dX2_push_17 : decode cX2_push 17 = .ok (.aload_n 0, 1) := by decide +kernel
theorem dX2_push_18 : decode cX2_push 18 = .ok (.getfield 46, 3) := by decide +kernel
theorem dX2_push_21 : decode cX2_push 21 = .ok (.ifCond .ne 15, 3) := by decide +kernel
theorem dX2_push_24 : decode cX2_push 24 = .ok (.aload_n 0, 1) := by decide +kernel
theorem dX2_push_25 : decode cX2_push 25 = .ok (.getfield 26, 3) := by decide +kernel
theorem dX2_push_28 : decode cX2_push 28 = .ok (.iconst 4, 1) := by decide +kernel
theorem dX2_push_29 : decode cX2_push 29 = .ok (.dup2, 1) := by decide +kernel
theorem dX2_push_30 : decode cX2_push 30 = .ok (.laload, 1) := by decide +kernel
theorem dX2_push_31 : decode cX2_push 31 = .ok (.ldc2_w 232, 3) := by decide +kernel
theorem dX2_push_34 : decode cX2_push 34 = .ok (.lsub, 1) := by decide +kernel
theorem dX2_push_35 : decode cX2_push 35 = .ok (.lastore, 1) := by decide +kernel
theorem dX2_push_36 : decode cX2_push 36 = .ok (.return_, 1) := by decide +kernel
theorem dX2_pop_0 : decode cX2_pop 0 = .ok (.aload_n 0, 1) := by decide +kernel
theorem dX2_pop_1 : decode cX2_pop 1 = .ok (.aload_n 0, 1) := by decide +kernel
theorem dX2_pop_2 : decode cX2_pop 2 = .ok (.getfield 26, 3) := by decide +kernel
theorem dX2_pop_5 : decode cX2_pop 5 = .ok (.iconst 4, 1) := by decide +kernel
theorem dX2_pop_6 : decode cX2_pop 6 = .ok (.laload, 1) := by decide +kernel
theorem dX2_pop_7 : decode cX2_pop 7 = .ok (.bipush 8, 2) := by decide +kernel
theorem dX2_pop_9 : decode cX2_pop 9 = .ok (.invokevirtual 101, 3) := by decide +kernel
