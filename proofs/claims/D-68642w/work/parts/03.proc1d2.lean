set_option maxRecDepth 100000
theorem dX2_pop_12 : decode cX2_pop 12 = .ok (.lstore_n 1, 1) := by decide +kernel
theorem dX2_pop_13 : decode cX2_pop 13 = .ok (.aload_n 0, 1) := by decide +kernel
theorem dX2_pop_14 : decode cX2_pop 14 = .ok (.getfield 46, 3) := by decide +kernel
theorem dX2_pop_17 : decode cX2_pop 17 = .ok (.ifCond .eq 4, 3) := by decide +kernel
theorem dX2_pop_20 : decode cX2_pop 20 = .ok (.return_, 1) := by decide +kernel
theorem dX2_pop_21 : decode cX2_pop 21 = .ok (.aload_n 0, 1) := by decide +kernel
theorem dX2_pop_22 : decode cX2_pop 22 = .ok (.getfield 26, 3) := by decide +kernel
theorem dX2_pop_25 : decode cX2_pop 25 = .ok (.iconst 4, 1) := by decide +kernel
theorem dX2_pop_26 : decode cX2_pop 26 = .ok (.dup2, 1) := by decide +kernel
theorem dX2_pop_27 : decode cX2_pop 27 = .ok (.laload, 1) := by decide +kernel
theorem dX2_pop_28 : decode cX2_pop 28 = .ok (.ldc2_w 232, 3) := by decide +kernel
theorem dX2_pop_31 : decode cX2_pop 31 = .ok (.ladd, 1) := by decide +kernel
theorem dX2_pop_32 : decode cX2_pop 32 = .ok (.lastore, 1) := by decide +kernel
theorem dX2_pop_33 : decode cX2_pop 33 = .ok (.aload_n 0, 1) := by decide +kernel
theorem dX2_pop_34 : decode cX2_pop 34 = .ok (.iconst 0, 1) := by decide +kernel
theorem dX2_pop_35 : decode cX2_pop 35 = .ok (.bipush 8, 2) := by decide +kernel
theorem dX2_pop_37 : decode cX2_pop 37 = .ok (.lload_n 1, 1) := by decide +kernel
theorem dX2_pop_38 : decode cX2_pop 38 = .ok (.invokevirtual 188, 3) := by decide +kernel
theorem dX2_pop_41 : decode cX2_pop 41 = .ok (.aload_n 0, 1) := by decide +kernel
theorem dX2_pop_42 : decode cX2_pop 42 = .ok (.getfield 46, 3) := by decide +kernel
theorem dX2_pop_45 : decode cX2_pop 45 = .ok (.ifCond .eq 15, 3) := by decide +kernel
theorem dX2_pop_48 : decode cX2_pop 48 = .ok (.aload_n 0, 1) := by decide +kernel
theorem dX2_pop_49 : decode cX2_pop 49 = .ok (.getfield 26, 3) := by decide +kernel
theorem dX2_pop_52 : decode cX2_pop 52 = .ok (.iconst 4, 1) := by decide +kernel
theorem dX2_pop_53 : decode cX2_pop 53 = .ok (.dup2, 1) := by decide +kernel
theorem dX2_pop_54 : decode cX2_pop 54 = .ok (.laload, 1) := by decide +kernel
theorem dX2_pop_55 : decode cX2_pop 55 = .ok (.ldc2_w 232, 3) := by decide +kernel
theorem dX2_pop_58 : decode cX2_pop 58 = .ok (.lsub, 1) := by decide +kernel
theorem dX2_pop_59 : decode cX2_pop 59 = .ok (.lastore, 1) := by decide +kernel
theorem dX2_pop_60 : decode cX2_pop 60 = .ok (.return_, 1) := by decide +kernel
theorem dX2_target_0 : decode cX2_target 0 = .ok (.aload_n 0, 1) := by decide +kernel
theorem dX2_target_1 : decode cX2_target 1 = .ok (.getfield 22, 3) := by decide +kernel
theorem dX2_target_4 : decode cX2_target 4 = .ok (.getfield 93, 3) := by decide +kernel
theorem dX2_target_7 : decode cX2_target 7 = .ok (.iconst 0, 1) := by decide +kernel
theorem dX2_target_8 : decode cX2_target 8 = .ok (.iaload, 1) := by decide +kernel
theorem dX2_target_9 : decode cX2_target 9 = .ok (.iconst 3, 1) := by decide +kernel
theorem dX2_target_10 : decode cX2_target 10 = .ok (.if_icmp .ne 18, 3) := by decide +kernel
theorem dX2_target_13 : decode cX2_target 13 = .ok (.aload_n 0, 1) := by decide +kernel
theorem dX2_target_14 : decode cX2_target 14 = .ok (.getfield 68, 3) := by decide +kernel
theorem dX2_target_17 : decode cX2_target 17 = .ok (.aload_n 0, 1) := by decide +kernel
theorem dX2_target_18 : decode cX2_target 18 = .ok (.getfield 22, 3) := by decide +kernel
theorem dX2_target_21 : decode cX2_target 21 = .ok (.getfield 107, 3) := by decide +kernel
theorem dX2_target_24 : decode cX2_target 24 = .ok (.ladd, 1) := by decide +kernel
theorem dX2_target_25 : decode cX2_target 25 = .ok (.goto 10, 3) := by decide +kernel
theorem dX2_target_28 : decode cX2_target 28 = .ok (.aload_n 0, 1) := by decide +kernel
theorem dX2_target_29 : decode cX2_target 29 = .ok (.iconst 0, 1) := by decide +kernel
theorem dX2_target_30 : decode cX2_target 30 = .ok (.bipush 8, 2) := by decide +kernel
theorem dX2_target_32 : decode cX2_target 32 = .ok (.invokevirtual 160, 3) := by decide +kernel
theorem dX2_target_35 : decode cX2_target 35 = .ok (.lreturn, 1) := by decide +kernel
theorem dX2_holds_0 : decode cX2_holds 0 = .ok (.iload_n 1, 1) := by decide +kernel
theorem dX2_holds_1 : decode cX2_holds 1 = .ok (.iconst 1, 1) := by decide +kernel
theorem dX2_holds_2 : decode cX2_holds 2 = .ok (.ishr, 1) := by decide +kernel
theorem dX2_holds_3 : decode cX2_holds 3 = .ok (.tableswitch 143 0 6 #[41, 52, 61, 71, 97, 108, 117], 41) := by decide +kernel
theorem dX2_holds_44 : decode cX2_holds 44 = .ok (.aload_n 0, 1) := by decide +kernel
theorem dX2_holds_45 : decode cX2_holds 45 = .ok (.sipush 2048, 3) := by decide +kernel
theorem dX2_holds_48 : decode cX2_holds 48 = .ok (.invokevirtual 142, 3) := by decide +kernel
theorem dX2_holds_51 : decode cX2_holds 51 = .ok (.istore_n 2, 1) := by decide +kernel
theorem dX2_holds_52 : decode cX2_holds 52 = .ok (.goto 126, 3) := by decide +kernel
theorem dX2_holds_55 : decode cX2_holds 55 = .ok (.aload_n 0, 1) := by decide +kernel
theorem dX2_holds_56 : decode cX2_holds 56 = .ok (.iconst 1, 1) := by decide +kernel
theorem dX2_holds_57 : decode cX2_holds 57 = .ok (.invokevirtual 142, 3) := by decide +kernel
theorem dX2_holds_60 : decode cX2_holds 60 = .ok (.istore_n 2, 1) := by decide +kernel
theorem dX2_holds_61 : decode cX2_holds 61 = .ok (.goto 117, 3) := by decide +kernel
theorem dX2_holds_64 : decode cX2_holds 64 = .ok (.aload_n 0, 1) := by decide +kernel
theorem dX2_holds_65 : decode cX2_holds 65 = .ok (.bipush 64, 2) := by decide +kernel
theorem dX2_holds_67 : decode cX2_holds 67 = .ok (.invokevirtual 142, 3) := by decide +kernel
theorem dX2_holds_70 : decode cX2_holds 70 = .ok (.istore_n 2, 1) := by decide +kernel
theorem dX2_holds_71 : decode cX2_holds 71 = .ok (.goto 107, 3) := by decide +kernel
theorem dX2_holds_74 : decode cX2_holds 74 = .ok (.aload_n 0, 1) := by decide +kernel
theorem dX2_holds_75 : decode cX2_holds 75 = .ok (.iconst 1, 1) := by decide +kernel
theorem dX2_holds_76 : decode cX2_holds 76 = .ok (.invokevirtual 142, 3) := by decide +kernel
theorem dX2_holds_79 : decode cX2_holds 79 = .ok (.ifCond .ne 12, 3) := by decide +kernel
theorem dX2_holds_82 : decode cX2_holds 82 = .ok (.aload_n 0, 1) := by decide +kernel
theorem dX2_holds_83 : decode cX2_holds 83 = .ok (.bipush 64, 2) := by decide +kernel
theorem dX2_holds_85 : decode cX2_holds 85 = .ok (.invokevirtual 142, 3) := by decide +kernel
theorem dX2_holds_88 : decode cX2_holds 88 = .ok (.ifCond .eq 7, 3) := by decide +kernel
theorem dX2_holds_91 : decode cX2_holds 91 = .ok (.iconst 1, 1) := by decide +kernel
theorem dX2_holds_92 : decode cX2_holds 92 = .ok (.goto 4, 3) := by decide +kernel
theorem dX2_holds_95 : decode cX2_holds 95 = .ok (.iconst 0, 1) := by decide +kernel
theorem dX2_holds_96 : decode cX2_holds 96 = .ok (.istore_n 2, 1) := by decide +kernel
theorem dX2_holds_97 : decode cX2_holds 97 = .ok (.goto 81, 3) := by decide +kernel
theorem dX2_holds_100 : decode cX2_holds 100 = .ok (.aload_n 0, 1) := by decide +kernel
theorem dX2_holds_101 : decode cX2_holds 101 = .ok (.sipush 128, 3) := by decide +kernel
theorem dX2_holds_104 : decode cX2_holds 104 = .ok (.invokevirtual 142, 3) := by decide +kernel
theorem dX2_holds_107 : decode cX2_holds 107 = .ok (.istore_n 2, 1) := by decide +kernel
theorem dX2_holds_108 : decode cX2_holds 108 = .ok (.goto 70, 3) := by decide +kernel
theorem dX2_holds_111 : decode cX2_holds 111 = .ok (.aload_n 0, 1) := by decide +kernel
theorem dX2_holds_112 : decode cX2_holds 112 = .ok (.iconst 4, 1) := by decide +kernel
theorem dX2_holds_113 : decode cX2_holds 113 = .ok (.invokevirtual 142, 3) := by decide +kernel
theorem dX2_holds_116 : decode cX2_holds 116 = .ok (.istore_n 2, 1) := by decide +kernel
theorem dX2_holds_117 : decode cX2_holds 117 = .ok (.goto 61, 3) := by decide +kernel
theorem dX2_holds_120 : decode cX2_holds 120 = .ok (.aload_n 0, 1) := by decide +kernel
theorem dX2_holds_121 : decode cX2_holds 121 = .ok (.sipush 128, 3) := by decide +kernel
theorem dX2_holds_124 : decode cX2_holds 124 = .ok (.invokevirtual 142, 3) := by decide +kernel
theorem dX2_holds_127 : decode cX2_holds 127 = .ok (.aload_n 0, 1) := by decide +kernel
theorem dX2_holds_128 : decode cX2_holds 128 = .ok (.sipush 2048, 3) := by decide +kernel
theorem dX2_holds_131 : decode cX2_holds 131 = .ok (.invokevirtual 142, 3) := by decide +kernel
theorem dX2_holds_134 : decode cX2_holds 134 = .ok (.if_icmp .eq 7, 3) := by decide +kernel
theorem dX2_holds_137 : decode cX2_holds 137 = .ok (.iconst 1, 1) := by decide +kernel
theorem dX2_holds_138 : decode cX2_holds 138 = .ok (.goto 4, 3) := by decide +kernel
theorem dX2_holds_141 : decode cX2_holds 141 = .ok (.iconst 0, 1) := by decide +kernel
theorem dX2_holds_142 : decode cX2_holds 142 = .ok (.istore_n 2, 1) := by decide +kernel
theorem dX2_holds_143 : decode cX2_holds 143 = .ok (.goto 35, 3) := by decide +kernel
theorem dX2_holds_146 : decode cX2_holds 146 = .ok (.aload_n 0, 1) := by decide +kernel
theorem dX2_holds_147 : decode cX2_holds 147 = .ok (.bipush 64, 2) := by decide +kernel
theorem dX2_holds_149 : decode cX2_holds 149 = .ok (.invokevirtual 142, 3) := by decide +kernel
theorem dX2_holds_152 : decode cX2_holds 152 = .ok (.ifCond .ne 20, 3) := by decide +kernel
theorem dX2_holds_155 : decode cX2_holds 155 = .ok (.aload_n 0, 1) := by decide +kernel
theorem dX2_holds_156 : decode cX2_holds 156 = .ok (.sipush 128, 3) := by decide +kernel
theorem dX2_holds_159 : decode cX2_holds 159 = .ok (.invokevirtual 142, 3) := by decide +kernel
theorem dX2_holds_162 : decode cX2_holds 162 = .ok (.aload_n 0, 1) := by decide +kernel
theorem dX2_holds_163 : decode cX2_holds 163 = .ok (.sipush 2048, 3) := by decide +kernel
theorem dX2_holds_166 : decode cX2_holds 166 = .ok (.invokevirtual 142, 3) := by decide +kernel
theorem dX2_holds_169 : decode cX2_holds 169 = .ok (.if_icmp .eq 7, 3) := by decide +kernel
theorem dX2_holds_172 : decode cX2_holds 172 = .ok (.iconst 1, 1) := by decide +kernel
theorem dX2_holds_173 : decode cX2_holds 173 = .ok (.goto 4, 3) := by decide +kernel
theorem dX2_holds_176 : decode cX2_holds 176 = .ok (.iconst 0, 1) := by decide +kernel
theorem dX2_holds_177 : decode cX2_holds 177 = .ok (.istore_n 2, 1) := by decide +kernel
theorem dX2_holds_178 : decode cX2_holds 178 = .ok (.iload_n 2, 1) := by decide +kernel
theorem dX2_holds_179 : decode cX2_holds 179 = .ok (.iload_n 1, 1) := by decide +kernel
theorem dX2_holds_180 : decode cX2_holds 180 = .ok (.iconst 1, 1) := by decide +kernel
theorem dX2_holds_181 : decode cX2_holds 181 = .ok (.iand, 1) := by decide +kernel
theorem dX2_holds_182 : decode cX2_holds 182 = .ok (.iconst 1, 1) := by decide +kernel
theorem dX2_holds_183 : decode cX2_holds 183 = .ok (.if_icmp .ne 7, 3) := by decide +kernel
theorem dX2_holds_186 : decode cX2_holds 186 = .ok (.iconst 1, 1) := by decide +kernel
theorem dX2_holds_187 : decode cX2_holds 187 = .ok (.goto 4, 3) := by decide +kernel
theorem dX2_holds_190 : decode cX2_holds 190 = .ok (.iconst 0, 1) := by decide +kernel
theorem dX2_holds_191 : decode cX2_holds 191 = .ok (.if_icmp .eq 7, 3) := by decide +kernel
theorem dX2_holds_194 : decode cX2_holds 194 = .ok (.iconst 1, 1) := by decide +kernel
theorem dX2_holds_195 : decode cX2_holds 195 = .ok (.goto 4, 3) := by decide +kernel
theorem dX2_holds_198 : decode cX2_holds 198 = .ok (.iconst 0, 1) := by decide +kernel
theorem dX2_holds_199 : decode cX2_holds 199 = .ok (.ireturn, 1) := by decide +kernel
theorem dX2_others_0 : decode cX2_others 0 = .ok (.iload_n 1, 1) := by decide +kernel
theorem dX2_others_1 : decode cX2_others 1 = .ok (.tableswitch 301 37 49 #[67, 96, 301, 130, 140, 149, 156, 203, 203, 228, 254, 285, 293], 67) := by decide +kernel
theorem dX2_others_68 : decode cX2_others 68 = .ok (.aload_n 0, 1) := by decide +kernel
theorem dX2_others_69 : decode cX2_others 69 = .ok (.iconst 2, 1) := by decide +kernel
theorem dX2_others_70 : decode cX2_others 70 = .ok (.iload_n 2, 1) := by decide +kernel
theorem dX2_others_71 : decode cX2_others 71 = .ok (.aload_n 0, 1) := by decide +kernel
theorem dX2_others_72 : decode cX2_others 72 = .ok (.getfield 26, 3) := by decide +kernel
theorem dX2_others_75 : decode cX2_others 75 = .ok (.iconst 0, 1) := by decide +kernel
theorem dX2_others_76 : decode cX2_others 76 = .ok (.laload, 1) := by decide +kernel
theorem dX2_others_77 : decode cX2_others 77 = .ok (.iload_n 2, 1) := by decide +kernel
theorem dX2_others_78 : decode cX2_others 78 = .ok (.invokestatic 129, 3) := by decide +kernel
theorem dX2_others_81 : decode cX2_others 81 = .ok (.ifCond .eq 9, 3) := by decide +kernel
theorem dX2_others_84 : decode cX2_others 84 = .ok (.ldc2_w 133, 3) := by decide +kernel
theorem dX2_others_87 : decode cX2_others 87 = .ok (.goto 4, 3) := by decide +kernel
theorem dX2_others_90 : decode cX2_others 90 = .ok (.lconst 0, 1) := by decide +kernel
theorem dX2_others_91 : decode cX2_others 91 = .ok (.invokevirtual 118, 3) := by decide +kernel
theorem dX2_others_94 : decode cX2_others 94 = .ok (.goto 208, 3) := by decide +kernel
theorem dX2_others_97 : decode cX2_others 97 = .ok (.aload_n 0, 1) := by decide +kernel
theorem dX2_others_98 : decode cX2_others 98 = .ok (.iconst 0, 1) := by decide +kernel
theorem dX2_others_99 : decode cX2_others 99 = .ok (.iload_n 2, 1) := by decide +kernel
theorem dX2_others_100 : decode cX2_others 100 = .ok (.iload_n 2, 1) := by decide +kernel
theorem dX2_others_101 : decode cX2_others 101 = .ok (.iconst 4, 1) := by decide +kernel
theorem dX2_others_102 : decode cX2_others 102 = .ok (.if_icmp .ne 15, 3) := by decide +kernel
theorem dX2_others_105 : decode cX2_others 105 = .ok (.aload_n 0, 1) := by decide +kernel
theorem dX2_others_106 : decode cX2_others 106 = .ok (.getfield 26, 3) := by decide +kernel
theorem dX2_others_109 : decode cX2_others 109 = .ok (.iconst 0, 1) := by decide +kernel
theorem dX2_others_110 : decode cX2_others 110 = .ok (.laload, 1) := by decide +kernel
theorem dX2_others_111 : decode cX2_others 111 = .ok (.l2i, 1) := by decide +kernel
theorem dX2_others_112 : decode cX2_others 112 = .ok (.i2s, 1) := by decide +kernel
theorem dX2_others_113 : decode cX2_others 113 = .ok (.i2l, 1) := by decide +kernel
theorem dX2_others_114 : decode cX2_others 114 = .ok (.goto 11, 3) := by decide +kernel
theorem dX2_others_117 : decode cX2_others 117 = .ok (.aload_n 0, 1) := by decide +kernel
theorem dX2_others_118 : decode cX2_others 118 = .ok (.getfield 26, 3) := by decide +kernel
theorem dX2_others_121 : decode cX2_others 121 = .ok (.iconst 0, 1) := by decide +kernel
theorem dX2_others_122 : decode cX2_others 122 = .ok (.laload, 1) := by decide +kernel
theorem dX2_others_123 : decode cX2_others 123 = .ok (.l2i, 1) := by decide +kernel
theorem dX2_others_124 : decode cX2_others 124 = .ok (.i2l, 1) := by decide +kernel
theorem dX2_others_125 : decode cX2_others 125 = .ok (.invokevirtual 118, 3) := by decide +kernel
theorem dX2_others_128 : decode cX2_others 128 = .ok (.goto 174, 3) := by decide +kernel
theorem dX2_others_131 : decode cX2_others 131 = .ok (.aload_n 0, 1) := by decide +kernel
theorem dX2_others_132 : decode cX2_others 132 = .ok (.bipush 6, 2) := by decide +kernel
theorem dX2_others_134 : decode cX2_others 134 = .ok (.lconst 0, 1) := by decide +kernel
theorem dX2_others_135 : decode cX2_others 135 = .ok (.invokevirtual 85, 3) := by decide +kernel
theorem dX2_others_138 : decode cX2_others 138 = .ok (.goto 164, 3) := by decide +kernel
theorem dX2_others_141 : decode cX2_others 141 = .ok (.aload_n 0, 1) := by decide +kernel
theorem dX2_others_142 : decode cX2_others 142 = .ok (.iconst 2, 1) := by decide +kernel
theorem dX2_others_143 : decode cX2_others 143 = .ok (.lconst 0, 1) := by decide +kernel
theorem dX2_others_144 : decode cX2_others 144 = .ok (.invokevirtual 85, 3) := by decide +kernel
theorem dX2_others_147 : decode cX2_others 147 = .ok (.goto 155, 3) := by decide +kernel
theorem dX2_others_150 : decode cX2_others 150 = .ok (.aload_n 0, 1) := by decide +kernel
theorem dX2_others_151 : decode cX2_others 151 = .ok (.invokevirtual 250, 3) := by decide +kernel
theorem dX2_others_154 : decode cX2_others 154 = .ok (.goto 148, 3) := by decide +kernel
theorem dX2_others_157 : decode cX2_others 157 = .ok (.aload_n 0, 1) := by decide +kernel
theorem dX2_others_158 : decode cX2_others 158 = .ok (.aload_n 0, 1) := by decide +kernel
theorem dX2_others_159 : decode cX2_others 159 = .ok (.getfield 26, 3) := by decide +kernel
theorem dX2_others_162 : decode cX2_others 162 = .ok (.iconst 5, 1) := by decide +kernel
theorem dX2_others_163 : decode cX2_others 163 = .ok (.laload, 1) := by decide +kernel
theorem dX2_others_164 : decode cX2_others 164 = .ok (.bipush 8, 2) := by decide +kernel
theorem dX2_others_166 : decode cX2_others 166 = .ok (.invokevirtual 101, 3) := by decide +kernel
theorem dX2_others_169 : decode cX2_others 169 = .ok (.lstore_n 3, 1) := by decide +kernel
theorem dX2_others_170 : decode cX2_others 170 = .ok (.aload_n 0, 1) := by decide +kernel
theorem dX2_others_171 : decode cX2_others 171 = .ok (.getfield 46, 3) := by decide +kernel
theorem dX2_others_174 : decode cX2_others 174 = .ok (.ifCond .eq 4, 3) := by decide +kernel
theorem dX2_others_177 : decode cX2_others 177 = .ok (.return_, 1) := by decide +kernel
theorem dX2_others_178 : decode cX2_others 178 = .ok (.aload_n 0, 1) := by decide +kernel
theorem dX2_others_179 : decode cX2_others 179 = .ok (.getfield 26, 3) := by decide +kernel
theorem dX2_others_182 : decode cX2_others 182 = .ok (.iconst 4, 1) := by decide +kernel
theorem dX2_others_183 : decode cX2_others 183 = .ok (.aload_n 0, 1) := by decide +kernel
theorem dX2_others_184 : decode cX2_others 184 = .ok (.getfield 26, 3) := by decide +kernel
theorem dX2_others_187 : decode cX2_others 187 = .ok (.iconst 5, 1) := by decide +kernel
theorem dX2_others_188 : decode cX2_others 188 = .ok (.laload, 1) := by decide +kernel
theorem dX2_others_189 : decode cX2_others 189 = .ok (.ldc2_w 232, 3) := by decide +kernel
theorem dX2_others_192 : decode cX2_others 192 = .ok (.ladd, 1) := by decide +kernel
theorem dX2_others_193 : decode cX2_others 193 = .ok (.lastore, 1) := by decide +kernel
theorem dX2_others_194 : decode cX2_others 194 = .ok (.aload_n 0, 1) := by decide +kernel
theorem dX2_others_195 : decode cX2_others 195 = .ok (.getfield 26, 3) := by decide +kernel
theorem dX2_others_198 : decode cX2_others 198 = .ok (.iconst 5, 1) := by decide +kernel
theorem dX2_others_199 : decode cX2_others 199 = .ok (.lload_n 3, 1) := by decide +kernel
theorem dX2_others_200 : decode cX2_others 200 = .ok (.lastore, 1) := by decide +kernel
theorem dX2_others_201 : decode cX2_others 201 = .ok (.goto 101, 3) := by decide +kernel
theorem dX2_others_204 : decode cX2_others 204 = .ok (.aload_n 0, 1) := by decide +kernel
theorem dX2_others_205 : decode cX2_others 205 = .ok (.iload_n 1, 1) := by decide +kernel
theorem dX2_others_206 : decode cX2_others 206 = .ok (.bipush 45, 2) := by decide +kernel
theorem dX2_others_208 : decode cX2_others 208 = .ok (.if_icmp .ne 7, 3) := by decide +kernel
theorem dX2_others_211 : decode cX2_others 211 = .ok (.iconst 1, 1) := by decide +kernel
theorem dX2_others_212 : decode cX2_others 212 = .ok (.goto 4, 3) := by decide +kernel
theorem dX2_others_215 : decode cX2_others 215 = .ok (.iconst 0, 1) := by decide +kernel
theorem dX2_others_216 : decode cX2_others 216 = .ok (.iload_n 2, 1) := by decide +kernel
theorem dX2_others_217 : decode cX2_others 217 = .ok (.aload_n 0, 1) := by decide +kernel
theorem dX2_others_218 : decode cX2_others 218 = .ok (.iconst 1, 1) := by decide +kernel
theorem dX2_others_219 : decode cX2_others 219 = .ok (.iload_n 2, 1) := by decide +kernel
theorem dX2_others_220 : decode cX2_others 220 = .ok (.invokevirtual 160, 3) := by decide +kernel
theorem dX2_others_223 : decode cX2_others 223 = .ok (.invokevirtual 253, 3) := by decide +kernel
theorem dX2_others_226 : decode cX2_others 226 = .ok (.goto 76, 3) := by decide +kernel
theorem dX2_others_229 : decode cX2_others 229 = .ok (.aload_n 0, 1) := by decide +kernel
theorem dX2_others_230 : decode cX2_others 230 = .ok (.iconst 0, 1) := by decide +kernel
theorem dX2_others_231 : decode cX2_others 231 = .ok (.iload_n 2, 1) := by decide +kernel
theorem dX2_others_232 : decode cX2_others 232 = .ok (.aload_n 0, 1) := by decide +kernel
theorem dX2_others_233 : decode cX2_others 233 = .ok (.iconst 0, 1) := by decide +kernel
theorem dX2_others_234 : decode cX2_others 234 = .ok (.iload_n 2, 1) := by decide +kernel
theorem dX2_others_235 : decode cX2_others 235 = .ok (.invokevirtual 160, 3) := by decide +kernel
theorem dX2_others_238 : decode cX2_others 238 = .ok (.invokestatic 256, 3) := by decide +kernel
theorem dX2_others_241 : decode cX2_others 241 = .ok (.bipush 64, 2) := by decide +kernel
theorem dX2_others_243 : decode cX2_others 243 = .ok (.bipush 8, 2) := by decide +kernel
theorem dX2_others_245 : decode cX2_others 245 = .ok (.iload_n 2, 1) := by decide +kernel
theorem dX2_others_246 : decode cX2_others 246 = .ok (.imul, 1) := by decide +kernel
theorem dX2_others_247 : decode cX2_others 247 = .ok (.isub, 1) := by decide +kernel
theorem dX2_others_248 : decode cX2_others 248 = .ok (.lushr, 1) := by decide +kernel
theorem dX2_others_249 : decode cX2_others 249 = .ok (.invokevirtual 188, 3) := by decide +kernel
theorem dX2_others_252 : decode cX2_others 252 = .ok (.goto 50, 3) := by decide +kernel
theorem dX2_others_255 : decode cX2_others 255 = .ok (.aload_n 0, 1) := by decide +kernel
theorem dX2_others_256 : decode cX2_others 256 = .ok (.iconst 1, 1) := by decide +kernel
theorem dX2_others_257 : decode cX2_others 257 = .ok (.aload_n 0, 1) := by decide +kernel
theorem dX2_others_258 : decode cX2_others 258 = .ok (.iconst 0, 1) := by decide +kernel
theorem dX2_others_259 : decode cX2_others 259 = .ok (.iload_n 2, 1) := by decide +kernel
theorem dX2_others_260 : decode cX2_others 260 = .ok (.invokevirtual 160, 3) := by decide +kernel
theorem dX2_others_263 : decode cX2_others 263 = .ok (.aload_n 0, 1) := by decide +kernel
theorem dX2_others_264 : decode cX2_others 264 = .ok (.iconst 1, 1) := by decide +kernel
theorem dX2_others_265 : decode cX2_others 265 = .ok (.iload_n 2, 1) := by decide +kernel
theorem dX2_others_266 : decode cX2_others 266 = .ok (.invokevirtual 160, 3) := by decide +kernel
theorem dX2_others_269 : decode cX2_others 269 = .ok (.l2i, 1) := by decide +kernel
theorem dX2_others_270 : decode cX2_others 270 = .ok (.bipush 8, 2) := by decide +kernel
theorem dX2_others_272 : decode cX2_others 272 = .ok (.iload_n 2, 1) := by decide +kernel
theorem dX2_others_273 : decode cX2_others 273 = .ok (.imul, 1) := by decide +kernel
theorem dX2_others_274 : decode cX2_others 274 = .ok (.iconst 1, 1) := by decide +kernel
theorem dX2_others_275 : decode cX2_others 275 = .ok (.isub, 1) := by decide +kernel
theorem dX2_others_276 : decode cX2_others 276 = .ok (.iand, 1) := by decide +kernel
theorem dX2_others_277 : decode cX2_others 277 = .ok (.invokestatic 135, 3) := by decide +kernel
theorem dX2_others_280 : decode cX2_others 280 = .ok (.invokevirtual 125, 3) := by decide +kernel
theorem dX2_others_283 : decode cX2_others 283 = .ok (.goto 19, 3) := by decide +kernel
theorem dX2_others_286 : decode cX2_others 286 = .ok (.aload_n 0, 1) := by decide +kernel
theorem dX2_others_287 : decode cX2_others 287 = .ok (.iload_n 2, 1) := by decide +kernel
theorem dX2_others_288 : decode cX2_others 288 = .ok (.invokevirtual 260, 3) := by decide +kernel
theorem dX2_others_291 : decode cX2_others 291 = .ok (.goto 11, 3) := by decide +kernel
theorem dX2_others_294 : decode cX2_others 294 = .ok (.aload_n 0, 1) := by decide +kernel
theorem dX2_others_295 : decode cX2_others 295 = .ok (.iload_n 2, 1) := by decide +kernel
theorem dX2_others_296 : decode cX2_others 296 = .ok (.invokevirtual 263, 3) := by decide +kernel
theorem dX2_others_299 : decode cX2_others 299 = .ok (.goto 3, 3) := by decide +kernel
theorem dX2_others_302 : decode cX2_others 302 = .ok (.return_, 1) := by decide +kernel
theorem dX2_serve_0 : decode cX2_serve 0 = .ok (.aload_n 0, 1) := by decide +kernel
theorem dX2_serve_1 : decode cX2_serve 1 = .ok (.getfield 26, 3) := by decide +kernel
theorem dX2_serve_4 : decode cX2_serve 4 = .ok (.iconst 1, 1) := by decide +kernel
theorem dX2_serve_5 : decode cX2_serve 5 = .ok (.aload_n 0, 1) := by decide +kernel
theorem dX2_serve_6 : decode cX2_serve 6 = .ok (.getfield 68, 3) := by decide +kernel
theorem dX2_serve_9 : decode cX2_serve 9 = .ok (.lastore, 1) := by decide +kernel
theorem dX2_serve_10 : decode cX2_serve 10 = .ok (.aload_n 0, 1) := by decide +kernel
theorem dX2_serve_11 : decode cX2_serve 11 = .ok (.getfield 26, 3) := by decide +kernel
theorem dX2_serve_14 : decode cX2_serve 14 = .ok (.bipush 11, 2) := by decide +kernel
theorem dX2_serve_16 : decode cX2_serve 16 = .ok (.iconst 2, 1) := by decide +kernel
theorem dX2_serve_17 : decode cX2_serve 17 = .ok (.aload_n 0, 1) := by decide +kernel
theorem dX2_serve_18 : decode cX2_serve 18 = .ok (.getfield 42, 3) := by decide +kernel
theorem dX2_serve_21 : decode cX2_serve 21 = .ok (.iadd, 1) := by decide +kernel
theorem dX2_serve_22 : decode cX2_serve 22 = .ok (.i2l, 1) := by decide +kernel
theorem dX2_serve_23 : decode cX2_serve 23 = .ok (.lastore, 1) := by decide +kernel
theorem dX2_serve_24 : decode cX2_serve 24 = .ok (.aload_n 0, 1) := by decide +kernel
theorem dX2_serve_25 : decode cX2_serve 25 = .ok (.getfield 26, 3) := by decide +kernel
theorem dX2_serve_28 : decode cX2_serve 28 = .ok (.iconst 0, 1) := by decide +kernel
theorem dX2_serve_29 : decode cX2_serve 29 = .ok (.laload, 1) := by decide +kernel
theorem dX2_serve_30 : decode cX2_serve 30 = .ok (.lstore_n 1, 1) := by decide +kernel
theorem dX2_serve_31 : decode cX2_serve 31 = .ok (.lload_n 1, 1) := by decide +kernel
theorem dX2_serve_32 : decode cX2_serve 32 = .ok (.lconst 0, 1) := by decide +kernel
theorem dX2_serve_33 : decode cX2_serve 33 = .ok (.lcmp, 1) := by decide +kernel
theorem dX2_serve_34 : decode cX2_serve 34 = .ok (.ifCond .ne 16, 3) := by decide +kernel
theorem dX2_serve_37 : decode cX2_serve 37 = .ok (.aload_n 0, 1) := by decide +kernel
theorem dX2_serve_38 : decode cX2_serve 38 = .ok (.getfield 26, 3) := by decide +kernel
theorem dX2_serve_41 : decode cX2_serve 41 = .ok (.iconst 0, 1) := by decide +kernel
theorem dX2_serve_42 : decode cX2_serve 42 = .ok (.aload_n 0, 1) := by decide +kernel
theorem dX2_serve_43 : decode cX2_serve 43 = .ok (.invokevirtual 273, 3) := by decide +kernel
theorem dX2_serve_46 : decode cX2_serve 46 = .ok (.lastore, 1) := by decide +kernel
theorem dX2_serve_47 : decode cX2_serve 47 = .ok (.goto 85, 3) := by decide +kernel
theorem dX2_serve_50 : decode cX2_serve 50 = .ok (.lload_n 1, 1) := by decide +kernel
theorem dX2_serve_51 : decode cX2_serve 51 = .ok (.lconst 1, 1) := by decide +kernel
theorem dX2_serve_52 : decode cX2_serve 52 = .ok (.lcmp, 1) := by decide +kernel
theorem dX2_serve_53 : decode cX2_serve 53 = .ok (.ifCond .ne 16, 3) := by decide +kernel
theorem dX2_serve_56 : decode cX2_serve 56 = .ok (.aload_n 0, 1) := by decide +kernel
theorem dX2_serve_57 : decode cX2_serve 57 = .ok (.getfield 26, 3) := by decide +kernel
theorem dX2_serve_60 : decode cX2_serve 60 = .ok (.iconst 0, 1) := by decide +kernel
theorem dX2_serve_61 : decode cX2_serve 61 = .ok (.aload_n 0, 1) := by decide +kernel
theorem dX2_serve_62 : decode cX2_serve 62 = .ok (.invokevirtual 276, 3) := by decide +kernel
theorem dX2_serve_65 : decode cX2_serve 65 = .ok (.lastore, 1) := by decide +kernel
theorem dX2_serve_66 : decode cX2_serve 66 = .ok (.goto 66, 3) := by decide +kernel
theorem dX2_serve_69 : decode cX2_serve 69 = .ok (.lload_n 1, 1) := by decide +kernel
theorem dX2_serve_70 : decode cX2_serve 70 = .ok (.ldc2_w 279, 3) := by decide +kernel
theorem dX2_serve_73 : decode cX2_serve 73 = .ok (.lcmp, 1) := by decide +kernel
theorem dX2_serve_74 : decode cX2_serve 74 = .ok (.ifCond .ne 26, 3) := by decide +kernel
theorem dX2_serve_77 : decode cX2_serve 77 = .ok (.aload_n 0, 1) := by decide +kernel
theorem dX2_serve_78 : decode cX2_serve 78 = .ok (.getfield 26, 3) := by decide +kernel
theorem dX2_serve_81 : decode cX2_serve 81 = .ok (.iconst 0, 1) := by decide +kernel
theorem dX2_serve_82 : decode cX2_serve 82 = .ok (.aload_n 0, 1) := by decide +kernel
theorem dX2_serve_83 : decode cX2_serve 83 = .ok (.getfield 30, 3) := by decide +kernel
theorem dX2_serve_86 : decode cX2_serve 86 = .ok (.aload_n 0, 1) := by decide +kernel
theorem dX2_serve_87 : decode cX2_serve 87 = .ok (.getfield 26, 3) := by decide +kernel
theorem dX2_serve_90 : decode cX2_serve 90 = .ok (.bipush 7, 2) := by decide +kernel
theorem dX2_serve_92 : decode cX2_serve 92 = .ok (.laload, 1) := by decide +kernel
theorem dX2_serve_93 : decode cX2_serve 93 = .ok (.invokevirtual 281, 3) := by decide +kernel
theorem dX2_serve_96 : decode cX2_serve 96 = .ok (.lastore, 1) := by decide +kernel
theorem dX2_serve_97 : decode cX2_serve 97 = .ok (.goto 35, 3) := by decide +kernel
theorem dX2_serve_100 : decode cX2_serve 100 = .ok (.lload_n 1, 1) := by decide +kernel
theorem dX2_serve_101 : decode cX2_serve 101 = .ok (.ldc2_w 284, 3) := by decide +kernel
theorem dX2_serve_104 : decode cX2_serve 104 = .ok (.lcmp, 1) := by decide +kernel
theorem dX2_serve_105 : decode cX2_serve 105 = .ok (.ifCond .ne 18, 3) := by decide +kernel
theorem dX2_serve_108 : decode cX2_serve 108 = .ok (.aload_n 0, 1) := by decide +kernel
theorem dX2_serve_109 : decode cX2_serve 109 = .ok (.iconst 1, 1) := by decide +kernel
theorem dX2_serve_110 : decode cX2_serve 110 = .ok (.aload_n 0, 1) := by decide +kernel
theorem dX2_serve_111 : decode cX2_serve 111 = .ok (.getfield 26, 3) := by decide +kernel
theorem dX2_serve_114 : decode cX2_serve 114 = .ok (.bipush 7, 2) := by decide +kernel
theorem dX2_serve_116 : decode cX2_serve 116 = .ok (.laload, 1) := by decide +kernel
theorem dX2_serve_117 : decode cX2_serve 117 = .ok (.invokevirtual 85, 3) := by decide +kernel
theorem dX2_serve_120 : decode cX2_serve 120 = .ok (.goto 12, 3) := by decide +kernel
theorem dX2_serve_123 : decode cX2_serve 123 = .ok (.aload_n 0, 1) := by decide +kernel
theorem dX2_serve_124 : decode cX2_serve 124 = .ok (.getfield 26, 3) := by decide +kernel
theorem dX2_serve_127 : decode cX2_serve 127 = .ok (.iconst 0, 1) := by decide +kernel
theorem dX2_serve_128 : decode cX2_serve 128 = .ok (.ldc2_w 286, 3) := by decide +kernel
theorem dX2_serve_131 : decode cX2_serve 131 = .ok (.lastore, 1) := by decide +kernel
theorem dX2_serve_132 : decode cX2_serve 132 = .ok (.return_, 1) := by decide +kernel
theorem dX2_readInput_0 : decode cX2_readInput 0 = .ok (.aload_n 0, 1) := by decide +kernel
theorem dX2_readInput_1 : decode cX2_readInput 1 = .ok (.getfield 26, 3) := by decide +kernel
theorem dX2_readInput_4 : decode cX2_readInput 4 = .ok (.iconst 2, 1) := by decide +kernel
theorem dX2_readInput_5 : decode cX2_readInput 5 = .ok (.laload, 1) := by decide +kernel
theorem dX2_readInput_6 : decode cX2_readInput 6 = .ok (.aload_n 0, 1) := by decide +kernel
theorem dX2_readInput_7 : decode cX2_readInput 7 = .ok (.getfield 10, 3) := by decide +kernel
theorem dX2_readInput_10 : decode cX2_readInput 10 = .ok (.getfield 55, 3) := by decide +kernel
theorem dX2_readInput_13 : decode cX2_readInput 13 = .ok (.i2l, 1) := by decide +kernel
theorem dX2_readInput_14 : decode cX2_readInput 14 = .ok (.invokestatic 228, 3) := by decide +kernel
theorem dX2_readInput_17 : decode cX2_readInput 17 = .ok (.ifCond .ge 13, 3) := by decide +kernel
theorem dX2_readInput_20 : decode cX2_readInput 20 = .ok (.aload_n 0, 1) := by decide +kernel
theorem dX2_readInput_21 : decode cX2_readInput 21 = .ok (.getfield 26, 3) := by decide +kernel
theorem dX2_readInput_24 : decode cX2_readInput 24 = .ok (.iconst 2, 1) := by decide +kernel
theorem dX2_readInput_25 : decode cX2_readInput 25 = .ok (.laload, 1) := by decide +kernel
theorem dX2_readInput_26 : decode cX2_readInput 26 = .ok (.l2i, 1) := by decide +kernel
theorem dX2_readInput_27 : decode cX2_readInput 27 = .ok (.goto 10, 3) := by decide +kernel
theorem dX2_readInput_30 : decode cX2_readInput 30 = .ok (.aload_n 0, 1) := by decide +kernel
theorem dX2_readInput_31 : decode cX2_readInput 31 = .ok (.getfield 10, 3) := by decide +kernel
theorem dX2_readInput_34 : decode cX2_readInput 34 = .ok (.getfield 55, 3) := by decide +kernel
theorem dX2_readInput_37 : decode cX2_readInput 37 = .ok (.istore_n 1, 1) := by decide +kernel
theorem dX2_readInput_38 : decode cX2_readInput 38 = .ok (.aload_n 0, 1) := by decide +kernel
theorem dX2_readInput_39 : decode cX2_readInput 39 = .ok (.aload_n 0, 1) := by decide +kernel
theorem dX2_readInput_40 : decode cX2_readInput 40 = .ok (.getfield 26, 3) := by decide +kernel
theorem dX2_readInput_43 : decode cX2_readInput 43 = .ok (.bipush 6, 2) := by decide +kernel
theorem dX2_readInput_45 : decode cX2_readInput 45 = .ok (.laload, 1) := by decide +kernel
theorem dX2_readInput_46 : decode cX2_readInput 46 = .ok (.iload_n 1, 1) := by decide +kernel
theorem dX2_readInput_47 : decode cX2_readInput 47 = .ok (.i2l, 1) := by decide +kernel
theorem dX2_readInput_48 : decode cX2_readInput 48 = .ok (.iconst 1, 1) := by decide +kernel
theorem dX2_readInput_49 : decode cX2_readInput 49 = .ok (.invokevirtual 292, 3) := by decide +kernel
theorem dX2_readInput_52 : decode cX2_readInput 52 = .ok (.ifCond .ne 7, 3) := by decide +kernel
theorem dX2_readInput_55 : decode cX2_readInput 55 = .ok (.ldc2_w 296, 3) := by decide +kernel
theorem dX2_readInput_58 : decode cX2_readInput 58 = .ok (.lreturn, 1) := by decide +kernel
theorem dX2_readInput_59 : decode cX2_readInput 59 = .ok (.iconst 0, 1) := by decide +kernel
theorem dX2_readInput_60 : decode cX2_readInput 60 = .ok (.istore_n 2, 1) := by decide +kernel
theorem dX2_readInput_61 : decode cX2_readInput 61 = .ok (.iload_n 2, 1) := by decide +kernel
theorem dX2_readInput_62 : decode cX2_readInput 62 = .ok (.iload_n 1, 1) := by decide +kernel
theorem dX2_readInput_63 : decode cX2_readInput 63 = .ok (.if_icmp .ge 44, 3) := by decide +kernel
theorem dX2_readInput_66 : decode cX2_readInput 66 = .ok (.aload_n 0, 1) := by decide +kernel
theorem dX2_readInput_67 : decode cX2_readInput 67 = .ok (.getfield 30, 3) := by decide +kernel
theorem dX2_readInput_70 : decode cX2_readInput 70 = .ok (.getfield 298, 3) := by decide +kernel
theorem dX2_readInput_73 : decode cX2_readInput 73 = .ok (.aload_n 0, 1) := by decide +kernel
theorem dX2_readInput_74 : decode cX2_readInput 74 = .ok (.getfield 30, 3) := by decide +kernel
theorem dX2_readInput_77 : decode cX2_readInput 77 = .ok (.aload_n 0, 1) := by decide +kernel
theorem dX2_readInput_78 : decode cX2_readInput 78 = .ok (.getfield 26, 3) := by decide +kernel
theorem dX2_readInput_81 : decode cX2_readInput 81 = .ok (.bipush 6, 2) := by decide +kernel
theorem dX2_readInput_83 : decode cX2_readInput 83 = .ok (.laload, 1) := by decide +kernel
theorem dX2_readInput_84 : decode cX2_readInput 84 = .ok (.iload_n 2, 1) := by decide +kernel
theorem dX2_readInput_85 : decode cX2_readInput 85 = .ok (.i2l, 1) := by decide +kernel
theorem dX2_readInput_86 : decode cX2_readInput 86 = .ok (.ladd, 1) := by decide +kernel
theorem dX2_readInput_87 : decode cX2_readInput 87 = .ok (.iconst 1, 1) := by decide +kernel
theorem dX2_readInput_88 : decode cX2_readInput 88 = .ok (.invokevirtual 288, 3) := by decide +kernel
theorem dX2_readInput_91 : decode cX2_readInput 91 = .ok (.aload_n 0, 1) := by decide +kernel
theorem dX2_readInput_92 : decode cX2_readInput 92 = .ok (.getfield 10, 3) := by decide +kernel
theorem dX2_readInput_95 : decode cX2_readInput 95 = .ok (.getfield 302, 3) := by decide +kernel
theorem dX2_readInput_98 : decode cX2_readInput 98 = .ok (.iload_n 2, 1) := by decide +kernel
theorem dX2_readInput_99 : decode cX2_readInput 99 = .ok (.baload, 1) := by decide +kernel
theorem dX2_readInput_100 : decode cX2_readInput 100 = .ok (.bastore, 1) := by decide +kernel
theorem dX2_readInput_101 : decode cX2_readInput 101 = .ok (.iinc 2 1, 3) := by decide +kernel
theorem dX2_readInput_104 : decode cX2_readInput 104 = .ok (.goto (-43), 3) := by decide +kernel
theorem dX2_readInput_107 : decode cX2_readInput 107 = .ok (.aload_n 0, 1) := by decide +kernel
theorem dX2_readInput_108 : decode cX2_readInput 108 = .ok (.getfield 10, 3) := by decide +kernel
theorem dX2_readInput_111 : decode cX2_readInput 111 = .ok (.iload_n 1, 1) := by decide +kernel
theorem dX2_readInput_112 : decode cX2_readInput 112 = .ok (.invokevirtual 303, 3) := by decide +kernel
theorem dX2_readInput_115 : decode cX2_readInput 115 = .ok (.iload_n 1, 1) := by decide +kernel
theorem dX2_readInput_116 : decode cX2_readInput 116 = .ok (.i2l, 1) := by decide +kernel
theorem dX2_readInput_117 : decode cX2_readInput 117 = .ok (.lreturn, 1) := by decide +kernel
theorem dX2_all_0 : decode cX2_all 0 = .ok (.iconst 1, 1) := by decide +kernel
theorem dX2_all_1 : decode cX2_all 1 = .ok (.istore 6, 2) := by decide +kernel
theorem dX2_all_3 : decode cX2_all 3 = .ok (.lconst 0, 1) := by decide +kernel
theorem dX2_all_4 : decode cX2_all 4 = .ok (.lstore 7, 2) := by decide +kernel
theorem dX2_all_6 : decode cX2_all 6 = .ok (.lload 7, 2) := by decide +kernel
theorem dX2_all_8 : decode cX2_all 8 = .ok (.lload_n 3, 1) := by decide +kernel
theorem dX2_all_9 : decode cX2_all 9 = .ok (.lcmp, 1) := by decide +kernel
theorem dX2_all_10 : decode cX2_all 10 = .ok (.ifCond .ge 40, 3) := by decide +kernel
theorem dX2_all_13 : decode cX2_all 13 = .ok (.iload 6, 2) := by decide +kernel
theorem dX2_all_15 : decode cX2_all 15 = .ok (.ifCond .eq 35, 3) := by decide +kernel
theorem dX2_all_18 : decode cX2_all 18 = .ok (.aload_n 0, 1) := by decide +kernel
theorem dX2_all_19 : decode cX2_all 19 = .ok (.getfield 30, 3) := by decide +kernel
theorem dX2_all_22 : decode cX2_all 22 = .ok (.lload_n 1, 1) := by decide +kernel
theorem dX2_all_23 : decode cX2_all 23 = .ok (.lload 7, 2) := by decide +kernel
theorem dX2_all_25 : decode cX2_all 25 = .ok (.ladd, 1) := by decide +kernel
theorem dX2_all_26 : decode cX2_all 26 = .ok (.iload 5, 2) := by decide +kernel
theorem dX2_all_28 : decode cX2_all 28 = .ok (.invokevirtual 288, 3) := by decide +kernel
theorem dX2_all_31 : decode cX2_all 31 = .ok (.ifCond .lt 7, 3) := by decide +kernel
theorem dX2_all_34 : decode cX2_all 34 = .ok (.iconst 1, 1) := by decide +kernel
theorem dX2_all_35 : decode cX2_all 35 = .ok (.goto 4, 3) := by decide +kernel
theorem dX2_all_38 : decode cX2_all 38 = .ok (.iconst 0, 1) := by decide +kernel
theorem dX2_all_39 : decode cX2_all 39 = .ok (.istore 6, 2) := by decide +kernel
theorem dX2_all_41 : decode cX2_all 41 = .ok (.lload 7, 2) := by decide +kernel
theorem dX2_all_43 : decode cX2_all 43 = .ok (.lconst 1, 1) := by decide +kernel
theorem dX2_all_44 : decode cX2_all 44 = .ok (.ladd, 1) := by decide +kernel
theorem dX2_all_45 : decode cX2_all 45 = .ok (.lstore 7, 2) := by decide +kernel
theorem dX2_all_47 : decode cX2_all 47 = .ok (.goto (-41), 3) := by decide +kernel
theorem dX2_all_50 : decode cX2_all 50 = .ok (.iload 6, 2) := by decide +kernel
theorem dX2_all_52 : decode cX2_all 52 = .ok (.ireturn, 1) := by decide +kernel
theorem dX2_writeOutput_0 : decode cX2_writeOutput 0 = .ok (.aload_n 0, 1) := by decide +kernel
theorem dX2_writeOutput_1 : decode cX2_writeOutput 1 = .ok (.getfield 26, 3) := by decide +kernel
theorem dX2_writeOutput_4 : decode cX2_writeOutput 4 = .ok (.iconst 2, 1) := by decide +kernel
theorem dX2_writeOutput_5 : decode cX2_writeOutput 5 = .ok (.laload, 1) := by decide +kernel
theorem dX2_writeOutput_6 : decode cX2_writeOutput 6 = .ok (.lstore_n 1, 1) := by decide +kernel
theorem dX2_writeOutput_7 : decode cX2_writeOutput 7 = .ok (.lload_n 1, 1) := by decide +kernel
theorem dX2_writeOutput_8 : decode cX2_writeOutput 8 = .ok (.ldc_w 306, 3) := by decide +kernel
theorem dX2_writeOutput_11 : decode cX2_writeOutput 11 = .ok (.aload_n 0, 1) := by decide +kernel
theorem dX2_writeOutput_12 : decode cX2_writeOutput 12 = .ok (.getfield 16, 3) := by decide +kernel
theorem dX2_writeOutput_15 : decode cX2_writeOutput 15 = .ok (.getfield 55, 3) := by decide +kernel
theorem dX2_writeOutput_18 : decode cX2_writeOutput 18 = .ok (.isub, 1) := by decide +kernel
theorem dX2_writeOutput_19 : decode cX2_writeOutput 19 = .ok (.i2l, 1) := by decide +kernel
theorem dX2_writeOutput_20 : decode cX2_writeOutput 20 = .ok (.invokestatic 228, 3) := by decide +kernel
theorem dX2_writeOutput_23 : decode cX2_writeOutput 23 = .ok (.ifCond .le 7, 3) := by decide +kernel
theorem dX2_writeOutput_26 : decode cX2_writeOutput 26 = .ok (.ldc2_w 307, 3) := by decide +kernel
theorem dX2_writeOutput_29 : decode cX2_writeOutput 29 = .ok (.lreturn, 1) := by decide +kernel
theorem dX2_writeOutput_30 : decode cX2_writeOutput 30 = .ok (.aload_n 0, 1) := by decide +kernel
theorem dX2_writeOutput_31 : decode cX2_writeOutput 31 = .ok (.aload_n 0, 1) := by decide +kernel
theorem dX2_writeOutput_32 : decode cX2_writeOutput 32 = .ok (.getfield 26, 3) := by decide +kernel
theorem dX2_writeOutput_35 : decode cX2_writeOutput 35 = .ok (.bipush 6, 2) := by decide +kernel
theorem dX2_writeOutput_37 : decode cX2_writeOutput 37 = .ok (.laload, 1) := by decide +kernel
theorem dX2_writeOutput_38 : decode cX2_writeOutput 38 = .ok (.lload_n 1, 1) := by decide +kernel
theorem dX2_writeOutput_39 : decode cX2_writeOutput 39 = .ok (.iconst 0, 1) := by decide +kernel
theorem dX2_writeOutput_40 : decode cX2_writeOutput 40 = .ok (.invokevirtual 292, 3) := by decide +kernel
theorem dX2_writeOutput_43 : decode cX2_writeOutput 43 = .ok (.ifCond .ne 7, 3) := by decide +kernel
theorem dX2_writeOutput_46 : decode cX2_writeOutput 46 = .ok (.ldc2_w 296, 3) := by decide +kernel
theorem dX2_writeOutput_49 : decode cX2_writeOutput 49 = .ok (.lreturn, 1) := by decide +kernel
theorem dX2_writeOutput_50 : decode cX2_writeOutput 50 = .ok (.lconst 0, 1) := by decide +kernel
theorem dX2_writeOutput_51 : decode cX2_writeOutput 51 = .ok (.lstore_n 3, 1) := by decide +kernel
theorem dX2_writeOutput_52 : decode cX2_writeOutput 52 = .ok (.lload_n 3, 1) := by decide +kernel
theorem dX2_writeOutput_53 : decode cX2_writeOutput 53 = .ok (.lload_n 1, 1) := by decide +kernel
theorem dX2_writeOutput_54 : decode cX2_writeOutput 54 = .ok (.lcmp, 1) := by decide +kernel
theorem dX2_writeOutput_55 : decode cX2_writeOutput 55 = .ok (.ifCond .ge 42, 3) := by decide +kernel
theorem dX2_writeOutput_58 : decode cX2_writeOutput 58 = .ok (.aload_n 0, 1) := by decide +kernel
theorem dX2_writeOutput_59 : decode cX2_writeOutput 59 = .ok (.getfield 16, 3) := by decide +kernel
theorem dX2_writeOutput_62 : decode cX2_writeOutput 62 = .ok (.aload_n 0, 1) := by decide +kernel
theorem dX2_writeOutput_63 : decode cX2_writeOutput 63 = .ok (.getfield 30, 3) := by decide +kernel
theorem dX2_writeOutput_66 : decode cX2_writeOutput 66 = .ok (.getfield 298, 3) := by decide +kernel
theorem dX2_writeOutput_69 : decode cX2_writeOutput 69 = .ok (.aload_n 0, 1) := by decide +kernel
theorem dX2_writeOutput_70 : decode cX2_writeOutput 70 = .ok (.getfield 30, 3) := by decide +kernel
theorem dX2_writeOutput_73 : decode cX2_writeOutput 73 = .ok (.aload_n 0, 1) := by decide +kernel
theorem dX2_writeOutput_74 : decode cX2_writeOutput 74 = .ok (.getfield 26, 3) := by decide +kernel
theorem dX2_writeOutput_77 : decode cX2_writeOutput 77 = .ok (.bipush 6, 2) := by decide +kernel
theorem dX2_writeOutput_79 : decode cX2_writeOutput 79 = .ok (.laload, 1) := by decide +kernel
theorem dX2_writeOutput_80 : decode cX2_writeOutput 80 = .ok (.lload_n 3, 1) := by decide +kernel
theorem dX2_writeOutput_81 : decode cX2_writeOutput 81 = .ok (.ladd, 1) := by decide +kernel
theorem dX2_writeOutput_82 : decode cX2_writeOutput 82 = .ok (.iconst 0, 1) := by decide +kernel
theorem dX2_writeOutput_83 : decode cX2_writeOutput 83 = .ok (.invokevirtual 288, 3) := by decide +kernel
theorem dX2_writeOutput_86 : decode cX2_writeOutput 86 = .ok (.baload, 1) := by decide +kernel
theorem dX2_writeOutput_87 : decode cX2_writeOutput 87 = .ok (.invokevirtual 309, 3) := by decide +kernel
theorem dX2_writeOutput_90 : decode cX2_writeOutput 90 = .ok (.lload_n 3, 1) := by decide +kernel
theorem dX2_writeOutput_91 : decode cX2_writeOutput 91 = .ok (.lconst 1, 1) := by decide +kernel
theorem dX2_writeOutput_92 : decode cX2_writeOutput 92 = .ok (.ladd, 1) := by decide +kernel
theorem dX2_writeOutput_93 : decode cX2_writeOutput 93 = .ok (.lstore_n 3, 1) := by decide +kernel
theorem dX2_writeOutput_94 : decode cX2_writeOutput 94 = .ok (.goto (-42), 3) := by decide +kernel
theorem dX2_writeOutput_97 : decode cX2_writeOutput 97 = .ok (.lload_n 1, 1) := by decide +kernel
theorem dX2_writeOutput_98 : decode cX2_writeOutput 98 = .ok (.lreturn, 1) := by decide +kernel
theorem dX2_scan_0 : decode cX2_scan 0 = .ok (.aload_n 0, 1) := by decide +kernel
theorem dX2_scan_1 : decode cX2_scan 1 = .ok (.getfield 46, 3) := by decide +kernel
theorem dX2_scan_4 : decode cX2_scan 4 = .ok (.ifCond .eq 4, 3) := by decide +kernel
theorem dX2_scan_7 : decode cX2_scan 7 = .ok (.return_, 1) := by decide +kernel
theorem dX2_scan_8 : decode cX2_scan 8 = .ok (.aload_n 0, 1) := by decide +kernel
theorem dX2_scan_9 : decode cX2_scan 9 = .ok (.bipush 64, 2) := by decide +kernel
theorem dX2_scan_11 : decode cX2_scan 11 = .ok (.lload_n 3, 1) := by decide +kernel
theorem dX2_scan_12 : decode cX2_scan 12 = .ok (.lconst 0, 1) := by decide +kernel
theorem dX2_scan_13 : decode cX2_scan 13 = .ok (.lcmp, 1) := by decide +kernel
theorem dX2_scan_14 : decode cX2_scan 14 = .ok (.ifCond .ne 7, 3) := by decide +kernel
theorem dX2_scan_17 : decode cX2_scan 17 = .ok (.iconst 1, 1) := by decide +kernel
theorem dX2_scan_18 : decode cX2_scan 18 = .ok (.goto 4, 3) := by decide +kernel
theorem dX2_scan_21 : decode cX2_scan 21 = .ok (.iconst 0, 1) := by decide +kernel
theorem dX2_scan_22 : decode cX2_scan 22 = .ok (.invokevirtual 125, 3) := by decide +kernel
theorem dX2_scan_25 : decode cX2_scan 25 = .ok (.lload_n 3, 1) := by decide +kernel
theorem dX2_scan_26 : decode cX2_scan 26 = .ok (.lconst 0, 1) := by decide +kernel
theorem dX2_scan_27 : decode cX2_scan 27 = .ok (.lcmp, 1) := by decide +kernel
theorem dX2_scan_28 : decode cX2_scan 28 = .ok (.ifCond .eq 29, 3) := by decide +kernel
theorem dX2_scan_31 : decode cX2_scan 31 = .ok (.aload_n 0, 1) := by decide +kernel
theorem dX2_scan_32 : decode cX2_scan 32 = .ok (.iconst 0, 1) := by decide +kernel
theorem dX2_scan_33 : decode cX2_scan 33 = .ok (.iload_n 2, 1) := by decide +kernel
theorem dX2_scan_34 : decode cX2_scan 34 = .ok (.iload_n 1, 1) := by decide +kernel
theorem dX2_scan_35 : decode cX2_scan 35 = .ok (.ifCond .eq 14, 3) := by decide +kernel
theorem dX2_scan_38 : decode cX2_scan 38 = .ok (.bipush 63, 2) := by decide +kernel
theorem dX2_scan_40 : decode cX2_scan 40 = .ok (.lload_n 3, 1) := by decide +kernel
theorem dX2_scan_41 : decode cX2_scan 41 = .ok (.invokestatic 266, 3) := by decide +kernel
theorem dX2_scan_44 : decode cX2_scan 44 = .ok (.isub, 1) := by decide +kernel
theorem dX2_scan_45 : decode cX2_scan 45 = .ok (.i2l, 1) := by decide +kernel
theorem dX2_scan_46 : decode cX2_scan 46 = .ok (.goto 8, 3) := by decide +kernel
theorem dX2_scan_49 : decode cX2_scan 49 = .ok (.lload_n 3, 1) := by decide +kernel
theorem dX2_scan_50 : decode cX2_scan 50 = .ok (.invokestatic 270, 3) := by decide +kernel
theorem dX2_scan_53 : decode cX2_scan 53 = .ok (.i2l, 1) := by decide +kernel
theorem dX2_scan_54 : decode cX2_scan 54 = .ok (.invokevirtual 188, 3) := by decide +kernel
theorem dX2_scan_57 : decode cX2_scan 57 = .ok (.return_, 1) := by decide +kernel
theorem dX2_exchangeAdd_0 : decode cX2_exchangeAdd 0 = .ok (.aload_n 0, 1) := by decide +kernel
theorem dX2_exchangeAdd_1 : decode cX2_exchangeAdd 1 = .ok (.iconst 0, 1) := by decide +kernel
theorem dX2_exchangeAdd_2 : decode cX2_exchangeAdd 2 = .ok (.iload_n 1, 1) := by decide +kernel
theorem dX2_exchangeAdd_3 : decode cX2_exchangeAdd 3 = .ok (.invokevirtual 160, 3) := by decide +kernel
theorem dX2_exchangeAdd_6 : decode cX2_exchangeAdd 6 = .ok (.lstore_n 2, 1) := by decide +kernel
theorem dX2_exchangeAdd_7 : decode cX2_exchangeAdd 7 = .ok (.aload_n 0, 1) := by decide +kernel
theorem dX2_exchangeAdd_8 : decode cX2_exchangeAdd 8 = .ok (.iconst 1, 1) := by decide +kernel
theorem dX2_exchangeAdd_9 : decode cX2_exchangeAdd 9 = .ok (.iload_n 1, 1) := by decide +kernel
theorem dX2_exchangeAdd_10 : decode cX2_exchangeAdd 10 = .ok (.invokevirtual 160, 3) := by decide +kernel
theorem dX2_exchangeAdd_13 : decode cX2_exchangeAdd 13 = .ok (.lstore 4, 2) := by decide +kernel
theorem dX2_exchangeAdd_15 : decode cX2_exchangeAdd 15 = .ok (.aload_n 0, 1) := by decide +kernel
theorem dX2_exchangeAdd_16 : decode cX2_exchangeAdd 16 = .ok (.lload_n 2, 1) := by decide +kernel
theorem dX2_exchangeAdd_17 : decode cX2_exchangeAdd 17 = .ok (.lload 4, 2) := by decide +kernel
theorem dX2_exchangeAdd_19 : decode cX2_exchangeAdd 19 = .ok (.iconst 0, 1) := by decide +kernel
theorem dX2_exchangeAdd_20 : decode cX2_exchangeAdd 20 = .ok (.iload_n 1, 1) := by decide +kernel
theorem dX2_exchangeAdd_21 : decode cX2_exchangeAdd 21 = .ok (.invokevirtual 177, 3) := by decide +kernel
theorem dX2_exchangeAdd_24 : decode cX2_exchangeAdd 24 = .ok (.lstore 6, 2) := by decide +kernel
theorem dX2_exchangeAdd_26 : decode cX2_exchangeAdd 26 = .ok (.aload_n 0, 1) := by decide +kernel
theorem dX2_exchangeAdd_27 : decode cX2_exchangeAdd 27 = .ok (.getfield 22, 3) := by decide +kernel
theorem dX2_exchangeAdd_30 : decode cX2_exchangeAdd 30 = .ok (.getfield 93, 3) := by decide +kernel
theorem dX2_exchangeAdd_33 : decode cX2_exchangeAdd 33 = .ok (.iconst 0, 1) := by decide +kernel
theorem dX2_exchangeAdd_34 : decode cX2_exchangeAdd 34 = .ok (.iaload, 1) := by decide +kernel
theorem dX2_exchangeAdd_35 : decode cX2_exchangeAdd 35 = .ok (.iconst 2, 1) := by decide +kernel
theorem dX2_exchangeAdd_36 : decode cX2_exchangeAdd 36 = .ok (.if_icmp .ne 7, 3) := by decide +kernel
theorem dX2_exchangeAdd_39 : decode cX2_exchangeAdd 39 = .ok (.iconst 1, 1) := by decide +kernel
theorem dX2_exchangeAdd_40 : decode cX2_exchangeAdd 40 = .ok (.goto 4, 3) := by decide +kernel
theorem dX2_exchangeAdd_43 : decode cX2_exchangeAdd 43 = .ok (.iconst 0, 1) := by decide +kernel
theorem dX2_exchangeAdd_44 : decode cX2_exchangeAdd 44 = .ok (.istore 8, 2) := by decide +kernel
theorem dX2_exchangeAdd_46 : decode cX2_exchangeAdd 46 = .ok (.aload_n 0, 1) := by decide +kernel
theorem dX2_exchangeAdd_47 : decode cX2_exchangeAdd 47 = .ok (.iload 8, 2) := by decide +kernel
theorem dX2_exchangeAdd_49 : decode cX2_exchangeAdd 49 = .ok (.ifCond .eq 7, 3) := by decide +kernel
theorem dX2_exchangeAdd_52 : decode cX2_exchangeAdd 52 = .ok (.iconst 0, 1) := by decide +kernel
theorem dX2_exchangeAdd_53 : decode cX2_exchangeAdd 53 = .ok (.goto 4, 3) := by decide +kernel
theorem dX2_exchangeAdd_56 : decode cX2_exchangeAdd 56 = .ok (.iconst 1, 1) := by decide +kernel
theorem dX2_exchangeAdd_57 : decode cX2_exchangeAdd 57 = .ok (.iload_n 1, 1) := by decide +kernel
theorem dX2_exchangeAdd_58 : decode cX2_exchangeAdd 58 = .ok (.iload 8, 2) := by decide +kernel
theorem dX2_exchangeAdd_60 : decode cX2_exchangeAdd 60 = .ok (.ifCond .eq 8, 3) := by decide +kernel
theorem dX2_exchangeAdd_63 : decode cX2_exchangeAdd 63 = .ok (.lload 6, 2) := by decide +kernel
theorem dX2_exchangeAdd_65 : decode cX2_exchangeAdd 65 = .ok (.goto 4, 3) := by decide +kernel
theorem dX2_exchangeAdd_68 : decode cX2_exchangeAdd 68 = .ok (.lload_n 2, 1) := by decide +kernel
theorem dX2_exchangeAdd_69 : decode cX2_exchangeAdd 69 = .ok (.invokevirtual 188, 3) := by decide +kernel
theorem dX2_exchangeAdd_72 : decode cX2_exchangeAdd 72 = .ok (.aload_n 0, 1) := by decide +kernel
theorem dX2_exchangeAdd_73 : decode cX2_exchangeAdd 73 = .ok (.iload 8, 2) := by decide +kernel
theorem dX2_exchangeAdd_75 : decode cX2_exchangeAdd 75 = .ok (.ifCond .eq 7, 3) := by decide +kernel
theorem dX2_exchangeAdd_78 : decode cX2_exchangeAdd 78 = .ok (.iconst 1, 1) := by decide +kernel
theorem dX2_exchangeAdd_79 : decode cX2_exchangeAdd 79 = .ok (.goto 4, 3) := by decide +kernel
theorem dX2_exchangeAdd_82 : decode cX2_exchangeAdd 82 = .ok (.iconst 0, 1) := by decide +kernel
theorem dX2_exchangeAdd_83 : decode cX2_exchangeAdd 83 = .ok (.iload_n 1, 1) := by decide +kernel
theorem dX2_exchangeAdd_84 : decode cX2_exchangeAdd 84 = .ok (.iload 8, 2) := by decide +kernel
theorem dX2_exchangeAdd_86 : decode cX2_exchangeAdd 86 = .ok (.ifCond .eq 7, 3) := by decide +kernel
theorem dX2_exchangeAdd_89 : decode cX2_exchangeAdd 89 = .ok (.lload_n 2, 1) := by decide +kernel
theorem dX2_exchangeAdd_90 : decode cX2_exchangeAdd 90 = .ok (.goto 5, 3) := by decide +kernel
theorem dX2_exchangeAdd_93 : decode cX2_exchangeAdd 93 = .ok (.lload 6, 2) := by decide +kernel
theorem dX2_exchangeAdd_95 : decode cX2_exchangeAdd 95 = .ok (.invokevirtual 188, 3) := by decide +kernel
theorem dX2_exchangeAdd_98 : decode cX2_exchangeAdd 98 = .ok (.return_, 1) := by decide +kernel
theorem dX2_compareExchange_0 : decode cX2_compareExchange 0 = .ok (.aload_n 0, 1) := by decide +kernel
theorem dX2_compareExchange_1 : decode cX2_compareExchange 1 = .ok (.iconst 0, 1) := by decide +kernel
theorem dX2_compareExchange_2 : decode cX2_compareExchange 2 = .ok (.iload_n 1, 1) := by decide +kernel
theorem dX2_compareExchange_3 : decode cX2_compareExchange 3 = .ok (.invokevirtual 160, 3) := by decide +kernel
theorem dX2_compareExchange_6 : decode cX2_compareExchange 6 = .ok (.lstore_n 2, 1) := by decide +kernel
theorem dX2_compareExchange_7 : decode cX2_compareExchange 7 = .ok (.aload_n 0, 1) := by decide +kernel
theorem dX2_compareExchange_8 : decode cX2_compareExchange 8 = .ok (.iconst 1, 1) := by decide +kernel
theorem dX2_compareExchange_9 : decode cX2_compareExchange 9 = .ok (.iload_n 1, 1) := by decide +kernel
theorem dX2_compareExchange_10 : decode cX2_compareExchange 10 = .ok (.invokevirtual 160, 3) := by decide +kernel
theorem dX2_compareExchange_13 : decode cX2_compareExchange 13 = .ok (.lstore 4, 2) := by decide +kernel
theorem dX2_compareExchange_15 : decode cX2_compareExchange 15 = .ok (.aload_n 0, 1) := by decide +kernel
theorem dX2_compareExchange_16 : decode cX2_compareExchange 16 = .ok (.getfield 46, 3) := by decide +kernel
theorem dX2_compareExchange_19 : decode cX2_compareExchange 19 = .ok (.ifCond .eq 4, 3) := by decide +kernel
theorem dX2_compareExchange_22 : decode cX2_compareExchange 22 = .ok (.return_, 1) := by decide +kernel
theorem dX2_compareExchange_23 : decode cX2_compareExchange 23 = .ok (.aload_n 0, 1) := by decide +kernel
theorem dX2_compareExchange_24 : decode cX2_compareExchange 24 = .ok (.aload_n 0, 1) := by decide +kernel
theorem dX2_compareExchange_25 : decode cX2_compareExchange 25 = .ok (.getfield 26, 3) := by decide +kernel
theorem dX2_compareExchange_28 : decode cX2_compareExchange 28 = .ok (.iconst 0, 1) := by decide +kernel
theorem dX2_compareExchange_29 : decode cX2_compareExchange 29 = .ok (.laload, 1) := by decide +kernel
theorem dX2_compareExchange_30 : decode cX2_compareExchange 30 = .ok (.iload_n 1, 1) := by decide +kernel
theorem dX2_compareExchange_31 : decode cX2_compareExchange 31 = .ok (.invokestatic 110, 3) := by decide +kernel
theorem dX2_compareExchange_34 : decode cX2_compareExchange 34 = .ok (.lload_n 2, 1) := by decide +kernel
theorem dX2_compareExchange_35 : decode cX2_compareExchange 35 = .ok (.iconst 0, 1) := by decide +kernel
theorem dX2_compareExchange_36 : decode cX2_compareExchange 36 = .ok (.iload_n 1, 1) := by decide +kernel
theorem dX2_compareExchange_37 : decode cX2_compareExchange 37 = .ok (.invokevirtual 181, 3) := by decide +kernel
theorem dX2_compareExchange_40 : decode cX2_compareExchange 40 = .ok (.pop2, 1) := by decide +kernel
theorem dX2_compareExchange_41 : decode cX2_compareExchange 41 = .ok (.aload_n 0, 1) := by decide +kernel
theorem dX2_compareExchange_42 : decode cX2_compareExchange 42 = .ok (.bipush 64, 2) := by decide +kernel
theorem dX2_compareExchange_44 : decode cX2_compareExchange 44 = .ok (.invokevirtual 142, 3) := by decide +kernel
theorem dX2_compareExchange_47 : decode cX2_compareExchange 47 = .ok (.ifCond .eq 14, 3) := by decide +kernel
theorem dX2_compareExchange_50 : decode cX2_compareExchange 50 = .ok (.aload_n 0, 1) := by decide +kernel
theorem dX2_compareExchange_51 : decode cX2_compareExchange 51 = .ok (.iconst 0, 1) := by decide +kernel
theorem dX2_compareExchange_52 : decode cX2_compareExchange 52 = .ok (.iload_n 1, 1) := by decide +kernel
theorem dX2_compareExchange_53 : decode cX2_compareExchange 53 = .ok (.lload 4, 2) := by decide +kernel
theorem dX2_compareExchange_55 : decode cX2_compareExchange 55 = .ok (.invokevirtual 188, 3) := by decide +kernel
theorem dX2_compareExchange_58 : decode cX2_compareExchange 58 = .ok (.goto 10, 3) := by decide +kernel
theorem dX2_compareExchange_61 : decode cX2_compareExchange 61 = .ok (.aload_n 0, 1) := by decide +kernel
theorem dX2_compareExchange_62 : decode cX2_compareExchange 62 = .ok (.iconst 0, 1) := by decide +kernel
theorem dX2_compareExchange_63 : decode cX2_compareExchange 63 = .ok (.iload_n 1, 1) := by decide +kernel
theorem dX2_compareExchange_64 : decode cX2_compareExchange 64 = .ok (.lload_n 2, 1) := by decide +kernel
theorem dX2_compareExchange_65 : decode cX2_compareExchange 65 = .ok (.invokevirtual 118, 3) := by decide +kernel
theorem dX2_compareExchange_68 : decode cX2_compareExchange 68 = .ok (.return_, 1) := by decide +kernel
theorem dX2_string_0 : decode cX2_string 0 = .ok (.iload_n 1, 1) := by decide +kernel
theorem dX2_string_1 : decode cX2_string 1 = .ok (.bipush 51, 2) := by decide +kernel
theorem dX2_string_3 : decode cX2_string 3 = .ok (.if_icmp .le 7, 3) := by decide +kernel
theorem dX2_string_6 : decode cX2_string 6 = .ok (.iconst 1, 1) := by decide +kernel
theorem dX2_string_7 : decode cX2_string 7 = .ok (.goto 4, 3) := by decide +kernel
theorem dX2_string_10 : decode cX2_string 10 = .ok (.iconst 0, 1) := by decide +kernel
theorem dX2_string_11 : decode cX2_string 11 = .ok (.istore_n 3, 1) := by decide +kernel
theorem dX2_string_12 : decode cX2_string 12 = .ok (.iload_n 3, 1) := by decide +kernel
theorem dX2_string_13 : decode cX2_string 13 = .ok (.ifCond .eq 15, 3) := by decide +kernel
theorem dX2_string_16 : decode cX2_string 16 = .ok (.aload_n 0, 1) := by decide +kernel
theorem dX2_string_17 : decode cX2_string 17 = .ok (.getfield 26, 3) := by decide +kernel
theorem dX2_string_20 : decode cX2_string 20 = .ok (.iconst 1, 1) := by decide +kernel
theorem dX2_string_21 : decode cX2_string 21 = .ok (.laload, 1) := by decide +kernel
theorem dX2_string_22 : decode cX2_string 22 = .ok (.lconst 0, 1) := by decide +kernel
theorem dX2_string_23 : decode cX2_string 23 = .ok (.lcmp, 1) := by decide +kernel
theorem dX2_string_24 : decode cX2_string 24 = .ok (.ifCond .ne 4, 3) := by decide +kernel
theorem dX2_string_27 : decode cX2_string 27 = .ok (.return_, 1) := by decide +kernel
theorem dX2_string_28 : decode cX2_string 28 = .ok (.iload_n 1, 1) := by decide +kernel
theorem dX2_string_29 : decode cX2_string 29 = .ok (.bipush 50, 2) := by decide +kernel
theorem dX2_string_31 : decode cX2_string 31 = .ok (.if_icmp .eq 9, 3) := by decide +kernel
theorem dX2_string_34 : decode cX2_string 34 = .ok (.iload_n 1, 1) := by decide +kernel
theorem dX2_string_35 : decode cX2_string 35 = .ok (.bipush 52, 2) := by decide +kernel
theorem dX2_string_37 : decode cX2_string 37 = .ok (.if_icmp .ne 7, 3) := by decide +kernel
theorem dX2_string_40 : decode cX2_string 40 = .ok (.iconst 1, 1) := by decide +kernel
theorem dX2_string_41 : decode cX2_string 41 = .ok (.goto 4, 3) := by decide +kernel
theorem dX2_string_44 : decode cX2_string 44 = .ok (.iconst 0, 1) := by decide +kernel
theorem dX2_string_45 : decode cX2_string 45 = .ok (.istore 4, 2) := by decide +kernel
theorem dX2_string_47 : decode cX2_string 47 = .ok (.iload 4, 2) := by decide +kernel
theorem dX2_string_49 : decode cX2_string 49 = .ok (.ifCond .eq 18, 3) := by decide +kernel
theorem dX2_string_52 : decode cX2_string 52 = .ok (.aload_n 0, 1) := by decide +kernel
theorem dX2_string_53 : decode cX2_string 53 = .ok (.aload_n 0, 1) := by decide +kernel
theorem dX2_string_54 : decode cX2_string 54 = .ok (.getfield 26, 3) := by decide +kernel
theorem dX2_string_57 : decode cX2_string 57 = .ok (.bipush 6, 2) := by decide +kernel
theorem dX2_string_59 : decode cX2_string 59 = .ok (.laload, 1) := by decide +kernel
theorem dX2_string_60 : decode cX2_string 60 = .ok (.iload_n 2, 1) := by decide +kernel
theorem dX2_string_61 : decode cX2_string 61 = .ok (.invokevirtual 101, 3) := by decide +kernel
theorem dX2_string_64 : decode cX2_string 64 = .ok (.goto 9, 3) := by decide +kernel
theorem dX2_string_67 : decode cX2_string 67 = .ok (.aload_n 0, 1) := by decide +kernel
theorem dX2_string_68 : decode cX2_string 68 = .ok (.getfield 26, 3) := by decide +kernel
theorem dX2_string_71 : decode cX2_string 71 = .ok (.iconst 0, 1) := by decide +kernel
theorem dX2_string_72 : decode cX2_string 72 = .ok (.laload, 1) := by decide +kernel
theorem dX2_string_73 : decode cX2_string 73 = .ok (.lstore 5, 2) := by decide +kernel
theorem dX2_string_75 : decode cX2_string 75 = .ok (.aload_n 0, 1) := by decide +kernel
theorem dX2_string_76 : decode cX2_string 76 = .ok (.aload_n 0, 1) := by decide +kernel
theorem dX2_string_77 : decode cX2_string 77 = .ok (.getfield 26, 3) := by decide +kernel
theorem dX2_string_80 : decode cX2_string 80 = .ok (.bipush 7, 2) := by decide +kernel
theorem dX2_string_82 : decode cX2_string 82 = .ok (.laload, 1) := by decide +kernel
theorem dX2_string_83 : decode cX2_string 83 = .ok (.iload_n 2, 1) := by decide +kernel
theorem dX2_string_84 : decode cX2_string 84 = .ok (.lload 5, 2) := by decide +kernel
theorem dX2_string_86 : decode cX2_string 86 = .ok (.invokevirtual 115, 3) := by decide +kernel
theorem dX2_string_89 : decode cX2_string 89 = .ok (.aload_n 0, 1) := by decide +kernel
theorem dX2_string_90 : decode cX2_string 90 = .ok (.getfield 46, 3) := by decide +kernel
theorem dX2_string_93 : decode cX2_string 93 = .ok (.ifCond .eq 4, 3) := by decide +kernel
theorem dX2_string_96 : decode cX2_string 96 = .ok (.return_, 1) := by decide +kernel
theorem dX2_string_97 : decode cX2_string 97 = .ok (.aload_n 0, 1) := by decide +kernel
theorem dX2_string_98 : decode cX2_string 98 = .ok (.getfield 26, 3) := by decide +kernel
theorem dX2_string_101 : decode cX2_string 101 = .ok (.bipush 7, 2) := by decide +kernel
theorem dX2_string_103 : decode cX2_string 103 = .ok (.dup2, 1) := by decide +kernel
theorem dX2_string_104 : decode cX2_string 104 = .ok (.laload, 1) := by decide +kernel
theorem dX2_string_105 : decode cX2_string 105 = .ok (.iload_n 2, 1) := by decide +kernel
theorem dX2_string_106 : decode cX2_string 106 = .ok (.i2l, 1) := by decide +kernel
theorem dX2_string_107 : decode cX2_string 107 = .ok (.ladd, 1) := by decide +kernel
theorem dX2_string_108 : decode cX2_string 108 = .ok (.lastore, 1) := by decide +kernel
theorem dX2_string_109 : decode cX2_string 109 = .ok (.iload 4, 2) := by decide +kernel
theorem dX2_string_111 : decode cX2_string 111 = .ok (.ifCond .eq 15, 3) := by decide +kernel
theorem dX2_string_114 : decode cX2_string 114 = .ok (.aload_n 0, 1) := by decide +kernel
theorem dX2_string_115 : decode cX2_string 115 = .ok (.getfield 26, 3) := by decide +kernel
theorem dX2_string_118 : decode cX2_string 118 = .ok (.bipush 6, 2) := by decide +kernel
theorem dX2_string_120 : decode cX2_string 120 = .ok (.dup2, 1) := by decide +kernel
theorem dX2_string_121 : decode cX2_string 121 = .ok (.laload, 1) := by decide +kernel
theorem dX2_string_122 : decode cX2_string 122 = .ok (.iload_n 2, 1) := by decide +kernel
theorem dX2_string_123 : decode cX2_string 123 = .ok (.i2l, 1) := by decide +kernel
theorem dX2_string_124 : decode cX2_string 124 = .ok (.ladd, 1) := by decide +kernel
theorem dX2_string_125 : decode cX2_string 125 = .ok (.lastore, 1) := by decide +kernel
theorem dX2_string_126 : decode cX2_string 126 = .ok (.iload_n 3, 1) := by decide +kernel
theorem dX2_string_127 : decode cX2_string 127 = .ok (.ifCond .eq 13, 3) := by decide +kernel
theorem dX2_string_130 : decode cX2_string 130 = .ok (.aload_n 0, 1) := by decide +kernel
theorem dX2_string_131 : decode cX2_string 131 = .ok (.getfield 26, 3) := by decide +kernel
theorem dX2_string_134 : decode cX2_string 134 = .ok (.iconst 1, 1) := by decide +kernel
theorem dX2_string_135 : decode cX2_string 135 = .ok (.dup2, 1) := by decide +kernel
theorem dX2_string_136 : decode cX2_string 136 = .ok (.laload, 1) := by decide +kernel
theorem dX2_string_137 : decode cX2_string 137 = .ok (.lconst 1, 1) := by decide +kernel
theorem dX2_string_138 : decode cX2_string 138 = .ok (.lsub, 1) := by decide +kernel
theorem dX2_string_139 : decode cX2_string 139 = .ok (.lastore, 1) := by decide +kernel
theorem dX2_string_140 : decode cX2_string 140 = .ok (.iload_n 3, 1) := by decide +kernel
theorem dX2_string_141 : decode cX2_string 141 = .ok (.ifCond .eq 22, 3) := by decide +kernel
theorem dX2_string_144 : decode cX2_string 144 = .ok (.aload_n 0, 1) := by decide +kernel
theorem dX2_string_145 : decode cX2_string 145 = .ok (.getfield 26, 3) := by decide +kernel
theorem dX2_string_148 : decode cX2_string 148 = .ok (.iconst 1, 1) := by decide +kernel
theorem dX2_string_149 : decode cX2_string 149 = .ok (.laload, 1) := by decide +kernel
theorem dX2_string_150 : decode cX2_string 150 = .ok (.lconst 0, 1) := by decide +kernel
theorem dX2_string_151 : decode cX2_string 151 = .ok (.lcmp, 1) := by decide +kernel
theorem dX2_string_152 : decode cX2_string 152 = .ok (.ifCond .eq 11, 3) := by decide +kernel
theorem dX2_string_155 : decode cX2_string 155 = .ok (.aload_n 0, 1) := by decide +kernel
theorem dX2_string_156 : decode cX2_string 156 = .ok (.aload_n 0, 1) := by decide +kernel
theorem dX2_string_157 : decode cX2_string 157 = .ok (.getfield 38, 3) := by decide +kernel
theorem dX2_string_160 : decode cX2_string 160 = .ok (.putfield 68, 3) := by decide +kernel
theorem dX2_string_163 : decode cX2_string 163 = .ok (.return_, 1) := by decide +kernel
