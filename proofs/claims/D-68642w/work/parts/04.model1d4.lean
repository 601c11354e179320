set_option maxRecDepth 100000
theorem dX5_may_51 : decode cX5_may 51 = .ok (.ireturn, 1) := by decide +kernel
theorem dX5_bits_0 : decode cX5_bits 0 = .ok (.iload_n 1, 1) := by decide +kernel
theorem dX5_bits_1 : decode cX5_bits 1 = .ok (.bipush 46, 2) := by decide +kernel
theorem dX5_bits_3 : decode cX5_bits 3 = .ok (.if_icmp .ne 56, 3) := by decide +kernel
theorem dX5_bits_6 : decode cX5_bits 6 = .ok (.aload_n 0, 1) := by decide +kernel
theorem dX5_bits_7 : decode cX5_bits 7 = .ok (.iconst 0, 1) := by decide +kernel
theorem dX5_bits_8 : decode cX5_bits 8 = .ok (.iload_n 2, 1) := by decide +kernel
theorem dX5_bits_9 : decode cX5_bits 9 = .ok (.invokevirtual 257, 3) := by decide +kernel
theorem dX5_bits_12 : decode cX5_bits 12 = .ok (.lstore_n 3, 1) := by decide +kernel
theorem dX5_bits_13 : decode cX5_bits 13 = .ok (.lconst 0, 1) := by decide +kernel
theorem dX5_bits_14 : decode cX5_bits 14 = .ok (.lstore 5, 2) := by decide +kernel
theorem dX5_bits_16 : decode cX5_bits 16 = .ok (.iconst 0, 1) := by decide +kernel
theorem dX5_bits_17 : decode cX5_bits 17 = .ok (.istore 7, 2) := by decide +kernel
theorem dX5_bits_19 : decode cX5_bits 19 = .ok (.iload 7, 2) := by decide +kernel
theorem dX5_bits_21 : decode cX5_bits 21 = .ok (.iload_n 2, 1) := by decide +kernel
theorem dX5_bits_22 : decode cX5_bits 22 = .ok (.if_icmp .ge 28, 3) := by decide +kernel
theorem dX5_bits_25 : decode cX5_bits 25 = .ok (.lload 5, 2) := by decide +kernel
theorem dX5_bits_27 : decode cX5_bits 27 = .ok (.bipush 8, 2) := by decide +kernel
theorem dX5_bits_29 : decode cX5_bits 29 = .ok (.lshl, 1) := by decide +kernel
theorem dX5_bits_30 : decode cX5_bits 30 = .ok (.lload_n 3, 1) := by decide +kernel
theorem dX5_bits_31 : decode cX5_bits 31 = .ok (.bipush 8, 2) := by decide +kernel
theorem dX5_bits_33 : decode cX5_bits 33 = .ok (.iload 7, 2) := by decide +kernel
theorem dX5_bits_35 : decode cX5_bits 35 = .ok (.imul, 1) := by decide +kernel
theorem dX5_bits_36 : decode cX5_bits 36 = .ok (.lshr, 1) := by decide +kernel
theorem dX5_bits_37 : decode cX5_bits 37 = .ok (.ldc2_w 145, 3) := by decide +kernel
theorem dX5_bits_40 : decode cX5_bits 40 = .ok (.land, 1) := by decide +kernel
theorem dX5_bits_41 : decode cX5_bits 41 = .ok (.lor, 1) := by decide +kernel
theorem dX5_bits_42 : decode cX5_bits 42 = .ok (.lstore 5, 2) := by decide +kernel
theorem dX5_bits_44 : decode cX5_bits 44 = .ok (.iinc 7 1, 3) := by decide +kernel
theorem dX5_bits_47 : decode cX5_bits 47 = .ok (.goto (-28), 3) := by decide +kernel
theorem dX5_bits_50 : decode cX5_bits 50 = .ok (.aload_n 0, 1) := by decide +kernel
theorem dX5_bits_51 : decode cX5_bits 51 = .ok (.iconst 0, 1) := by decide +kernel
theorem dX5_bits_52 : decode cX5_bits 52 = .ok (.iload_n 2, 1) := by decide +kernel
theorem dX5_bits_53 : decode cX5_bits 53 = .ok (.lload 5, 2) := by decide +kernel
theorem dX5_bits_55 : decode cX5_bits 55 = .ok (.invokevirtual 268, 3) := by decide +kernel
theorem dX5_bits_58 : decode cX5_bits 58 = .ok (.return_, 1) := by decide +kernel
theorem dX5_bits_59 : decode cX5_bits 59 = .ok (.aload_n 0, 1) := by decide +kernel
theorem dX5_bits_60 : decode cX5_bits 60 = .ok (.iconst 1, 1) := by decide +kernel
theorem dX5_bits_61 : decode cX5_bits 61 = .ok (.iload_n 2, 1) := by decide +kernel
theorem dX5_bits_62 : decode cX5_bits 62 = .ok (.invokevirtual 257, 3) := by decide +kernel
theorem dX5_bits_65 : decode cX5_bits 65 = .ok (.lstore_n 3, 1) := by decide +kernel
theorem dX5_bits_66 : decode cX5_bits 66 = .ok (.iload_n 1, 1) := by decide +kernel
theorem dX5_bits_67 : decode cX5_bits 67 = .ok (.bipush 47, 2) := by decide +kernel
theorem dX5_bits_69 : decode cX5_bits 69 = .ok (.if_icmp .ne 41, 3) := by decide +kernel
theorem dX5_bits_72 : decode cX5_bits 72 = .ok (.aload_n 0, 1) := by decide +kernel
theorem dX5_bits_73 : decode cX5_bits 73 = .ok (.iconst 0, 1) := by decide +kernel
theorem dX5_bits_74 : decode cX5_bits 74 = .ok (.iload_n 2, 1) := by decide +kernel
theorem dX5_bits_75 : decode cX5_bits 75 = .ok (.invokevirtual 257, 3) := by decide +kernel
theorem dX5_bits_78 : decode cX5_bits 78 = .ok (.lstore 5, 2) := by decide +kernel
theorem dX5_bits_80 : decode cX5_bits 80 = .ok (.aload_n 0, 1) := by decide +kernel
theorem dX5_bits_81 : decode cX5_bits 81 = .ok (.lload 5, 2) := by decide +kernel
theorem dX5_bits_83 : decode cX5_bits 83 = .ok (.lload_n 3, 1) := by decide +kernel
theorem dX5_bits_84 : decode cX5_bits 84 = .ok (.bipush 8, 2) := by decide +kernel
theorem dX5_bits_86 : decode cX5_bits 86 = .ok (.iload_n 2, 1) := by decide +kernel
theorem dX5_bits_87 : decode cX5_bits 87 = .ok (.imul, 1) := by decide +kernel
theorem dX5_bits_88 : decode cX5_bits 88 = .ok (.iconst 1, 1) := by decide +kernel
theorem dX5_bits_89 : decode cX5_bits 89 = .ok (.isub, 1) := by decide +kernel
theorem dX5_bits_90 : decode cX5_bits 90 = .ok (.i2l, 1) := by decide +kernel
theorem dX5_bits_91 : decode cX5_bits 91 = .ok (.land, 1) := by decide +kernel
theorem dX5_bits_92 : decode cX5_bits 92 = .ok (.l2i, 1) := by decide +kernel
theorem dX5_bits_93 : decode cX5_bits 93 = .ok (.lushr, 1) := by decide +kernel
theorem dX5_bits_94 : decode cX5_bits 94 = .ok (.lconst 1, 1) := by decide +kernel
theorem dX5_bits_95 : decode cX5_bits 95 = .ok (.land, 1) := by decide +kernel
theorem dX5_bits_96 : decode cX5_bits 96 = .ok (.lconst 1, 1) := by decide +kernel
theorem dX5_bits_97 : decode cX5_bits 97 = .ok (.lcmp, 1) := by decide +kernel
theorem dX5_bits_98 : decode cX5_bits 98 = .ok (.ifCond .ne 7, 3) := by decide +kernel
theorem dX5_bits_101 : decode cX5_bits 101 = .ok (.iconst 1, 1) := by decide +kernel
theorem dX5_bits_102 : decode cX5_bits 102 = .ok (.goto 4, 3) := by decide +kernel
theorem dX5_bits_105 : decode cX5_bits 105 = .ok (.iconst 0, 1) := by decide +kernel
theorem dX5_bits_106 : decode cX5_bits 106 = .ok (.putfield 237, 3) := by decide +kernel
theorem dX5_bits_109 : decode cX5_bits 109 = .ok (.return_, 1) := by decide +kernel
theorem dX5_bits_110 : decode cX5_bits 110 = .ok (.aload_n 0, 1) := by decide +kernel
theorem dX5_bits_111 : decode cX5_bits 111 = .ok (.lload_n 3, 1) := by decide +kernel
theorem dX5_bits_112 : decode cX5_bits 112 = .ok (.lconst 0, 1) := by decide +kernel
theorem dX5_bits_113 : decode cX5_bits 113 = .ok (.lcmp, 1) := by decide +kernel
theorem dX5_bits_114 : decode cX5_bits 114 = .ok (.ifCond .ne 7, 3) := by decide +kernel
theorem dX5_bits_117 : decode cX5_bits 117 = .ok (.iconst 1, 1) := by decide +kernel
theorem dX5_bits_118 : decode cX5_bits 118 = .ok (.goto 4, 3) := by decide +kernel
theorem dX5_bits_121 : decode cX5_bits 121 = .ok (.iconst 0, 1) := by decide +kernel
theorem dX5_bits_122 : decode cX5_bits 122 = .ok (.putfield 220, 3) := by decide +kernel
theorem dX5_bits_125 : decode cX5_bits 125 = .ok (.aload_n 0, 1) := by decide +kernel
theorem dX5_bits_126 : decode cX5_bits 126 = .ok (.getfield 220, 3) := by decide +kernel
theorem dX5_bits_129 : decode cX5_bits 129 = .ok (.ifCond .eq 4, 3) := by decide +kernel
theorem dX5_bits_132 : decode cX5_bits 132 = .ok (.return_, 1) := by decide +kernel
theorem dX5_bits_133 : decode cX5_bits 133 = .ok (.iload_n 1, 1) := by decide +kernel
theorem dX5_bits_134 : decode cX5_bits 134 = .ok (.bipush 44, 2) := by decide +kernel
theorem dX5_bits_136 : decode cX5_bits 136 = .ok (.if_icmp .ne 7, 3) := by decide +kernel
theorem dX5_bits_139 : decode cX5_bits 139 = .ok (.iconst 0, 1) := by decide +kernel
theorem dX5_bits_140 : decode cX5_bits 140 = .ok (.goto 5, 3) := by decide +kernel
theorem dX5_bits_143 : decode cX5_bits 143 = .ok (.bipush 63, 2) := by decide +kernel
theorem dX5_bits_145 : decode cX5_bits 145 = .ok (.istore 5, 2) := by decide +kernel
theorem dX5_bits_147 : decode cX5_bits 147 = .ok (.iconst 0, 1) := by decide +kernel
theorem dX5_bits_148 : decode cX5_bits 148 = .ok (.istore 6, 2) := by decide +kernel
theorem dX5_bits_150 : decode cX5_bits 150 = .ok (.iload 6, 2) := by decide +kernel
theorem dX5_bits_152 : decode cX5_bits 152 = .ok (.bipush 64, 2) := by decide +kernel
theorem dX5_bits_154 : decode cX5_bits 154 = .ok (.if_icmp .ge 36, 3) := by decide +kernel
theorem dX5_bits_157 : decode cX5_bits 157 = .ok (.lload_n 3, 1) := by decide +kernel
theorem dX5_bits_158 : decode cX5_bits 158 = .ok (.iload 5, 2) := by decide +kernel
theorem dX5_bits_160 : decode cX5_bits 160 = .ok (.lushr, 1) := by decide +kernel
theorem dX5_bits_161 : decode cX5_bits 161 = .ok (.lconst 1, 1) := by decide +kernel
theorem dX5_bits_162 : decode cX5_bits 162 = .ok (.land, 1) := by decide +kernel
theorem dX5_bits_163 : decode cX5_bits 163 = .ok (.lconst 0, 1) := by decide +kernel
theorem dX5_bits_164 : decode cX5_bits 164 = .ok (.lcmp, 1) := by decide +kernel
theorem dX5_bits_165 : decode cX5_bits 165 = .ok (.ifCond .ne 25, 3) := by decide +kernel
theorem dX5_bits_168 : decode cX5_bits 168 = .ok (.iload 5, 2) := by decide +kernel
theorem dX5_bits_170 : decode cX5_bits 170 = .ok (.iload_n 1, 1) := by decide +kernel
theorem dX5_bits_171 : decode cX5_bits 171 = .ok (.bipush 44, 2) := by decide +kernel
theorem dX5_bits_173 : decode cX5_bits 173 = .ok (.if_icmp .ne 7, 3) := by decide +kernel
theorem dX5_bits_176 : decode cX5_bits 176 = .ok (.iconst 1, 1) := by decide +kernel
theorem dX5_bits_177 : decode cX5_bits 177 = .ok (.goto 4, 3) := by decide +kernel
theorem dX5_bits_180 : decode cX5_bits 180 = .ok (.iconst (-1), 1) := by decide +kernel
theorem dX5_bits_181 : decode cX5_bits 181 = .ok (.iadd, 1) := by decide +kernel
theorem dX5_bits_182 : decode cX5_bits 182 = .ok (.istore 5, 2) := by decide +kernel
theorem dX5_bits_184 : decode cX5_bits 184 = .ok (.iinc 6 1, 3) := by decide +kernel
theorem dX5_bits_187 : decode cX5_bits 187 = .ok (.goto (-37), 3) := by decide +kernel
theorem dX5_bits_190 : decode cX5_bits 190 = .ok (.aload_n 0, 1) := by decide +kernel
theorem dX5_bits_191 : decode cX5_bits 191 = .ok (.iconst 0, 1) := by decide +kernel
theorem dX5_bits_192 : decode cX5_bits 192 = .ok (.iload_n 2, 1) := by decide +kernel
theorem dX5_bits_193 : decode cX5_bits 193 = .ok (.iload 5, 2) := by decide +kernel
theorem dX5_bits_195 : decode cX5_bits 195 = .ok (.i2l, 1) := by decide +kernel
theorem dX5_bits_196 : decode cX5_bits 196 = .ok (.invokevirtual 268, 3) := by decide +kernel
theorem dX5_bits_199 : decode cX5_bits 199 = .ok (.return_, 1) := by decide +kernel
theorem dX5_together_0 : decode cX5_together 0 = .ok (.aload_n 0, 1) := by decide +kernel
theorem dX5_together_1 : decode cX5_together 1 = .ok (.iconst 0, 1) := by decide +kernel
theorem dX5_together_2 : decode cX5_together 2 = .ok (.iload_n 2, 1) := by decide +kernel
theorem dX5_together_3 : decode cX5_together 3 = .ok (.invokevirtual 257, 3) := by decide +kernel
theorem dX5_together_6 : decode cX5_together 6 = .ok (.lstore_n 3, 1) := by decide +kernel
theorem dX5_together_7 : decode cX5_together 7 = .ok (.aload_n 0, 1) := by decide +kernel
theorem dX5_together_8 : decode cX5_together 8 = .ok (.iconst 1, 1) := by decide +kernel
theorem dX5_together_9 : decode cX5_together 9 = .ok (.iload_n 2, 1) := by decide +kernel
theorem dX5_together_10 : decode cX5_together 10 = .ok (.invokevirtual 257, 3) := by decide +kernel
theorem dX5_together_13 : decode cX5_together 13 = .ok (.lstore 5, 2) := by decide +kernel
theorem dX5_together_15 : decode cX5_together 15 = .ok (.iload_n 1, 1) := by decide +kernel
theorem dX5_together_16 : decode cX5_together 16 = .ok (.bipush 48, 2) := by decide +kernel
theorem dX5_together_18 : decode cX5_together 18 = .ok (.if_icmp .ne 30, 3) := by decide +kernel
theorem dX5_together_21 : decode cX5_together 21 = .ok (.aload_n 0, 1) := by decide +kernel
theorem dX5_together_22 : decode cX5_together 22 = .ok (.lload_n 3, 1) := by decide +kernel
theorem dX5_together_23 : decode cX5_together 23 = .ok (.lload 5, 2) := by decide +kernel
theorem dX5_together_25 : decode cX5_together 25 = .ok (.iconst 0, 1) := by decide +kernel
theorem dX5_together_26 : decode cX5_together 26 = .ok (.iload_n 2, 1) := by decide +kernel
theorem dX5_together_27 : decode cX5_together 27 = .ok (.invokevirtual 261, 3) := by decide +kernel
theorem dX5_together_30 : decode cX5_together 30 = .ok (.lstore 7, 2) := by decide +kernel
theorem dX5_together_32 : decode cX5_together 32 = .ok (.aload_n 0, 1) := by decide +kernel
theorem dX5_together_33 : decode cX5_together 33 = .ok (.iconst 1, 1) := by decide +kernel
theorem dX5_together_34 : decode cX5_together 34 = .ok (.iload_n 2, 1) := by decide +kernel
theorem dX5_together_35 : decode cX5_together 35 = .ok (.lload_n 3, 1) := by decide +kernel
theorem dX5_together_36 : decode cX5_together 36 = .ok (.invokevirtual 268, 3) := by decide +kernel
theorem dX5_together_39 : decode cX5_together 39 = .ok (.aload_n 0, 1) := by decide +kernel
theorem dX5_together_40 : decode cX5_together 40 = .ok (.iconst 0, 1) := by decide +kernel
theorem dX5_together_41 : decode cX5_together 41 = .ok (.iload_n 2, 1) := by decide +kernel
theorem dX5_together_42 : decode cX5_together 42 = .ok (.lload 7, 2) := by decide +kernel
theorem dX5_together_44 : decode cX5_together 44 = .ok (.invokevirtual 268, 3) := by decide +kernel
theorem dX5_together_47 : decode cX5_together 47 = .ok (.return_, 1) := by decide +kernel
theorem dX5_together_48 : decode cX5_together 48 = .ok (.aload_n 0, 1) := by decide +kernel
theorem dX5_together_49 : decode cX5_together 49 = .ok (.getfield 30, 3) := by decide +kernel
theorem dX5_together_52 : decode cX5_together 52 = .ok (.iconst 0, 1) := by decide +kernel
theorem dX5_together_53 : decode cX5_together 53 = .ok (.laload, 1) := by decide +kernel
theorem dX5_together_54 : decode cX5_together 54 = .ok (.iload_n 2, 1) := by decide +kernel
theorem dX5_together_55 : decode cX5_together 55 = .ok (.invokestatic 200, 3) := by decide +kernel
theorem dX5_together_58 : decode cX5_together 58 = .ok (.lstore 7, 2) := by decide +kernel
theorem dX5_together_60 : decode cX5_together 60 = .ok (.aload_n 0, 1) := by decide +kernel
theorem dX5_together_61 : decode cX5_together 61 = .ok (.lload 7, 2) := by decide +kernel
theorem dX5_together_63 : decode cX5_together 63 = .ok (.lload_n 3, 1) := by decide +kernel
theorem dX5_together_64 : decode cX5_together 64 = .ok (.iconst 0, 1) := by decide +kernel
theorem dX5_together_65 : decode cX5_together 65 = .ok (.iload_n 2, 1) := by decide +kernel
theorem dX5_together_66 : decode cX5_together 66 = .ok (.invokevirtual 265, 3) := by decide +kernel
theorem dX5_together_69 : decode cX5_together 69 = .ok (.pop2, 1) := by decide +kernel
theorem dX5_together_70 : decode cX5_together 70 = .ok (.lload 7, 2) := by decide +kernel
theorem dX5_together_72 : decode cX5_together 72 = .ok (.lload_n 3, 1) := by decide +kernel
theorem dX5_together_73 : decode cX5_together 73 = .ok (.lcmp, 1) := by decide +kernel
theorem dX5_together_74 : decode cX5_together 74 = .ok (.ifCond .ne 14, 3) := by decide +kernel
theorem dX5_together_77 : decode cX5_together 77 = .ok (.aload_n 0, 1) := by decide +kernel
theorem dX5_together_78 : decode cX5_together 78 = .ok (.iconst 0, 1) := by decide +kernel
theorem dX5_together_79 : decode cX5_together 79 = .ok (.iload_n 2, 1) := by decide +kernel
theorem dX5_together_80 : decode cX5_together 80 = .ok (.lload 5, 2) := by decide +kernel
theorem dX5_together_82 : decode cX5_together 82 = .ok (.invokevirtual 268, 3) := by decide +kernel
theorem dX5_together_85 : decode cX5_together 85 = .ok (.goto 10, 3) := by decide +kernel
theorem dX5_together_88 : decode cX5_together 88 = .ok (.aload_n 0, 1) := by decide +kernel
theorem dX5_together_89 : decode cX5_together 89 = .ok (.iconst 0, 1) := by decide +kernel
theorem dX5_together_90 : decode cX5_together 90 = .ok (.iload_n 2, 1) := by decide +kernel
theorem dX5_together_91 : decode cX5_together 91 = .ok (.lload_n 3, 1) := by decide +kernel
theorem dX5_together_92 : decode cX5_together 92 = .ok (.invokevirtual 212, 3) := by decide +kernel
theorem dX5_together_95 : decode cX5_together 95 = .ok (.return_, 1) := by decide +kernel
theorem dX5_strings_0 : decode cX5_strings 0 = .ok (.iload_n 1, 1) := by decide +kernel
theorem dX5_strings_1 : decode cX5_strings 1 = .ok (.bipush 51, 2) := by decide +kernel
theorem dX5_strings_3 : decode cX5_strings 3 = .ok (.if_icmp .le 7, 3) := by decide +kernel
theorem dX5_strings_6 : decode cX5_strings 6 = .ok (.iconst 1, 1) := by decide +kernel
theorem dX5_strings_7 : decode cX5_strings 7 = .ok (.goto 4, 3) := by decide +kernel
theorem dX5_strings_10 : decode cX5_strings 10 = .ok (.iconst 0, 1) := by decide +kernel
theorem dX5_strings_11 : decode cX5_strings 11 = .ok (.istore_n 3, 1) := by decide +kernel
theorem dX5_strings_12 : decode cX5_strings 12 = .ok (.iload_n 3, 1) := by decide +kernel
theorem dX5_strings_13 : decode cX5_strings 13 = .ok (.ifCond .eq 15, 3) := by decide +kernel
theorem dX5_strings_16 : decode cX5_strings 16 = .ok (.aload_n 0, 1) := by decide +kernel
theorem dX5_strings_17 : decode cX5_strings 17 = .ok (.getfield 30, 3) := by decide +kernel
theorem dX5_strings_20 : decode cX5_strings 20 = .ok (.iconst 1, 1) := by decide +kernel
theorem dX5_strings_21 : decode cX5_strings 21 = .ok (.laload, 1) := by decide +kernel
theorem dX5_strings_22 : decode cX5_strings 22 = .ok (.lconst 0, 1) := by decide +kernel
theorem dX5_strings_23 : decode cX5_strings 23 = .ok (.lcmp, 1) := by decide +kernel
theorem dX5_strings_24 : decode cX5_strings 24 = .ok (.ifCond .ne 4, 3) := by decide +kernel
theorem dX5_strings_27 : decode cX5_strings 27 = .ok (.return_, 1) := by decide +kernel
theorem dX5_strings_28 : decode cX5_strings 28 = .ok (.iload_n 1, 1) := by decide +kernel
theorem dX5_strings_29 : decode cX5_strings 29 = .ok (.bipush 50, 2) := by decide +kernel
theorem dX5_strings_31 : decode cX5_strings 31 = .ok (.if_icmp .eq 9, 3) := by decide +kernel
theorem dX5_strings_34 : decode cX5_strings 34 = .ok (.iload_n 1, 1) := by decide +kernel
theorem dX5_strings_35 : decode cX5_strings 35 = .ok (.bipush 52, 2) := by decide +kernel
theorem dX5_strings_37 : decode cX5_strings 37 = .ok (.if_icmp .ne 7, 3) := by decide +kernel
theorem dX5_strings_40 : decode cX5_strings 40 = .ok (.iconst 1, 1) := by decide +kernel
theorem dX5_strings_41 : decode cX5_strings 41 = .ok (.goto 4, 3) := by decide +kernel
theorem dX5_strings_44 : decode cX5_strings 44 = .ok (.iconst 0, 1) := by decide +kernel
theorem dX5_strings_45 : decode cX5_strings 45 = .ok (.istore 4, 2) := by decide +kernel
theorem dX5_strings_47 : decode cX5_strings 47 = .ok (.iload 4, 2) := by decide +kernel
theorem dX5_strings_49 : decode cX5_strings 49 = .ok (.ifCond .eq 18, 3) := by decide +kernel
theorem dX5_strings_52 : decode cX5_strings 52 = .ok (.aload_n 0, 1) := by decide +kernel
theorem dX5_strings_53 : decode cX5_strings 53 = .ok (.aload_n 0, 1) := by decide +kernel
theorem dX5_strings_54 : decode cX5_strings 54 = .ok (.getfield 30, 3) := by decide +kernel
theorem dX5_strings_57 : decode cX5_strings 57 = .ok (.bipush 6, 2) := by decide +kernel
theorem dX5_strings_59 : decode cX5_strings 59 = .ok (.laload, 1) := by decide +kernel
theorem dX5_strings_60 : decode cX5_strings 60 = .ok (.iload_n 2, 1) := by decide +kernel
theorem dX5_strings_61 : decode cX5_strings 61 = .ok (.invokevirtual 207, 3) := by decide +kernel
theorem dX5_strings_64 : decode cX5_strings 64 = .ok (.goto 13, 3) := by decide +kernel
theorem dX5_strings_67 : decode cX5_strings 67 = .ok (.aload_n 0, 1) := by decide +kernel
theorem dX5_strings_68 : decode cX5_strings 68 = .ok (.getfield 30, 3) := by decide +kernel
theorem dX5_strings_71 : decode cX5_strings 71 = .ok (.iconst 0, 1) := by decide +kernel
theorem dX5_strings_72 : decode cX5_strings 72 = .ok (.laload, 1) := by decide +kernel
theorem dX5_strings_73 : decode cX5_strings 73 = .ok (.iload_n 2, 1) := by decide +kernel
theorem dX5_strings_74 : decode cX5_strings 74 = .ok (.invokestatic 200, 3) := by decide +kernel
theorem dX5_strings_77 : decode cX5_strings 77 = .ok (.lstore 5, 2) := by decide +kernel
theorem dX5_strings_79 : decode cX5_strings 79 = .ok (.aload_n 0, 1) := by decide +kernel
theorem dX5_strings_80 : decode cX5_strings 80 = .ok (.aload_n 0, 1) := by decide +kernel
theorem dX5_strings_81 : decode cX5_strings 81 = .ok (.getfield 30, 3) := by decide +kernel
theorem dX5_strings_84 : decode cX5_strings 84 = .ok (.bipush 7, 2) := by decide +kernel
theorem dX5_strings_86 : decode cX5_strings 86 = .ok (.laload, 1) := by decide +kernel
theorem dX5_strings_87 : decode cX5_strings 87 = .ok (.iload_n 2, 1) := by decide +kernel
theorem dX5_strings_88 : decode cX5_strings 88 = .ok (.lload 5, 2) := by decide +kernel
theorem dX5_strings_90 : decode cX5_strings 90 = .ok (.invokevirtual 216, 3) := by decide +kernel
theorem dX5_strings_93 : decode cX5_strings 93 = .ok (.iload 4, 2) := by decide +kernel
theorem dX5_strings_95 : decode cX5_strings 95 = .ok (.ifCond .eq 15, 3) := by decide +kernel
theorem dX5_strings_98 : decode cX5_strings 98 = .ok (.aload_n 0, 1) := by decide +kernel
theorem dX5_strings_99 : decode cX5_strings 99 = .ok (.getfield 30, 3) := by decide +kernel
theorem dX5_strings_102 : decode cX5_strings 102 = .ok (.bipush 6, 2) := by decide +kernel
theorem dX5_strings_104 : decode cX5_strings 104 = .ok (.dup2, 1) := by decide +kernel
theorem dX5_strings_105 : decode cX5_strings 105 = .ok (.laload, 1) := by decide +kernel
theorem dX5_strings_106 : decode cX5_strings 106 = .ok (.iload_n 2, 1) := by decide +kernel
theorem dX5_strings_107 : decode cX5_strings 107 = .ok (.i2l, 1) := by decide +kernel
theorem dX5_strings_108 : decode cX5_strings 108 = .ok (.ladd, 1) := by decide +kernel
theorem dX5_strings_109 : decode cX5_strings 109 = .ok (.lastore, 1) := by decide +kernel
theorem dX5_strings_110 : decode cX5_strings 110 = .ok (.aload_n 0, 1) := by decide +kernel
theorem dX5_strings_111 : decode cX5_strings 111 = .ok (.getfield 30, 3) := by decide +kernel
theorem dX5_strings_114 : decode cX5_strings 114 = .ok (.bipush 7, 2) := by decide +kernel
theorem dX5_strings_116 : decode cX5_strings 116 = .ok (.dup2, 1) := by decide +kernel
theorem dX5_strings_117 : decode cX5_strings 117 = .ok (.laload, 1) := by decide +kernel
theorem dX5_strings_118 : decode cX5_strings 118 = .ok (.iload_n 2, 1) := by decide +kernel
theorem dX5_strings_119 : decode cX5_strings 119 = .ok (.i2l, 1) := by decide +kernel
theorem dX5_strings_120 : decode cX5_strings 120 = .ok (.ladd, 1) := by decide +kernel
theorem dX5_strings_121 : decode cX5_strings 121 = .ok (.lastore, 1) := by decide +kernel
theorem dX5_strings_122 : decode cX5_strings 122 = .ok (.iload_n 3, 1) := by decide +kernel
theorem dX5_strings_123 : decode cX5_strings 123 = .ok (.ifCond .ne 4, 3) := by decide +kernel
theorem dX5_strings_126 : decode cX5_strings 126 = .ok (.return_, 1) := by decide +kernel
theorem dX5_strings_127 : decode cX5_strings 127 = .ok (.aload_n 0, 1) := by decide +kernel
theorem dX5_strings_128 : decode cX5_strings 128 = .ok (.getfield 30, 3) := by decide +kernel
theorem dX5_strings_131 : decode cX5_strings 131 = .ok (.iconst 1, 1) := by decide +kernel
theorem dX5_strings_132 : decode cX5_strings 132 = .ok (.dup2, 1) := by decide +kernel
theorem dX5_strings_133 : decode cX5_strings 133 = .ok (.laload, 1) := by decide +kernel
theorem dX5_strings_134 : decode cX5_strings 134 = .ok (.lconst 1, 1) := by decide +kernel
theorem dX5_strings_135 : decode cX5_strings 135 = .ok (.lsub, 1) := by decide +kernel
theorem dX5_strings_136 : decode cX5_strings 136 = .ok (.lastore, 1) := by decide +kernel
theorem dX5_strings_137 : decode cX5_strings 137 = .ok (.aload_n 0, 1) := by decide +kernel
theorem dX5_strings_138 : decode cX5_strings 138 = .ok (.getfield 30, 3) := by decide +kernel
theorem dX5_strings_141 : decode cX5_strings 141 = .ok (.iconst 1, 1) := by decide +kernel
theorem dX5_strings_142 : decode cX5_strings 142 = .ok (.laload, 1) := by decide +kernel
theorem dX5_strings_143 : decode cX5_strings 143 = .ok (.lconst 0, 1) := by decide +kernel
theorem dX5_strings_144 : decode cX5_strings 144 = .ok (.lcmp, 1) := by decide +kernel
theorem dX5_strings_145 : decode cX5_strings 145 = .ok (.ifCond .eq 17, 3) := by decide +kernel
theorem dX5_strings_148 : decode cX5_strings 148 = .ok (.aload_n 0, 1) := by decide +kernel
theorem dX5_strings_149 : decode cX5_strings 149 = .ok (.dup, 1) := by decide +kernel
theorem dX5_strings_150 : decode cX5_strings 150 = .ok (.getfield 90, 3) := by decide +kernel
theorem dX5_strings_153 : decode cX5_strings 153 = .ok (.aload_n 0, 1) := by decide +kernel
theorem dX5_strings_154 : decode cX5_strings 154 = .ok (.getfield 305, 3) := by decide +kernel
theorem dX5_strings_157 : decode cX5_strings 157 = .ok (.i2l, 1) := by decide +kernel
theorem dX5_strings_158 : decode cX5_strings 158 = .ok (.lsub, 1) := by decide +kernel
theorem dX5_strings_159 : decode cX5_strings 159 = .ok (.putfield 90, 3) := by decide +kernel
theorem dX5_strings_162 : decode cX5_strings 162 = .ok (.return_, 1) := by decide +kernel
theorem dX5_value_0 : decode cX5_value 0 = .ok (.aload_n 0, 1) := by decide +kernel
theorem dX5_value_1 : decode cX5_value 1 = .ok (.iconst 0, 1) := by decide +kernel
theorem dX5_value_2 : decode cX5_value 2 = .ok (.putfield 61, 3) := by decide +kernel
theorem dX5_value_5 : decode cX5_value 5 = .ok (.aload_n 0, 1) := by decide +kernel
theorem dX5_value_6 : decode cX5_value 6 = .ok (.getfield 106, 3) := by decide +kernel
theorem dX5_value_9 : decode cX5_value 9 = .ok (.lreturn, 1) := by decide +kernel
theorem dX5_register_0 : decode cX5_register 0 = .ok (.aload_n 0, 1) := by decide +kernel
theorem dX5_register_1 : decode cX5_register 1 = .ok (.iconst 0, 1) := by decide +kernel
theorem dX5_register_2 : decode cX5_register 2 = .ok (.putfield 61, 3) := by decide +kernel
theorem dX5_register_5 : decode cX5_register 5 = .ok (.iload_n 1, 1) := by decide +kernel
theorem dX5_register_6 : decode cX5_register 6 = .ok (.ifCond .lt 16, 3) := by decide +kernel
theorem dX5_register_9 : decode cX5_register 9 = .ok (.iload_n 1, 1) := by decide +kernel
theorem dX5_register_10 : decode cX5_register 10 = .ok (.bipush 16, 2) := by decide +kernel
theorem dX5_register_12 : decode cX5_register 12 = .ok (.if_icmp .ge 10, 3) := by decide +kernel
theorem dX5_register_15 : decode cX5_register 15 = .ok (.aload_n 0, 1) := by decide +kernel
theorem dX5_register_16 : decode cX5_register 16 = .ok (.getfield 30, 3) := by decide +kernel
theorem dX5_register_19 : decode cX5_register 19 = .ok (.iload_n 1, 1) := by decide +kernel
theorem dX5_register_20 : decode cX5_register 20 = .ok (.laload, 1) := by decide +kernel
theorem dX5_register_21 : decode cX5_register 21 = .ok (.lreturn, 1) := by decide +kernel
theorem dX5_register_22 : decode cX5_register 22 = .ok (.iload_n 1, 1) := by decide +kernel
theorem dX5_register_23 : decode cX5_register 23 = .ok (.bipush 16, 2) := by decide +kernel
theorem dX5_register_25 : decode cX5_register 25 = .ok (.if_icmp .ne 10, 3) := by decide +kernel
theorem dX5_register_28 : decode cX5_register 28 = .ok (.aload_n 0, 1) := by decide +kernel
theorem dX5_register_29 : decode cX5_register 29 = .ok (.getfield 90, 3) := by decide +kernel
theorem dX5_register_32 : decode cX5_register 32 = .ok (.goto 49, 3) := by decide +kernel
theorem dX5_register_35 : decode cX5_register 35 = .ok (.iload_n 1, 1) := by decide +kernel
theorem dX5_register_36 : decode cX5_register 36 = .ok (.bipush 17, 2) := by decide +kernel
theorem dX5_register_38 : decode cX5_register 38 = .ok (.if_icmp .ne 10, 3) := by decide +kernel
theorem dX5_register_41 : decode cX5_register 41 = .ok (.aload_n 0, 1) := by decide +kernel
theorem dX5_register_42 : decode cX5_register 42 = .ok (.invokevirtual 310, 3) := by decide +kernel
theorem dX5_register_45 : decode cX5_register 45 = .ok (.goto 36, 3) := by decide +kernel
theorem dX5_register_48 : decode cX5_register 48 = .ok (.iload_n 1, 1) := by decide +kernel
theorem dX5_register_49 : decode cX5_register 49 = .ok (.bipush 18, 2) := by decide +kernel
theorem dX5_register_51 : decode cX5_register 51 = .ok (.if_icmp .ne 16, 3) := by decide +kernel
theorem dX5_register_54 : decode cX5_register 54 = .ok (.aload_n 0, 1) := by decide +kernel
theorem dX5_register_55 : decode cX5_register 55 = .ok (.invokevirtual 159, 3) := by decide +kernel
theorem dX5_register_58 : decode cX5_register 58 = .ok (.aload_n 0, 1) := by decide +kernel
theorem dX5_register_59 : decode cX5_register 59 = .ok (.getfield 94, 3) := by decide +kernel
theorem dX5_register_62 : decode cX5_register 62 = .ok (.i2l, 1) := by decide +kernel
theorem dX5_register_63 : decode cX5_register 63 = .ok (.ladd, 1) := by decide +kernel
theorem dX5_register_64 : decode cX5_register 64 = .ok (.goto 17, 3) := by decide +kernel
theorem dX5_register_67 : decode cX5_register 67 = .ok (.iload_n 1, 1) := by decide +kernel
theorem dX5_register_68 : decode cX5_register 68 = .ok (.bipush 19, 2) := by decide +kernel
theorem dX5_register_70 : decode cX5_register 70 = .ok (.if_icmp .ne 10, 3) := by decide +kernel
theorem dX5_register_73 : decode cX5_register 73 = .ok (.aload_n 0, 1) := by decide +kernel
theorem dX5_register_74 : decode cX5_register 74 = .ok (.getfield 109, 3) := by decide +kernel
theorem dX5_register_77 : decode cX5_register 77 = .ok (.goto 4, 3) := by decide +kernel
theorem dX5_register_80 : decode cX5_register 80 = .ok (.lconst 0, 1) := by decide +kernel
theorem dX5_register_81 : decode cX5_register 81 = .ok (.lreturn, 1) := by decide +kernel
theorem dX5_set_0 : decode cX5_set 0 = .ok (.aload_n 0, 1) := by decide +kernel
theorem dX5_set_1 : decode cX5_set 1 = .ok (.iconst 0, 1) := by decide +kernel
theorem dX5_set_2 : decode cX5_set 2 = .ok (.putfield 61, 3) := by decide +kernel
theorem dX5_set_5 : decode cX5_set 5 = .ok (.iload_n 1, 1) := by decide +kernel
theorem dX5_set_6 : decode cX5_set 6 = .ok (.ifCond .lt 9, 3) := by decide +kernel
theorem dX5_set_9 : decode cX5_set 9 = .ok (.iload_n 1, 1) := by decide +kernel
theorem dX5_set_10 : decode cX5_set 10 = .ok (.bipush 16, 2) := by decide +kernel
theorem dX5_set_12 : decode cX5_set 12 = .ok (.if_icmp .le 5, 3) := by decide +kernel
theorem dX5_set_15 : decode cX5_set 15 = .ok (.iconst 0, 1) := by decide +kernel
theorem dX5_set_16 : decode cX5_set 16 = .ok (.ireturn, 1) := by decide +kernel
theorem dX5_set_17 : decode cX5_set 17 = .ok (.iload_n 1, 1) := by decide +kernel
theorem dX5_set_18 : decode cX5_set 18 = .ok (.bipush 16, 2) := by decide +kernel
theorem dX5_set_20 : decode cX5_set 20 = .ok (.if_icmp .ne 11, 3) := by decide +kernel
theorem dX5_set_23 : decode cX5_set 23 = .ok (.aload_n 0, 1) := by decide +kernel
theorem dX5_set_24 : decode cX5_set 24 = .ok (.lload_n 2, 1) := by decide +kernel
theorem dX5_set_25 : decode cX5_set 25 = .ok (.putfield 90, 3) := by decide +kernel
theorem dX5_set_28 : decode cX5_set 28 = .ok (.goto 10, 3) := by decide +kernel
theorem dX5_set_31 : decode cX5_set 31 = .ok (.aload_n 0, 1) := by decide +kernel
theorem dX5_set_32 : decode cX5_set 32 = .ok (.getfield 30, 3) := by decide +kernel
theorem dX5_set_35 : decode cX5_set 35 = .ok (.iload_n 1, 1) := by decide +kernel
theorem dX5_set_36 : decode cX5_set 36 = .ok (.lload_n 2, 1) := by decide +kernel
theorem dX5_set_37 : decode cX5_set 37 = .ok (.lastore, 1) := by decide +kernel
theorem dX5_set_38 : decode cX5_set 38 = .ok (.iconst 1, 1) := by decide +kernel
theorem dX5_set_39 : decode cX5_set 39 = .ok (.ireturn, 1) := by decide +kernel
theorem dX5_input_0 : decode cX5_input 0 = .ok (.aload_n 0, 1) := by decide +kernel
theorem dX5_input_1 : decode cX5_input 1 = .ok (.iconst 0, 1) := by decide +kernel
theorem dX5_input_2 : decode cX5_input 2 = .ok (.putfield 61, 3) := by decide +kernel
theorem dX5_input_5 : decode cX5_input 5 = .ok (.iload_n 3, 1) := by decide +kernel
theorem dX5_input_6 : decode cX5_input 6 = .ok (.iconst 1, 1) := by decide +kernel
theorem dX5_input_7 : decode cX5_input 7 = .ok (.if_icmp .lt 20, 3) := by decide +kernel
theorem dX5_input_10 : decode cX5_input 10 = .ok (.iload_n 3, 1) := by decide +kernel
theorem dX5_input_11 : decode cX5_input 11 = .ok (.bipush 8, 2) := by decide +kernel
theorem dX5_input_13 : decode cX5_input 13 = .ok (.if_icmp .gt 14, 3) := by decide +kernel
theorem dX5_input_16 : decode cX5_input 16 = .ok (.aload_n 0, 1) := by decide +kernel
theorem dX5_input_17 : decode cX5_input 17 = .ok (.getfield 97, 3) := by decide +kernel
theorem dX5_input_20 : decode cX5_input 20 = .ok (.iload_n 3, 1) := by decide +kernel
theorem dX5_input_21 : decode cX5_input 21 = .ok (.iadd, 1) := by decide +kernel
theorem dX5_input_22 : decode cX5_input 22 = .ok (.ldc 17, 2) := by decide +kernel
theorem dX5_input_24 : decode cX5_input 24 = .ok (.if_icmp .le 5, 3) := by decide +kernel
theorem dX5_input_27 : decode cX5_input 27 = .ok (.iconst 0, 1) := by decide +kernel
theorem dX5_input_28 : decode cX5_input 28 = .ok (.ireturn, 1) := by decide +kernel
theorem dX5_input_29 : decode cX5_input 29 = .ok (.iload_n 3, 1) := by decide +kernel
theorem dX5_input_30 : decode cX5_input 30 = .ok (.iconst 1, 1) := by decide +kernel
theorem dX5_input_31 : decode cX5_input 31 = .ok (.isub, 1) := by decide +kernel
theorem dX5_input_32 : decode cX5_input 32 = .ok (.istore 4, 2) := by decide +kernel
theorem dX5_input_34 : decode cX5_input 34 = .ok (.iload 4, 2) := by decide +kernel
theorem dX5_input_36 : decode cX5_input 36 = .ok (.ifCond .lt 37, 3) := by decide +kernel
theorem dX5_input_39 : decode cX5_input 39 = .ok (.aload_n 0, 1) := by decide +kernel
theorem dX5_input_40 : decode cX5_input 40 = .ok (.getfield 24, 3) := by decide +kernel
theorem dX5_input_43 : decode cX5_input 43 = .ok (.aload_n 0, 1) := by decide +kernel
theorem dX5_input_44 : decode cX5_input 44 = .ok (.getfield 97, 3) := by decide +kernel
theorem dX5_input_47 : decode cX5_input 47 = .ok (.lload_n 1, 1) := by decide +kernel
theorem dX5_input_48 : decode cX5_input 48 = .ok (.bipush 8, 2) := by decide +kernel
theorem dX5_input_50 : decode cX5_input 50 = .ok (.iload 4, 2) := by decide +kernel
theorem dX5_input_52 : decode cX5_input 52 = .ok (.imul, 1) := by decide +kernel
theorem dX5_input_53 : decode cX5_input 53 = .ok (.lshr, 1) := by decide +kernel
theorem dX5_input_54 : decode cX5_input 54 = .ok (.l2i, 1) := by decide +kernel
theorem dX5_input_55 : decode cX5_input 55 = .ok (.i2b, 1) := by decide +kernel
theorem dX5_input_56 : decode cX5_input 56 = .ok (.bastore, 1) := by decide +kernel
theorem dX5_input_57 : decode cX5_input 57 = .ok (.aload_n 0, 1) := by decide +kernel
theorem dX5_input_58 : decode cX5_input 58 = .ok (.dup, 1) := by decide +kernel
theorem dX5_input_59 : decode cX5_input 59 = .ok (.getfield 97, 3) := by decide +kernel
theorem dX5_input_62 : decode cX5_input 62 = .ok (.iconst 1, 1) := by decide +kernel
theorem dX5_input_63 : decode cX5_input 63 = .ok (.iadd, 1) := by decide +kernel
theorem dX5_input_64 : decode cX5_input 64 = .ok (.putfield 97, 3) := by decide +kernel
theorem dX5_input_67 : decode cX5_input 67 = .ok (.iinc 4 (-1), 3) := by decide +kernel
theorem dX5_input_70 : decode cX5_input 70 = .ok (.goto (-36), 3) := by decide +kernel
theorem dX5_input_73 : decode cX5_input 73 = .ok (.iconst 1, 1) := by decide +kernel
theorem dX5_input_74 : decode cX5_input 74 = .ok (.ireturn, 1) := by decide +kernel
theorem dX5_output_0 : decode cX5_output 0 = .ok (.aload_n 0, 1) := by decide +kernel
theorem dX5_output_1 : decode cX5_output 1 = .ok (.iconst 0, 1) := by decide +kernel
theorem dX5_output_2 : decode cX5_output 2 = .ok (.putfield 61, 3) := by decide +kernel
theorem dX5_output_5 : decode cX5_output 5 = .ok (.iload_n 1, 1) := by decide +kernel
theorem dX5_output_6 : decode cX5_output 6 = .ok (.iconst (-1), 1) := by decide +kernel
theorem dX5_output_7 : decode cX5_output 7 = .ok (.if_icmp .ne 10, 3) := by decide +kernel
theorem dX5_output_10 : decode cX5_output 10 = .ok (.aload_n 0, 1) := by decide +kernel
theorem dX5_output_11 : decode cX5_output 11 = .ok (.getfield 100, 3) := by decide +kernel
theorem dX5_output_14 : decode cX5_output 14 = .ok (.goto 29, 3) := by decide +kernel
theorem dX5_output_17 : decode cX5_output 17 = .ok (.iload_n 1, 1) := by decide +kernel
theorem dX5_output_18 : decode cX5_output 18 = .ok (.ifCond .lt 24, 3) := by decide +kernel
theorem dX5_output_21 : decode cX5_output 21 = .ok (.iload_n 1, 1) := by decide +kernel
theorem dX5_output_22 : decode cX5_output 22 = .ok (.aload_n 0, 1) := by decide +kernel
theorem dX5_output_23 : decode cX5_output 23 = .ok (.getfield 100, 3) := by decide +kernel
theorem dX5_output_26 : decode cX5_output 26 = .ok (.if_icmp .ge 16, 3) := by decide +kernel
theorem dX5_output_29 : decode cX5_output 29 = .ok (.aload_n 0, 1) := by decide +kernel
theorem dX5_output_30 : decode cX5_output 30 = .ok (.getfield 27, 3) := by decide +kernel
theorem dX5_output_33 : decode cX5_output 33 = .ok (.iload_n 1, 1) := by decide +kernel
theorem dX5_output_34 : decode cX5_output 34 = .ok (.baload, 1) := by decide +kernel
theorem dX5_output_35 : decode cX5_output 35 = .ok (.sipush 255, 3) := by decide +kernel
theorem dX5_output_38 : decode cX5_output 38 = .ok (.iand, 1) := by decide +kernel
theorem dX5_output_39 : decode cX5_output 39 = .ok (.goto 4, 3) := by decide +kernel
theorem dX5_output_42 : decode cX5_output 42 = .ok (.iconst (-1), 1) := by decide +kernel
theorem dX5_output_43 : decode cX5_output 43 = .ok (.ireturn, 1) := by decide +kernel
theorem dX5_peek_0 : decode cX5_peek 0 = .ok (.aload_n 0, 1) := by decide +kernel
theorem dX5_peek_1 : decode cX5_peek 1 = .ok (.iconst 0, 1) := by decide +kernel
theorem dX5_peek_2 : decode cX5_peek 2 = .ok (.putfield 61, 3) := by decide +kernel
theorem dX5_peek_5 : decode cX5_peek 5 = .ok (.aload_n 0, 1) := by decide +kernel
theorem dX5_peek_6 : decode cX5_peek 6 = .ok (.lload_n 1, 1) := by decide +kernel
theorem dX5_peek_7 : decode cX5_peek 7 = .ok (.iconst 0, 1) := by decide +kernel
theorem dX5_peek_8 : decode cX5_peek 8 = .ok (.invokevirtual 176, 3) := by decide +kernel
theorem dX5_peek_11 : decode cX5_peek 11 = .ok (.istore_n 3, 1) := by decide +kernel
theorem dX5_peek_12 : decode cX5_peek 12 = .ok (.iload_n 3, 1) := by decide +kernel
theorem dX5_peek_13 : decode cX5_peek 13 = .ok (.ifCond .ge 7, 3) := by decide +kernel
theorem dX5_peek_16 : decode cX5_peek 16 = .ok (.iconst (-1), 1) := by decide +kernel
theorem dX5_peek_17 : decode cX5_peek 17 = .ok (.goto 8, 3) := by decide +kernel
theorem dX5_peek_20 : decode cX5_peek 20 = .ok (.aload_n 0, 1) := by decide +kernel
theorem dX5_peek_21 : decode cX5_peek 21 = .ok (.iload_n 3, 1) := by decide +kernel
theorem dX5_peek_22 : decode cX5_peek 22 = .ok (.invokevirtual 184, 3) := by decide +kernel
theorem dX5_peek_25 : decode cX5_peek 25 = .ok (.ireturn, 1) := by decide +kernel
theorem dX5_poke_0 : decode cX5_poke 0 = .ok (.aload_n 0, 1) := by decide +kernel
theorem dX5_poke_1 : decode cX5_poke 1 = .ok (.iconst 0, 1) := by decide +kernel
theorem dX5_poke_2 : decode cX5_poke 2 = .ok (.putfield 61, 3) := by decide +kernel
theorem dX5_poke_5 : decode cX5_poke 5 = .ok (.aload_n 0, 1) := by decide +kernel
theorem dX5_poke_6 : decode cX5_poke 6 = .ok (.lload_n 1, 1) := by decide +kernel
theorem dX5_poke_7 : decode cX5_poke 7 = .ok (.iconst 1, 1) := by decide +kernel
theorem dX5_poke_8 : decode cX5_poke 8 = .ok (.invokevirtual 176, 3) := by decide +kernel
theorem dX5_poke_11 : decode cX5_poke 11 = .ok (.istore 4, 2) := by decide +kernel
theorem dX5_poke_13 : decode cX5_poke 13 = .ok (.iload 4, 2) := by decide +kernel
theorem dX5_poke_15 : decode cX5_poke 15 = .ok (.ifCond .lt 10, 3) := by decide +kernel
theorem dX5_poke_18 : decode cX5_poke 18 = .ok (.aload_n 0, 1) := by decide +kernel
theorem dX5_poke_19 : decode cX5_poke 19 = .ok (.iload 4, 2) := by decide +kernel
theorem dX5_poke_21 : decode cX5_poke 21 = .ok (.iload_n 3, 1) := by decide +kernel
theorem dX5_poke_22 : decode cX5_poke 22 = .ok (.invokevirtual 188, 3) := by decide +kernel
theorem dX5_poke_25 : decode cX5_poke 25 = .ok (.iload 4, 2) := by decide +kernel
theorem dX5_poke_27 : decode cX5_poke 27 = .ok (.ifCond .lt 7, 3) := by decide +kernel
theorem dX5_poke_30 : decode cX5_poke 30 = .ok (.iconst 1, 1) := by decide +kernel
theorem dX5_poke_31 : decode cX5_poke 31 = .ok (.goto 4, 3) := by decide +kernel
theorem dX5_poke_34 : decode cX5_poke 34 = .ok (.iconst 0, 1) := by decide +kernel
theorem dX5_poke_35 : decode cX5_poke 35 = .ok (.ireturn, 1) := by decide +kernel
