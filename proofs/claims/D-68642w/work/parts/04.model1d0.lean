set_option maxRecDepth 100000
theorem dX5_init_0 : decode cX5_init 0 = .ok (.aload_n 0, 1) := by decide +kernel
theorem dX5_init_1 : decode cX5_init 1 = .ok (.invokespecial 1, 3) := by decide +kernel
theorem dX5_init_4 : decode cX5_init 4 = .ok (.aload_n 0, 1) := by decide +kernel
theorem dX5_init_5 : decode cX5_init 5 = .ok (.ldc 9, 2) := by decide +kernel
theorem dX5_init_7 : decode cX5_init 7 = .ok (.newarray .byte, 2) := by decide +kernel
theorem dX5_init_9 : decode cX5_init 9 = .ok (.putfield 10, 3) := by decide +kernel
theorem dX5_init_12 : decode cX5_init 12 = .ok (.aload_n 0, 1) := by decide +kernel
theorem dX5_init_13 : decode cX5_init 13 = .ok (.ldc 9, 2) := by decide +kernel
theorem dX5_init_15 : decode cX5_init 15 = .ok (.newarray .byte, 2) := by decide +kernel
theorem dX5_init_17 : decode cX5_init 17 = .ok (.putfield 14, 3) := by decide +kernel
theorem dX5_init_20 : decode cX5_init 20 = .ok (.aload_n 0, 1) := by decide +kernel
theorem dX5_init_21 : decode cX5_init 21 = .ok (.ldc 17, 2) := by decide +kernel
theorem dX5_init_23 : decode cX5_init 23 = .ok (.newarray .byte, 2) := by decide +kernel
theorem dX5_init_25 : decode cX5_init 25 = .ok (.putfield 18, 3) := by decide +kernel
theorem dX5_init_28 : decode cX5_init 28 = .ok (.aload_n 0, 1) := by decide +kernel
theorem dX5_init_29 : decode cX5_init 29 = .ok (.ldc 17, 2) := by decide +kernel
theorem dX5_init_31 : decode cX5_init 31 = .ok (.newarray .byte, 2) := by decide +kernel
theorem dX5_init_33 : decode cX5_init 33 = .ok (.putfield 21, 3) := by decide +kernel
theorem dX5_init_36 : decode cX5_init 36 = .ok (.aload_n 0, 1) := by decide +kernel
theorem dX5_init_37 : decode cX5_init 37 = .ok (.ldc 17, 2) := by decide +kernel
theorem dX5_init_39 : decode cX5_init 39 = .ok (.newarray .byte, 2) := by decide +kernel
theorem dX5_init_41 : decode cX5_init 41 = .ok (.putfield 24, 3) := by decide +kernel
theorem dX5_init_44 : decode cX5_init 44 = .ok (.aload_n 0, 1) := by decide +kernel
theorem dX5_init_45 : decode cX5_init 45 = .ok (.ldc 17, 2) := by decide +kernel
theorem dX5_init_47 : decode cX5_init 47 = .ok (.newarray .byte, 2) := by decide +kernel
theorem dX5_init_49 : decode cX5_init 49 = .ok (.putfield 27, 3) := by decide +kernel
theorem dX5_init_52 : decode cX5_init 52 = .ok (.aload_n 0, 1) := by decide +kernel
theorem dX5_init_53 : decode cX5_init 53 = .ok (.bipush 16, 2) := by decide +kernel
theorem dX5_init_55 : decode cX5_init 55 = .ok (.newarray .long, 2) := by decide +kernel
theorem dX5_init_57 : decode cX5_init 57 = .ok (.putfield 30, 3) := by decide +kernel
theorem dX5_init_60 : decode cX5_init 60 = .ok (.aload_n 0, 1) := by decide +kernel
theorem dX5_init_61 : decode cX5_init 61 = .ok (.bipush 16, 2) := by decide +kernel
theorem dX5_init_63 : decode cX5_init 63 = .ok (.newarray .long, 2) := by decide +kernel
theorem dX5_init_65 : decode cX5_init 65 = .ok (.putfield 34, 3) := by decide +kernel
theorem dX5_init_68 : decode cX5_init 68 = .ok (.aload_n 0, 1) := by decide +kernel
theorem dX5_init_69 : decode cX5_init 69 = .ok (.bipush 39, 2) := by decide +kernel
theorem dX5_init_71 : decode cX5_init 71 = .ok (.putfield 37, 3) := by decide +kernel
theorem dX5_init_74 : decode cX5_init 74 = .ok (.aload_n 0, 1) := by decide +kernel
theorem dX5_init_75 : decode cX5_init 75 = .ok (.iconst (-1), 1) := by decide +kernel
theorem dX5_init_76 : decode cX5_init 76 = .ok (.putfield 41, 3) := by decide +kernel
theorem dX5_init_79 : decode cX5_init 79 = .ok (.aload_n 0, 1) := by decide +kernel
theorem dX5_init_80 : decode cX5_init 80 = .ok (.iconst (-1), 1) := by decide +kernel
theorem dX5_init_81 : decode cX5_init 81 = .ok (.putfield 44, 3) := by decide +kernel
theorem dX5_init_84 : decode cX5_init 84 = .ok (.aload_n 0, 1) := by decide +kernel
theorem dX5_init_85 : decode cX5_init 85 = .ok (.iconst 1, 1) := by decide +kernel
theorem dX5_init_86 : decode cX5_init 86 = .ok (.putfield 47, 3) := by decide +kernel
theorem dX5_init_89 : decode cX5_init 89 = .ok (.aload_n 0, 1) := by decide +kernel
theorem dX5_init_90 : decode cX5_init 90 = .ok (.iconst 3, 1) := by decide +kernel
theorem dX5_init_91 : decode cX5_init 91 = .ok (.newarray .int, 2) := by decide +kernel
theorem dX5_init_93 : decode cX5_init 93 = .ok (.putfield 50, 3) := by decide +kernel
theorem dX5_init_96 : decode cX5_init 96 = .ok (.aload_n 0, 1) := by decide +kernel
theorem dX5_init_97 : decode cX5_init 97 = .ok (.iconst 3, 1) := by decide +kernel
theorem dX5_init_98 : decode cX5_init 98 = .ok (.newarray .int, 2) := by decide +kernel
theorem dX5_init_100 : decode cX5_init 100 = .ok (.putfield 54, 3) := by decide +kernel
theorem dX5_init_103 : decode cX5_init 103 = .ok (.aload_n 0, 1) := by decide +kernel
theorem dX5_init_104 : decode cX5_init 104 = .ok (.iconst 0, 1) := by decide +kernel
theorem dX5_init_105 : decode cX5_init 105 = .ok (.iconst 0, 1) := by decide +kernel
theorem dX5_init_106 : decode cX5_init 106 = .ok (.iconst 0, 1) := by decide +kernel
theorem dX5_init_107 : decode cX5_init 107 = .ok (.iconst 0, 1) := by decide +kernel
theorem dX5_init_108 : decode cX5_init 108 = .ok (.iconst 0, 1) := by decide +kernel
theorem dX5_init_109 : decode cX5_init 109 = .ok (.iconst 0, 1) := by decide +kernel
theorem dX5_init_110 : decode cX5_init 110 = .ok (.invokevirtual 57, 3) := by decide +kernel
theorem dX5_init_113 : decode cX5_init 113 = .ok (.return_, 1) := by decide +kernel
theorem dX5_anew_0 : decode cX5_anew 0 = .ok (.aload_n 0, 1) := by decide +kernel
theorem dX5_anew_1 : decode cX5_anew 1 = .ok (.iload_n 1, 1) := by decide +kernel
theorem dX5_anew_2 : decode cX5_anew 2 = .ok (.putfield 64, 3) := by decide +kernel
theorem dX5_anew_5 : decode cX5_anew 5 = .ok (.aload_n 0, 1) := by decide +kernel
theorem dX5_anew_6 : decode cX5_anew 6 = .ok (.iload_n 2, 1) := by decide +kernel
theorem dX5_anew_7 : decode cX5_anew 7 = .ok (.putfield 67, 3) := by decide +kernel
theorem dX5_anew_10 : decode cX5_anew 10 = .ok (.aload_n 0, 1) := by decide +kernel
theorem dX5_anew_11 : decode cX5_anew 11 = .ok (.iload_n 3, 1) := by decide +kernel
theorem dX5_anew_12 : decode cX5_anew 12 = .ok (.putfield 70, 3) := by decide +kernel
theorem dX5_anew_15 : decode cX5_anew 15 = .ok (.aload_n 0, 1) := by decide +kernel
theorem dX5_anew_16 : decode cX5_anew 16 = .ok (.iload 4, 2) := by decide +kernel
theorem dX5_anew_18 : decode cX5_anew 18 = .ok (.putfield 73, 3) := by decide +kernel
theorem dX5_anew_21 : decode cX5_anew 21 = .ok (.aload_n 0, 1) := by decide +kernel
theorem dX5_anew_22 : decode cX5_anew 22 = .ok (.iload 5, 2) := by decide +kernel
theorem dX5_anew_24 : decode cX5_anew 24 = .ok (.putfield 76, 3) := by decide +kernel
theorem dX5_anew_27 : decode cX5_anew 27 = .ok (.aload_n 0, 1) := by decide +kernel
theorem dX5_anew_28 : decode cX5_anew 28 = .ok (.iload 6, 2) := by decide +kernel
theorem dX5_anew_30 : decode cX5_anew 30 = .ok (.putfield 79, 3) := by decide +kernel
theorem dX5_anew_33 : decode cX5_anew 33 = .ok (.iconst 0, 1) := by decide +kernel
theorem dX5_anew_34 : decode cX5_anew 34 = .ok (.istore 7, 2) := by decide +kernel
theorem dX5_anew_36 : decode cX5_anew 36 = .ok (.iload 7, 2) := by decide +kernel
theorem dX5_anew_38 : decode cX5_anew 38 = .ok (.ldc 9, 2) := by decide +kernel
theorem dX5_anew_40 : decode cX5_anew 40 = .ok (.if_icmp .ge 33, 3) := by decide +kernel
theorem dX5_anew_43 : decode cX5_anew 43 = .ok (.aload_n 0, 1) := by decide +kernel
theorem dX5_anew_44 : decode cX5_anew 44 = .ok (.getfield 14, 3) := by decide +kernel
theorem dX5_anew_47 : decode cX5_anew 47 = .ok (.iload 7, 2) := by decide +kernel
theorem dX5_anew_49 : decode cX5_anew 49 = .ok (.iload 7, 2) := by decide +kernel
theorem dX5_anew_51 : decode cX5_anew 51 = .ok (.iload_n 1, 1) := by decide +kernel
theorem dX5_anew_52 : decode cX5_anew 52 = .ok (.if_icmp .ge 13, 3) := by decide +kernel
theorem dX5_anew_55 : decode cX5_anew 55 = .ok (.aload_n 0, 1) := by decide +kernel
theorem dX5_anew_56 : decode cX5_anew 56 = .ok (.getfield 10, 3) := by decide +kernel
theorem dX5_anew_59 : decode cX5_anew 59 = .ok (.iload 7, 2) := by decide +kernel
theorem dX5_anew_61 : decode cX5_anew 61 = .ok (.baload, 1) := by decide +kernel
theorem dX5_anew_62 : decode cX5_anew 62 = .ok (.goto 4, 3) := by decide +kernel
theorem dX5_anew_65 : decode cX5_anew 65 = .ok (.iconst 0, 1) := by decide +kernel
theorem dX5_anew_66 : decode cX5_anew 66 = .ok (.bastore, 1) := by decide +kernel
theorem dX5_anew_67 : decode cX5_anew 67 = .ok (.iinc 7 1, 3) := by decide +kernel
theorem dX5_anew_70 : decode cX5_anew 70 = .ok (.goto (-34), 3) := by decide +kernel
theorem dX5_anew_73 : decode cX5_anew 73 = .ok (.iconst 0, 1) := by decide +kernel
theorem dX5_anew_74 : decode cX5_anew 74 = .ok (.istore 7, 2) := by decide +kernel
theorem dX5_anew_76 : decode cX5_anew 76 = .ok (.iload 7, 2) := by decide +kernel
theorem dX5_anew_78 : decode cX5_anew 78 = .ok (.ldc 17, 2) := by decide +kernel
theorem dX5_anew_80 : decode cX5_anew 80 = .ok (.if_icmp .ge 25, 3) := by decide +kernel
theorem dX5_anew_83 : decode cX5_anew 83 = .ok (.aload_n 0, 1) := by decide +kernel
theorem dX5_anew_84 : decode cX5_anew 84 = .ok (.getfield 18, 3) := by decide +kernel
theorem dX5_anew_87 : decode cX5_anew 87 = .ok (.iload 7, 2) := by decide +kernel
theorem dX5_anew_89 : decode cX5_anew 89 = .ok (.iconst 0, 1) := by decide +kernel
theorem dX5_anew_90 : decode cX5_anew 90 = .ok (.bastore, 1) := by decide +kernel
theorem dX5_anew_91 : decode cX5_anew 91 = .ok (.aload_n 0, 1) := by decide +kernel
theorem dX5_anew_92 : decode cX5_anew 92 = .ok (.getfield 21, 3) := by decide +kernel
theorem dX5_anew_95 : decode cX5_anew 95 = .ok (.iload 7, 2) := by decide +kernel
theorem dX5_anew_97 : decode cX5_anew 97 = .ok (.iconst 0, 1) := by decide +kernel
theorem dX5_anew_98 : decode cX5_anew 98 = .ok (.bastore, 1) := by decide +kernel
theorem dX5_anew_99 : decode cX5_anew 99 = .ok (.iinc 7 1, 3) := by decide +kernel
theorem dX5_anew_102 : decode cX5_anew 102 = .ok (.goto (-26), 3) := by decide +kernel
theorem dX5_anew_105 : decode cX5_anew 105 = .ok (.iconst 0, 1) := by decide +kernel
theorem dX5_anew_106 : decode cX5_anew 106 = .ok (.istore 7, 2) := by decide +kernel
theorem dX5_anew_108 : decode cX5_anew 108 = .ok (.iload 7, 2) := by decide +kernel
theorem dX5_anew_110 : decode cX5_anew 110 = .ok (.bipush 16, 2) := by decide +kernel
theorem dX5_anew_112 : decode cX5_anew 112 = .ok (.if_icmp .ge 17, 3) := by decide +kernel
theorem dX5_anew_115 : decode cX5_anew 115 = .ok (.aload_n 0, 1) := by decide +kernel
theorem dX5_anew_116 : decode cX5_anew 116 = .ok (.getfield 30, 3) := by decide +kernel
theorem dX5_anew_119 : decode cX5_anew 119 = .ok (.iload 7, 2) := by decide +kernel
theorem dX5_anew_121 : decode cX5_anew 121 = .ok (.lconst 0, 1) := by decide +kernel
theorem dX5_anew_122 : decode cX5_anew 122 = .ok (.lastore, 1) := by decide +kernel
theorem dX5_anew_123 : decode cX5_anew 123 = .ok (.iinc 7 1, 3) := by decide +kernel
theorem dX5_anew_126 : decode cX5_anew 126 = .ok (.goto (-18), 3) := by decide +kernel
theorem dX5_anew_129 : decode cX5_anew 129 = .ok (.aload_n 0, 1) := by decide +kernel
theorem dX5_anew_130 : decode cX5_anew 130 = .ok (.getfield 30, 3) := by decide +kernel
theorem dX5_anew_133 : decode cX5_anew 133 = .ok (.iconst 4, 1) := by decide +kernel
theorem dX5_anew_134 : decode cX5_anew 134 = .ok (.ldc2_w 82, 3) := by decide +kernel
theorem dX5_anew_137 : decode cX5_anew 137 = .ok (.lastore, 1) := by decide +kernel
theorem dX5_anew_138 : decode cX5_anew 138 = .ok (.aload_n 0, 1) := by decide +kernel
theorem dX5_anew_139 : decode cX5_anew 139 = .ok (.lconst 0, 1) := by decide +kernel
theorem dX5_anew_140 : decode cX5_anew 140 = .ok (.invokevirtual 84, 3) := by decide +kernel
theorem dX5_anew_143 : decode cX5_anew 143 = .ok (.aload_n 0, 1) := by decide +kernel
theorem dX5_anew_144 : decode cX5_anew 144 = .ok (.ldc2_w 88, 3) := by decide +kernel
theorem dX5_anew_147 : decode cX5_anew 147 = .ok (.putfield 90, 3) := by decide +kernel
theorem dX5_anew_150 : decode cX5_anew 150 = .ok (.aload_n 0, 1) := by decide +kernel
theorem dX5_anew_151 : decode cX5_anew 151 = .ok (.iconst 0, 1) := by decide +kernel
theorem dX5_anew_152 : decode cX5_anew 152 = .ok (.putfield 94, 3) := by decide +kernel
theorem dX5_anew_155 : decode cX5_anew 155 = .ok (.aload_n 0, 1) := by decide +kernel
theorem dX5_anew_156 : decode cX5_anew 156 = .ok (.iconst 0, 1) := by decide +kernel
theorem dX5_anew_157 : decode cX5_anew 157 = .ok (.putfield 97, 3) := by decide +kernel
theorem dX5_anew_160 : decode cX5_anew 160 = .ok (.aload_n 0, 1) := by decide +kernel
theorem dX5_anew_161 : decode cX5_anew 161 = .ok (.iconst 0, 1) := by decide +kernel
theorem dX5_anew_162 : decode cX5_anew 162 = .ok (.putfield 100, 3) := by decide +kernel
theorem dX5_anew_165 : decode cX5_anew 165 = .ok (.aload_n 0, 1) := by decide +kernel
theorem dX5_anew_166 : decode cX5_anew 166 = .ok (.iconst 0, 1) := by decide +kernel
theorem dX5_anew_167 : decode cX5_anew 167 = .ok (.putfield 103, 3) := by decide +kernel
theorem dX5_anew_170 : decode cX5_anew 170 = .ok (.aload_n 0, 1) := by decide +kernel
theorem dX5_anew_171 : decode cX5_anew 171 = .ok (.lconst 0, 1) := by decide +kernel
theorem dX5_anew_172 : decode cX5_anew 172 = .ok (.putfield 106, 3) := by decide +kernel
theorem dX5_anew_175 : decode cX5_anew 175 = .ok (.aload_n 0, 1) := by decide +kernel
theorem dX5_anew_176 : decode cX5_anew 176 = .ok (.lconst 0, 1) := by decide +kernel
theorem dX5_anew_177 : decode cX5_anew 177 = .ok (.putfield 109, 3) := by decide +kernel
theorem dX5_anew_180 : decode cX5_anew 180 = .ok (.return_, 1) := by decide +kernel
theorem dX5_setFlags_0 : decode cX5_setFlags 0 = .ok (.aload_n 0, 1) := by decide +kernel
theorem dX5_setFlags_1 : decode cX5_setFlags 1 = .ok (.lload_n 1, 1) := by decide +kernel
theorem dX5_setFlags_2 : decode cX5_setFlags 2 = .ok (.lconst 1, 1) := by decide +kernel
theorem dX5_setFlags_3 : decode cX5_setFlags 3 = .ok (.land, 1) := by decide +kernel
theorem dX5_setFlags_4 : decode cX5_setFlags 4 = .ok (.lconst 0, 1) := by decide +kernel
theorem dX5_setFlags_5 : decode cX5_setFlags 5 = .ok (.lcmp, 1) := by decide +kernel
theorem dX5_setFlags_6 : decode cX5_setFlags 6 = .ok (.ifCond .eq 7, 3) := by decide +kernel
theorem dX5_setFlags_9 : decode cX5_setFlags 9 = .ok (.iconst 1, 1) := by decide +kernel
theorem dX5_setFlags_10 : decode cX5_setFlags 10 = .ok (.goto 4, 3) := by decide +kernel
theorem dX5_setFlags_13 : decode cX5_setFlags 13 = .ok (.iconst 0, 1) := by decide +kernel
theorem dX5_setFlags_14 : decode cX5_setFlags 14 = .ok (.putfield 237, 3) := by decide +kernel
theorem dX5_setFlags_17 : decode cX5_setFlags 17 = .ok (.aload_n 0, 1) := by decide +kernel
theorem dX5_setFlags_18 : decode cX5_setFlags 18 = .ok (.lload_n 1, 1) := by decide +kernel
theorem dX5_setFlags_19 : decode cX5_setFlags 19 = .ok (.ldc2_w 249, 3) := by decide +kernel
theorem dX5_setFlags_22 : decode cX5_setFlags 22 = .ok (.land, 1) := by decide +kernel
theorem dX5_setFlags_23 : decode cX5_setFlags 23 = .ok (.lconst 0, 1) := by decide +kernel
theorem dX5_setFlags_24 : decode cX5_setFlags 24 = .ok (.lcmp, 1) := by decide +kernel
theorem dX5_setFlags_25 : decode cX5_setFlags 25 = .ok (.ifCond .eq 7, 3) := by decide +kernel
theorem dX5_setFlags_28 : decode cX5_setFlags 28 = .ok (.iconst 1, 1) := by decide +kernel
theorem dX5_setFlags_29 : decode cX5_setFlags 29 = .ok (.goto 4, 3) := by decide +kernel
theorem dX5_setFlags_32 : decode cX5_setFlags 32 = .ok (.iconst 0, 1) := by decide +kernel
theorem dX5_setFlags_33 : decode cX5_setFlags 33 = .ok (.putfield 230, 3) := by decide +kernel
theorem dX5_setFlags_36 : decode cX5_setFlags 36 = .ok (.aload_n 0, 1) := by decide +kernel
theorem dX5_setFlags_37 : decode cX5_setFlags 37 = .ok (.lload_n 1, 1) := by decide +kernel
theorem dX5_setFlags_38 : decode cX5_setFlags 38 = .ok (.ldc2_w 251, 3) := by decide +kernel
theorem dX5_setFlags_41 : decode cX5_setFlags 41 = .ok (.land, 1) := by decide +kernel
theorem dX5_setFlags_42 : decode cX5_setFlags 42 = .ok (.lconst 0, 1) := by decide +kernel
theorem dX5_setFlags_43 : decode cX5_setFlags 43 = .ok (.lcmp, 1) := by decide +kernel
theorem dX5_setFlags_44 : decode cX5_setFlags 44 = .ok (.ifCond .eq 7, 3) := by decide +kernel
theorem dX5_setFlags_47 : decode cX5_setFlags 47 = .ok (.iconst 1, 1) := by decide +kernel
theorem dX5_setFlags_48 : decode cX5_setFlags 48 = .ok (.goto 4, 3) := by decide +kernel
theorem dX5_setFlags_51 : decode cX5_setFlags 51 = .ok (.iconst 0, 1) := by decide +kernel
theorem dX5_setFlags_52 : decode cX5_setFlags 52 = .ok (.putfield 220, 3) := by decide +kernel
theorem dX5_setFlags_55 : decode cX5_setFlags 55 = .ok (.aload_n 0, 1) := by decide +kernel
theorem dX5_setFlags_56 : decode cX5_setFlags 56 = .ok (.lload_n 1, 1) := by decide +kernel
theorem dX5_setFlags_57 : decode cX5_setFlags 57 = .ok (.ldc2_w 253, 3) := by decide +kernel
theorem dX5_setFlags_60 : decode cX5_setFlags 60 = .ok (.land, 1) := by decide +kernel
theorem dX5_setFlags_61 : decode cX5_setFlags 61 = .ok (.lconst 0, 1) := by decide +kernel
theorem dX5_setFlags_62 : decode cX5_setFlags 62 = .ok (.lcmp, 1) := by decide +kernel
theorem dX5_setFlags_63 : decode cX5_setFlags 63 = .ok (.ifCond .eq 7, 3) := by decide +kernel
theorem dX5_setFlags_66 : decode cX5_setFlags 66 = .ok (.iconst 1, 1) := by decide +kernel
theorem dX5_setFlags_67 : decode cX5_setFlags 67 = .ok (.goto 4, 3) := by decide +kernel
theorem dX5_setFlags_70 : decode cX5_setFlags 70 = .ok (.iconst 0, 1) := by decide +kernel
theorem dX5_setFlags_71 : decode cX5_setFlags 71 = .ok (.putfield 227, 3) := by decide +kernel
theorem dX5_setFlags_74 : decode cX5_setFlags 74 = .ok (.aload_n 0, 1) := by decide +kernel
theorem dX5_setFlags_75 : decode cX5_setFlags 75 = .ok (.lload_n 1, 1) := by decide +kernel
theorem dX5_setFlags_76 : decode cX5_setFlags 76 = .ok (.ldc2_w 255, 3) := by decide +kernel
theorem dX5_setFlags_79 : decode cX5_setFlags 79 = .ok (.land, 1) := by decide +kernel
theorem dX5_setFlags_80 : decode cX5_setFlags 80 = .ok (.lconst 0, 1) := by decide +kernel
theorem dX5_setFlags_81 : decode cX5_setFlags 81 = .ok (.lcmp, 1) := by decide +kernel
theorem dX5_setFlags_82 : decode cX5_setFlags 82 = .ok (.ifCond .eq 7, 3) := by decide +kernel
theorem dX5_setFlags_85 : decode cX5_setFlags 85 = .ok (.iconst 1, 1) := by decide +kernel
theorem dX5_setFlags_86 : decode cX5_setFlags 86 = .ok (.goto 4, 3) := by decide +kernel
theorem dX5_setFlags_89 : decode cX5_setFlags 89 = .ok (.iconst 0, 1) := by decide +kernel
theorem dX5_setFlags_90 : decode cX5_setFlags 90 = .ok (.putfield 240, 3) := by decide +kernel
theorem dX5_setFlags_93 : decode cX5_setFlags 93 = .ok (.return_, 1) := by decide +kernel
theorem dX5_begin_0 : decode cX5_begin 0 = .ok (.aload_n 0, 1) := by decide +kernel
theorem dX5_begin_1 : decode cX5_begin 1 = .ok (.iconst 0, 1) := by decide +kernel
theorem dX5_begin_2 : decode cX5_begin 2 = .ok (.putfield 61, 3) := by decide +kernel
theorem dX5_begin_5 : decode cX5_begin 5 = .ok (.iload_n 1, 1) := by decide +kernel
theorem dX5_begin_6 : decode cX5_begin 6 = .ok (.ifCond .lt 48, 3) := by decide +kernel
theorem dX5_begin_9 : decode cX5_begin 9 = .ok (.iload_n 1, 1) := by decide +kernel
theorem dX5_begin_10 : decode cX5_begin 10 = .ok (.ldc 9, 2) := by decide +kernel
theorem dX5_begin_12 : decode cX5_begin 12 = .ok (.if_icmp .gt 42, 3) := by decide +kernel
theorem dX5_begin_15 : decode cX5_begin 15 = .ok (.iload_n 2, 1) := by decide +kernel
theorem dX5_begin_16 : decode cX5_begin 16 = .ok (.ifCond .lt 38, 3) := by decide +kernel
theorem dX5_begin_19 : decode cX5_begin 19 = .ok (.iload_n 3, 1) := by decide +kernel
theorem dX5_begin_20 : decode cX5_begin 20 = .ok (.iload_n 2, 1) := by decide +kernel
theorem dX5_begin_21 : decode cX5_begin 21 = .ok (.if_icmp .lt 33, 3) := by decide +kernel
theorem dX5_begin_24 : decode cX5_begin 24 = .ok (.iload 4, 2) := by decide +kernel
theorem dX5_begin_26 : decode cX5_begin 26 = .ok (.iload_n 3, 1) := by decide +kernel
theorem dX5_begin_27 : decode cX5_begin 27 = .ok (.if_icmp .lt 27, 3) := by decide +kernel
theorem dX5_begin_30 : decode cX5_begin 30 = .ok (.iload 5, 2) := by decide +kernel
theorem dX5_begin_32 : decode cX5_begin 32 = .ok (.iload 4, 2) := by decide +kernel
theorem dX5_begin_34 : decode cX5_begin 34 = .ok (.if_icmp .lt 20, 3) := by decide +kernel
theorem dX5_begin_37 : decode cX5_begin 37 = .ok (.iload 6, 2) := by decide +kernel
theorem dX5_begin_39 : decode cX5_begin 39 = .ok (.iload 5, 2) := by decide +kernel
theorem dX5_begin_41 : decode cX5_begin 41 = .ok (.if_icmp .lt 13, 3) := by decide +kernel
theorem dX5_begin_44 : decode cX5_begin 44 = .ok (.iload 6, 2) := by decide +kernel
theorem dX5_begin_46 : decode cX5_begin 46 = .ok (.iload_n 1, 1) := by decide +kernel
theorem dX5_begin_47 : decode cX5_begin 47 = .ok (.if_icmp .gt 7, 3) := by decide +kernel
theorem dX5_begin_50 : decode cX5_begin 50 = .ok (.iconst 1, 1) := by decide +kernel
theorem dX5_begin_51 : decode cX5_begin 51 = .ok (.goto 4, 3) := by decide +kernel
theorem dX5_begin_54 : decode cX5_begin 54 = .ok (.iconst 0, 1) := by decide +kernel
theorem dX5_begin_55 : decode cX5_begin 55 = .ok (.istore 7, 2) := by decide +kernel
theorem dX5_begin_57 : decode cX5_begin 57 = .ok (.iload 7, 2) := by decide +kernel
theorem dX5_begin_59 : decode cX5_begin 59 = .ok (.ifCond .eq 16, 3) := by decide +kernel
theorem dX5_begin_62 : decode cX5_begin 62 = .ok (.aload_n 0, 1) := by decide +kernel
theorem dX5_begin_63 : decode cX5_begin 63 = .ok (.iload_n 1, 1) := by decide +kernel
theorem dX5_begin_64 : decode cX5_begin 64 = .ok (.iload_n 2, 1) := by decide +kernel
theorem dX5_begin_65 : decode cX5_begin 65 = .ok (.iload_n 3, 1) := by decide +kernel
theorem dX5_begin_66 : decode cX5_begin 66 = .ok (.iload 4, 2) := by decide +kernel
theorem dX5_begin_68 : decode cX5_begin 68 = .ok (.iload 5, 2) := by decide +kernel
theorem dX5_begin_70 : decode cX5_begin 70 = .ok (.iload 6, 2) := by decide +kernel
theorem dX5_begin_72 : decode cX5_begin 72 = .ok (.invokevirtual 57, 3) := by decide +kernel
theorem dX5_begin_75 : decode cX5_begin 75 = .ok (.iload 7, 2) := by decide +kernel
theorem dX5_begin_77 : decode cX5_begin 77 = .ok (.ireturn, 1) := by decide +kernel
theorem dX5_fill_0 : decode cX5_fill 0 = .ok (.aload_n 0, 1) := by decide +kernel
theorem dX5_fill_1 : decode cX5_fill 1 = .ok (.iconst 0, 1) := by decide +kernel
theorem dX5_fill_2 : decode cX5_fill 2 = .ok (.putfield 61, 3) := by decide +kernel
theorem dX5_fill_5 : decode cX5_fill 5 = .ok (.iconst 0, 1) := by decide +kernel
theorem dX5_fill_6 : decode cX5_fill 6 = .ok (.istore 4, 2) := by decide +kernel
theorem dX5_fill_8 : decode cX5_fill 8 = .ok (.iload 4, 2) := by decide +kernel
theorem dX5_fill_10 : decode cX5_fill 10 = .ok (.bipush 8, 2) := by decide +kernel
theorem dX5_fill_12 : decode cX5_fill 12 = .ok (.if_icmp .ge 50, 3) := by decide +kernel
theorem dX5_fill_15 : decode cX5_fill 15 = .ok (.iload_n 1, 1) := by decide +kernel
theorem dX5_fill_16 : decode cX5_fill 16 = .ok (.i2l, 1) := by decide +kernel
theorem dX5_fill_17 : decode cX5_fill 17 = .ok (.iload 4, 2) := by decide +kernel
theorem dX5_fill_19 : decode cX5_fill 19 = .ok (.i2l, 1) := by decide +kernel
theorem dX5_fill_20 : decode cX5_fill 20 = .ok (.ladd, 1) := by decide +kernel
theorem dX5_fill_21 : decode cX5_fill 21 = .ok (.lstore 5, 2) := by decide +kernel
theorem dX5_fill_23 : decode cX5_fill 23 = .ok (.lload 5, 2) := by decide +kernel
theorem dX5_fill_25 : decode cX5_fill 25 = .ok (.lconst 0, 1) := by decide +kernel
theorem dX5_fill_26 : decode cX5_fill 26 = .ok (.lcmp, 1) := by decide +kernel
theorem dX5_fill_27 : decode cX5_fill 27 = .ok (.ifCond .lt 29, 3) := by decide +kernel
theorem dX5_fill_30 : decode cX5_fill 30 = .ok (.lload 5, 2) := by decide +kernel
theorem dX5_fill_32 : decode cX5_fill 32 = .ok (.ldc2_w 112, 3) := by decide +kernel
theorem dX5_fill_35 : decode cX5_fill 35 = .ok (.lcmp, 1) := by decide +kernel
theorem dX5_fill_36 : decode cX5_fill 36 = .ok (.ifCond .ge 20, 3) := by decide +kernel
theorem dX5_fill_39 : decode cX5_fill 39 = .ok (.aload_n 0, 1) := by decide +kernel
theorem dX5_fill_40 : decode cX5_fill 40 = .ok (.getfield 10, 3) := by decide +kernel
theorem dX5_fill_43 : decode cX5_fill 43 = .ok (.lload 5, 2) := by decide +kernel
theorem dX5_fill_45 : decode cX5_fill 45 = .ok (.l2i, 1) := by decide +kernel
theorem dX5_fill_46 : decode cX5_fill 46 = .ok (.lload_n 2, 1) := by decide +kernel
theorem dX5_fill_47 : decode cX5_fill 47 = .ok (.bipush 8, 2) := by decide +kernel
theorem dX5_fill_49 : decode cX5_fill 49 = .ok (.iload 4, 2) := by decide +kernel
theorem dX5_fill_51 : decode cX5_fill 51 = .ok (.imul, 1) := by decide +kernel
theorem dX5_fill_52 : decode cX5_fill 52 = .ok (.lshr, 1) := by decide +kernel
theorem dX5_fill_53 : decode cX5_fill 53 = .ok (.l2i, 1) := by decide +kernel
theorem dX5_fill_54 : decode cX5_fill 54 = .ok (.i2b, 1) := by decide +kernel
theorem dX5_fill_55 : decode cX5_fill 55 = .ok (.bastore, 1) := by decide +kernel
theorem dX5_fill_56 : decode cX5_fill 56 = .ok (.iinc 4 1, 3) := by decide +kernel
theorem dX5_fill_59 : decode cX5_fill 59 = .ok (.goto (-51), 3) := by decide +kernel
theorem dX5_fill_62 : decode cX5_fill 62 = .ok (.return_, 1) := by decide +kernel
theorem dX5_op_0 : decode cX5_op 0 = .ok (.aload_n 0, 1) := by decide +kernel
theorem dX5_op_1 : decode cX5_op 1 = .ok (.iconst 0, 1) := by decide +kernel
theorem dX5_op_2 : decode cX5_op 2 = .ok (.putfield 61, 3) := by decide +kernel
theorem dX5_op_5 : decode cX5_op 5 = .ok (.aload_n 0, 1) := by decide +kernel
theorem dX5_op_6 : decode cX5_op 6 = .ok (.iload_n 1, 1) := by decide +kernel
theorem dX5_op_7 : decode cX5_op 7 = .ok (.putfield 37, 3) := by decide +kernel
theorem dX5_op_10 : decode cX5_op 10 = .ok (.aload_n 0, 1) := by decide +kernel
theorem dX5_op_11 : decode cX5_op 11 = .ok (.iload_n 2, 1) := by decide +kernel
theorem dX5_op_12 : decode cX5_op 12 = .ok (.putfield 114, 3) := by decide +kernel
theorem dX5_op_15 : decode cX5_op 15 = .ok (.aload_n 0, 1) := by decide +kernel
theorem dX5_op_16 : decode cX5_op 16 = .ok (.iload_n 3, 1) := by decide +kernel
theorem dX5_op_17 : decode cX5_op 17 = .ok (.putfield 117, 3) := by decide +kernel
theorem dX5_op_20 : decode cX5_op 20 = .ok (.iconst 0, 1) := by decide +kernel
theorem dX5_op_21 : decode cX5_op 21 = .ok (.istore 4, 2) := by decide +kernel
theorem dX5_op_23 : decode cX5_op 23 = .ok (.iload 4, 2) := by decide +kernel
theorem dX5_op_25 : decode cX5_op 25 = .ok (.iconst 3, 1) := by decide +kernel
theorem dX5_op_26 : decode cX5_op 26 = .ok (.if_icmp .ge 25, 3) := by decide +kernel
theorem dX5_op_29 : decode cX5_op 29 = .ok (.aload_n 0, 1) := by decide +kernel
theorem dX5_op_30 : decode cX5_op 30 = .ok (.getfield 50, 3) := by decide +kernel
theorem dX5_op_33 : decode cX5_op 33 = .ok (.iload 4, 2) := by decide +kernel
theorem dX5_op_35 : decode cX5_op 35 = .ok (.iconst 0, 1) := by decide +kernel
theorem dX5_op_36 : decode cX5_op 36 = .ok (.iastore, 1) := by decide +kernel
theorem dX5_op_37 : decode cX5_op 37 = .ok (.aload_n 0, 1) := by decide +kernel
theorem dX5_op_38 : decode cX5_op 38 = .ok (.getfield 54, 3) := by decide +kernel
theorem dX5_op_41 : decode cX5_op 41 = .ok (.iload 4, 2) := by decide +kernel
theorem dX5_op_43 : decode cX5_op 43 = .ok (.iconst 0, 1) := by decide +kernel
theorem dX5_op_44 : decode cX5_op 44 = .ok (.iastore, 1) := by decide +kernel
theorem dX5_op_45 : decode cX5_op 45 = .ok (.iinc 4 1, 3) := by decide +kernel
theorem dX5_op_48 : decode cX5_op 48 = .ok (.goto (-25), 3) := by decide +kernel
theorem dX5_op_51 : decode cX5_op 51 = .ok (.return_, 1) := by decide +kernel
theorem dX5_operand_0 : decode cX5_operand 0 = .ok (.aload_n 0, 1) := by decide +kernel
theorem dX5_operand_1 : decode cX5_operand 1 = .ok (.iconst 0, 1) := by decide +kernel
theorem dX5_operand_2 : decode cX5_operand 2 = .ok (.putfield 61, 3) := by decide +kernel
theorem dX5_operand_5 : decode cX5_operand 5 = .ok (.iload_n 1, 1) := by decide +kernel
theorem dX5_operand_6 : decode cX5_operand 6 = .ok (.ifCond .lt 36, 3) := by decide +kernel
theorem dX5_operand_9 : decode cX5_operand 9 = .ok (.iload_n 1, 1) := by decide +kernel
theorem dX5_operand_10 : decode cX5_operand 10 = .ok (.iconst 2, 1) := by decide +kernel
theorem dX5_operand_11 : decode cX5_operand 11 = .ok (.if_icmp .gt 31, 3) := by decide +kernel
theorem dX5_operand_14 : decode cX5_operand 14 = .ok (.iload_n 2, 1) := by decide +kernel
theorem dX5_operand_15 : decode cX5_operand 15 = .ok (.ifCond .lt 27, 3) := by decide +kernel
theorem dX5_operand_18 : decode cX5_operand 18 = .ok (.iload_n 2, 1) := by decide +kernel
theorem dX5_operand_19 : decode cX5_operand 19 = .ok (.iconst 3, 1) := by decide +kernel
theorem dX5_operand_20 : decode cX5_operand 20 = .ok (.if_icmp .gt 22, 3) := by decide +kernel
theorem dX5_operand_23 : decode cX5_operand 23 = .ok (.iload_n 3, 1) := by decide +kernel
theorem dX5_operand_24 : decode cX5_operand 24 = .ok (.ifCond .lt 18, 3) := by decide +kernel
theorem dX5_operand_27 : decode cX5_operand 27 = .ok (.iload_n 3, 1) := by decide +kernel
theorem dX5_operand_28 : decode cX5_operand 28 = .ok (.iload_n 2, 1) := by decide +kernel
theorem dX5_operand_29 : decode cX5_operand 29 = .ok (.iconst 1, 1) := by decide +kernel
theorem dX5_operand_30 : decode cX5_operand 30 = .ok (.if_icmp .ne 8, 3) := by decide +kernel
theorem dX5_operand_33 : decode cX5_operand 33 = .ok (.bipush 15, 2) := by decide +kernel
theorem dX5_operand_35 : decode cX5_operand 35 = .ok (.goto 4, 3) := by decide +kernel
theorem dX5_operand_38 : decode cX5_operand 38 = .ok (.iconst 0, 1) := by decide +kernel
theorem dX5_operand_39 : decode cX5_operand 39 = .ok (.if_icmp .le 5, 3) := by decide +kernel
theorem dX5_operand_42 : decode cX5_operand 42 = .ok (.iconst 0, 1) := by decide +kernel
theorem dX5_operand_43 : decode cX5_operand 43 = .ok (.ireturn, 1) := by decide +kernel
theorem dX5_operand_44 : decode cX5_operand 44 = .ok (.aload_n 0, 1) := by decide +kernel
theorem dX5_operand_45 : decode cX5_operand 45 = .ok (.getfield 50, 3) := by decide +kernel
theorem dX5_operand_48 : decode cX5_operand 48 = .ok (.iload_n 1, 1) := by decide +kernel
theorem dX5_operand_49 : decode cX5_operand 49 = .ok (.iload_n 2, 1) := by decide +kernel
theorem dX5_operand_50 : decode cX5_operand 50 = .ok (.iastore, 1) := by decide +kernel
theorem dX5_operand_51 : decode cX5_operand 51 = .ok (.aload_n 0, 1) := by decide +kernel
theorem dX5_operand_52 : decode cX5_operand 52 = .ok (.getfield 54, 3) := by decide +kernel
theorem dX5_operand_55 : decode cX5_operand 55 = .ok (.iload_n 1, 1) := by decide +kernel
theorem dX5_operand_56 : decode cX5_operand 56 = .ok (.iload_n 3, 1) := by decide +kernel
theorem dX5_operand_57 : decode cX5_operand 57 = .ok (.iastore, 1) := by decide +kernel
theorem dX5_operand_58 : decode cX5_operand 58 = .ok (.iconst 1, 1) := by decide +kernel
theorem dX5_operand_59 : decode cX5_operand 59 = .ok (.ireturn, 1) := by decide +kernel
theorem dX5_memory_0 : decode cX5_memory 0 = .ok (.aload_n 0, 1) := by decide +kernel
theorem dX5_memory_1 : decode cX5_memory 1 = .ok (.iconst 0, 1) := by decide +kernel
theorem dX5_memory_2 : decode cX5_memory 2 = .ok (.putfield 61, 3) := by decide +kernel
theorem dX5_memory_5 : decode cX5_memory 5 = .ok (.aload_n 0, 1) := by decide +kernel
theorem dX5_memory_6 : decode cX5_memory 6 = .ok (.iload_n 1, 1) := by decide +kernel
theorem dX5_memory_7 : decode cX5_memory 7 = .ok (.putfield 41, 3) := by decide +kernel
theorem dX5_memory_10 : decode cX5_memory 10 = .ok (.aload_n 0, 1) := by decide +kernel
theorem dX5_memory_11 : decode cX5_memory 11 = .ok (.iload_n 2, 1) := by decide +kernel
theorem dX5_memory_12 : decode cX5_memory 12 = .ok (.putfield 44, 3) := by decide +kernel
theorem dX5_memory_15 : decode cX5_memory 15 = .ok (.aload_n 0, 1) := by decide +kernel
theorem dX5_memory_16 : decode cX5_memory 16 = .ok (.iload_n 3, 1) := by decide +kernel
theorem dX5_memory_17 : decode cX5_memory 17 = .ok (.putfield 47, 3) := by decide +kernel
theorem dX5_memory_20 : decode cX5_memory 20 = .ok (.aload_n 0, 1) := by decide +kernel
theorem dX5_memory_21 : decode cX5_memory 21 = .ok (.iload 4, 2) := by decide +kernel
theorem dX5_memory_23 : decode cX5_memory 23 = .ok (.putfield 120, 3) := by decide +kernel
theorem dX5_memory_26 : decode cX5_memory 26 = .ok (.return_, 1) := by decide +kernel
theorem dX5_number_0 : decode cX5_number 0 = .ok (.aload_n 0, 1) := by decide +kernel
theorem dX5_number_1 : decode cX5_number 1 = .ok (.iconst 0, 1) := by decide +kernel
theorem dX5_number_2 : decode cX5_number 2 = .ok (.putfield 61, 3) := by decide +kernel
theorem dX5_number_5 : decode cX5_number 5 = .ok (.aload_n 0, 1) := by decide +kernel
theorem dX5_number_6 : decode cX5_number 6 = .ok (.lload_n 1, 1) := by decide +kernel
theorem dX5_number_7 : decode cX5_number 7 = .ok (.putfield 123, 3) := by decide +kernel
theorem dX5_number_10 : decode cX5_number 10 = .ok (.return_, 1) := by decide +kernel
theorem dX5_step_0 : decode cX5_step 0 = .ok (.aload_n 0, 1) := by decide +kernel
theorem dX5_step_1 : decode cX5_step 1 = .ok (.iconst 0, 1) := by decide +kernel
theorem dX5_step_2 : decode cX5_step 2 = .ok (.putfield 61, 3) := by decide +kernel
theorem dX5_step_5 : decode cX5_step 5 = .ok (.iload_n 1, 1) := by decide +kernel
theorem dX5_step_6 : decode cX5_step 6 = .ok (.iconst 1, 1) := by decide +kernel
theorem dX5_step_7 : decode cX5_step 7 = .ok (.if_icmp .lt 24, 3) := by decide +kernel
theorem dX5_step_10 : decode cX5_step 10 = .ok (.iload_n 1, 1) := by decide +kernel
theorem dX5_step_11 : decode cX5_step 11 = .ok (.bipush 15, 2) := by decide +kernel
theorem dX5_step_13 : decode cX5_step 13 = .ok (.if_icmp .gt 18, 3) := by decide +kernel
theorem dX5_step_16 : decode cX5_step 16 = .ok (.aload_n 0, 1) := by decide +kernel
theorem dX5_step_17 : decode cX5_step 17 = .ok (.getfield 103, 3) := by decide +kernel
theorem dX5_step_20 : decode cX5_step 20 = .ok (.iconst 1, 1) := by decide +kernel
theorem dX5_step_21 : decode cX5_step 21 = .ok (.if_icmp .eq 10, 3) := by decide +kernel
theorem dX5_step_24 : decode cX5_step 24 = .ok (.aload_n 0, 1) := by decide +kernel
theorem dX5_step_25 : decode cX5_step 25 = .ok (.invokevirtual 371, 3) := by decide +kernel
theorem dX5_step_28 : decode cX5_step 28 = .ok (.ifCond .ne 5, 3) := by decide +kernel
theorem dX5_step_31 : decode cX5_step 31 = .ok (.iconst (-1), 1) := by decide +kernel
theorem dX5_step_32 : decode cX5_step 32 = .ok (.ireturn, 1) := by decide +kernel
theorem dX5_step_33 : decode cX5_step 33 = .ok (.aload_n 0, 1) := by decide +kernel
theorem dX5_step_34 : decode cX5_step 34 = .ok (.iload_n 1, 1) := by decide +kernel
theorem dX5_step_35 : decode cX5_step 35 = .ok (.putfield 305, 3) := by decide +kernel
theorem dX5_step_38 : decode cX5_step 38 = .ok (.aload_n 0, 1) := by decide +kernel
theorem dX5_step_39 : decode cX5_step 39 = .ok (.iconst 0, 1) := by decide +kernel
theorem dX5_step_40 : decode cX5_step 40 = .ok (.putfield 170, 3) := by decide +kernel
theorem dX5_step_43 : decode cX5_step 43 = .ok (.aload_n 0, 1) := by decide +kernel
theorem dX5_step_44 : decode cX5_step 44 = .ok (.lconst 0, 1) := by decide +kernel
theorem dX5_step_45 : decode cX5_step 45 = .ok (.putfield 173, 3) := by decide +kernel
theorem dX5_step_48 : decode cX5_step 48 = .ok (.aload_n 0, 1) := by decide +kernel
theorem dX5_step_49 : decode cX5_step 49 = .ok (.getfield 90, 3) := by decide +kernel
theorem dX5_step_52 : decode cX5_step 52 = .ok (.lstore_n 2, 1) := by decide +kernel
theorem dX5_step_53 : decode cX5_step 53 = .ok (.aload_n 0, 1) := by decide +kernel
theorem dX5_step_54 : decode cX5_step 54 = .ok (.invokevirtual 310, 3) := by decide +kernel
theorem dX5_step_57 : decode cX5_step 57 = .ok (.lstore 4, 2) := by decide +kernel
theorem dX5_step_59 : decode cX5_step 59 = .ok (.iconst 0, 1) := by decide +kernel
theorem dX5_step_60 : decode cX5_step 60 = .ok (.istore 6, 2) := by decide +kernel
theorem dX5_step_62 : decode cX5_step 62 = .ok (.iload 6, 2) := by decide +kernel
theorem dX5_step_64 : decode cX5_step 64 = .ok (.bipush 16, 2) := by decide +kernel
theorem dX5_step_66 : decode cX5_step 66 = .ok (.if_icmp .ge 23, 3) := by decide +kernel
theorem dX5_step_69 : decode cX5_step 69 = .ok (.aload_n 0, 1) := by decide +kernel
theorem dX5_step_70 : decode cX5_step 70 = .ok (.getfield 34, 3) := by decide +kernel
theorem dX5_step_73 : decode cX5_step 73 = .ok (.iload 6, 2) := by decide +kernel
theorem dX5_step_75 : decode cX5_step 75 = .ok (.aload_n 0, 1) := by decide +kernel
theorem dX5_step_76 : decode cX5_step 76 = .ok (.getfield 30, 3) := by decide +kernel
theorem dX5_step_79 : decode cX5_step 79 = .ok (.iload 6, 2) := by decide +kernel
theorem dX5_step_81 : decode cX5_step 81 = .ok (.laload, 1) := by decide +kernel
theorem dX5_step_82 : decode cX5_step 82 = .ok (.lastore, 1) := by decide +kernel
theorem dX5_step_83 : decode cX5_step 83 = .ok (.iinc 6 1, 3) := by decide +kernel
theorem dX5_step_86 : decode cX5_step 86 = .ok (.goto (-24), 3) := by decide +kernel
theorem dX5_step_89 : decode cX5_step 89 = .ok (.aload_n 0, 1) := by decide +kernel
theorem dX5_step_90 : decode cX5_step 90 = .ok (.dup, 1) := by decide +kernel
theorem dX5_step_91 : decode cX5_step 91 = .ok (.getfield 90, 3) := by decide +kernel
theorem dX5_step_94 : decode cX5_step 94 = .ok (.aload_n 0, 1) := by decide +kernel
theorem dX5_step_95 : decode cX5_step 95 = .ok (.getfield 305, 3) := by decide +kernel
theorem dX5_step_98 : decode cX5_step 98 = .ok (.i2l, 1) := by decide +kernel
theorem dX5_step_99 : decode cX5_step 99 = .ok (.ladd, 1) := by decide +kernel
theorem dX5_step_100 : decode cX5_step 100 = .ok (.putfield 90, 3) := by decide +kernel
theorem dX5_step_103 : decode cX5_step 103 = .ok (.aload_n 0, 1) := by decide +kernel
theorem dX5_step_104 : decode cX5_step 104 = .ok (.aload_n 0, 1) := by decide +kernel
theorem dX5_step_105 : decode cX5_step 105 = .ok (.getfield 50, 3) := by decide +kernel
theorem dX5_step_108 : decode cX5_step 108 = .ok (.iconst 0, 1) := by decide +kernel
theorem dX5_step_109 : decode cX5_step 109 = .ok (.iaload, 1) := by decide +kernel
theorem dX5_step_110 : decode cX5_step 110 = .ok (.iconst 2, 1) := by decide +kernel
theorem dX5_step_111 : decode cX5_step 111 = .ok (.if_icmp .eq 23, 3) := by decide +kernel
theorem dX5_step_114 : decode cX5_step 114 = .ok (.aload_n 0, 1) := by decide +kernel
theorem dX5_step_115 : decode cX5_step 115 = .ok (.getfield 50, 3) := by decide +kernel
theorem dX5_step_118 : decode cX5_step 118 = .ok (.iconst 1, 1) := by decide +kernel
theorem dX5_step_119 : decode cX5_step 119 = .ok (.iaload, 1) := by decide +kernel
theorem dX5_step_120 : decode cX5_step 120 = .ok (.iconst 2, 1) := by decide +kernel
theorem dX5_step_121 : decode cX5_step 121 = .ok (.if_icmp .eq 13, 3) := by decide +kernel
theorem dX5_step_124 : decode cX5_step 124 = .ok (.aload_n 0, 1) := by decide +kernel
theorem dX5_step_125 : decode cX5_step 125 = .ok (.getfield 50, 3) := by decide +kernel
theorem dX5_step_128 : decode cX5_step 128 = .ok (.iconst 2, 1) := by decide +kernel
theorem dX5_step_129 : decode cX5_step 129 = .ok (.iaload, 1) := by decide +kernel
theorem dX5_step_130 : decode cX5_step 130 = .ok (.iconst 2, 1) := by decide +kernel
theorem dX5_step_131 : decode cX5_step 131 = .ok (.if_icmp .ne 10, 3) := by decide +kernel
theorem dX5_step_134 : decode cX5_step 134 = .ok (.aload_n 0, 1) := by decide +kernel
theorem dX5_step_135 : decode cX5_step 135 = .ok (.invokevirtual 271, 3) := by decide +kernel
theorem dX5_step_138 : decode cX5_step 138 = .ok (.goto 4, 3) := by decide +kernel
theorem dX5_step_141 : decode cX5_step 141 = .ok (.lconst 0, 1) := by decide +kernel
theorem dX5_step_142 : decode cX5_step 142 = .ok (.putfield 204, 3) := by decide +kernel
theorem dX5_step_145 : decode cX5_step 145 = .ok (.aload_n 0, 1) := by decide +kernel
theorem dX5_step_146 : decode cX5_step 146 = .ok (.invokevirtual 374, 3) := by decide +kernel
theorem dX5_step_149 : decode cX5_step 149 = .ok (.aload_n 0, 1) := by decide +kernel
theorem dX5_step_150 : decode cX5_step 150 = .ok (.aload_n 0, 1) := by decide +kernel
theorem dX5_step_151 : decode cX5_step 151 = .ok (.getfield 170, 3) := by decide +kernel
theorem dX5_step_154 : decode cX5_step 154 = .ok (.putfield 103, 3) := by decide +kernel
theorem dX5_step_157 : decode cX5_step 157 = .ok (.aload_n 0, 1) := by decide +kernel
theorem dX5_step_158 : decode cX5_step 158 = .ok (.aload_n 0, 1) := by decide +kernel
theorem dX5_step_159 : decode cX5_step 159 = .ok (.getfield 173, 3) := by decide +kernel
theorem dX5_step_162 : decode cX5_step 162 = .ok (.putfield 106, 3) := by decide +kernel
theorem dX5_step_165 : decode cX5_step 165 = .ok (.aload_n 0, 1) := by decide +kernel
theorem dX5_step_166 : decode cX5_step 166 = .ok (.getfield 170, 3) := by decide +kernel
theorem dX5_step_169 : decode cX5_step 169 = .ok (.ifCond .eq 20, 3) := by decide +kernel
theorem dX5_step_172 : decode cX5_step 172 = .ok (.aload_n 0, 1) := by decide +kernel
theorem dX5_step_173 : decode cX5_step 173 = .ok (.getfield 170, 3) := by decide +kernel
theorem dX5_step_176 : decode cX5_step 176 = .ok (.iconst 1, 1) := by decide +kernel
theorem dX5_step_177 : decode cX5_step 177 = .ok (.if_icmp .eq 12, 3) := by decide +kernel
theorem dX5_step_180 : decode cX5_step 180 = .ok (.aload_n 0, 1) := by decide +kernel
theorem dX5_step_181 : decode cX5_step 181 = .ok (.getfield 170, 3) := by decide +kernel
theorem dX5_step_184 : decode cX5_step 184 = .ok (.bipush 6, 2) := by decide +kernel
theorem dX5_step_186 : decode cX5_step 186 = .ok (.if_icmp .ne 18, 3) := by decide +kernel
theorem dX5_step_189 : decode cX5_step 189 = .ok (.aload_n 0, 1) := by decide +kernel
theorem dX5_step_190 : decode cX5_step 190 = .ok (.dup, 1) := by decide +kernel
theorem dX5_step_191 : decode cX5_step 191 = .ok (.getfield 109, 3) := by decide +kernel
theorem dX5_step_194 : decode cX5_step 194 = .ok (.lconst 1, 1) := by decide +kernel
theorem dX5_step_195 : decode cX5_step 195 = .ok (.ladd, 1) := by decide +kernel
theorem dX5_step_196 : decode cX5_step 196 = .ok (.putfield 109, 3) := by decide +kernel
theorem dX5_step_199 : decode cX5_step 199 = .ok (.aload_n 0, 1) := by decide +kernel
theorem dX5_step_200 : decode cX5_step 200 = .ok (.getfield 170, 3) := by decide +kernel
theorem dX5_step_203 : decode cX5_step 203 = .ok (.ireturn, 1) := by decide +kernel
theorem dX5_step_204 : decode cX5_step 204 = .ok (.iconst 0, 1) := by decide +kernel
theorem dX5_step_205 : decode cX5_step 205 = .ok (.istore 6, 2) := by decide +kernel
theorem dX5_step_207 : decode cX5_step 207 = .ok (.iload 6, 2) := by decide +kernel
theorem dX5_step_209 : decode cX5_step 209 = .ok (.bipush 16, 2) := by decide +kernel
theorem dX5_step_211 : decode cX5_step 211 = .ok (.if_icmp .ge 23, 3) := by decide +kernel
theorem dX5_step_214 : decode cX5_step 214 = .ok (.aload_n 0, 1) := by decide +kernel
theorem dX5_step_215 : decode cX5_step 215 = .ok (.getfield 30, 3) := by decide +kernel
theorem dX5_step_218 : decode cX5_step 218 = .ok (.iload 6, 2) := by decide +kernel
theorem dX5_step_220 : decode cX5_step 220 = .ok (.aload_n 0, 1) := by decide +kernel
theorem dX5_step_221 : decode cX5_step 221 = .ok (.getfield 34, 3) := by decide +kernel
theorem dX5_step_224 : decode cX5_step 224 = .ok (.iload 6, 2) := by decide +kernel
theorem dX5_step_226 : decode cX5_step 226 = .ok (.laload, 1) := by decide +kernel
theorem dX5_step_227 : decode cX5_step 227 = .ok (.lastore, 1) := by decide +kernel
theorem dX5_step_228 : decode cX5_step 228 = .ok (.iinc 6 1, 3) := by decide +kernel
theorem dX5_step_231 : decode cX5_step 231 = .ok (.goto (-24), 3) := by decide +kernel
theorem dX5_step_234 : decode cX5_step 234 = .ok (.aload_n 0, 1) := by decide +kernel
theorem dX5_step_235 : decode cX5_step 235 = .ok (.lload 4, 2) := by decide +kernel
theorem dX5_step_237 : decode cX5_step 237 = .ok (.invokevirtual 84, 3) := by decide +kernel
theorem dX5_step_240 : decode cX5_step 240 = .ok (.aload_n 0, 1) := by decide +kernel
theorem dX5_step_241 : decode cX5_step 241 = .ok (.lload_n 2, 1) := by decide +kernel
theorem dX5_step_242 : decode cX5_step 242 = .ok (.putfield 90, 3) := by decide +kernel
theorem dX5_step_245 : decode cX5_step 245 = .ok (.aload_n 0, 1) := by decide +kernel
theorem dX5_step_246 : decode cX5_step 246 = .ok (.getfield 170, 3) := by decide +kernel
theorem dX5_step_249 : decode cX5_step 249 = .ok (.ireturn, 1) := by decide +kernel
theorem dX5_isSound_0 : decode cX5_isSound 0 = .ok (.aload_n 0, 1) := by decide +kernel
theorem dX5_isSound_1 : decode cX5_isSound 1 = .ok (.getfield 37, 3) := by decide +kernel
theorem dX5_isSound_4 : decode cX5_isSound 4 = .ok (.ifCond .lt 26, 3) := by decide +kernel
theorem dX5_isSound_7 : decode cX5_isSound 7 = .ok (.aload_n 0, 1) := by decide +kernel
theorem dX5_isSound_8 : decode cX5_isSound 8 = .ok (.getfield 37, 3) := by decide +kernel
theorem dX5_isSound_11 : decode cX5_isSound 11 = .ok (.bipush 53, 2) := by decide +kernel
theorem dX5_isSound_13 : decode cX5_isSound 13 = .ok (.if_icmp .gt 17, 3) := by decide +kernel
theorem dX5_isSound_16 : decode cX5_isSound 16 = .ok (.aload_n 0, 1) := by decide +kernel
theorem dX5_isSound_17 : decode cX5_isSound 17 = .ok (.invokevirtual 149, 3) := by decide +kernel
theorem dX5_isSound_20 : decode cX5_isSound 20 = .ok (.ifCond .eq 10, 3) := by decide +kernel
theorem dX5_isSound_23 : decode cX5_isSound 23 = .ok (.aload_n 0, 1) := by decide +kernel
theorem dX5_isSound_24 : decode cX5_isSound 24 = .ok (.invokevirtual 153, 3) := by decide +kernel
theorem dX5_isSound_27 : decode cX5_isSound 27 = .ok (.ifCond .ne 5, 3) := by decide +kernel
theorem dX5_isSound_30 : decode cX5_isSound 30 = .ok (.iconst 0, 1) := by decide +kernel
theorem dX5_isSound_31 : decode cX5_isSound 31 = .ok (.ireturn, 1) := by decide +kernel
theorem dX5_isSound_32 : decode cX5_isSound 32 = .ok (.aload_n 0, 1) := by decide +kernel
theorem dX5_isSound_33 : decode cX5_isSound 33 = .ok (.getfield 37, 3) := by decide +kernel
theorem dX5_isSound_36 : decode cX5_isSound 36 = .ok (.bipush 33, 2) := by decide +kernel
theorem dX5_isSound_38 : decode cX5_isSound 38 = .ok (.if_icmp .le 36, 3) := by decide +kernel
theorem dX5_isSound_41 : decode cX5_isSound 41 = .ok (.aload_n 0, 1) := by decide +kernel
theorem dX5_isSound_42 : decode cX5_isSound 42 = .ok (.getfield 37, 3) := by decide +kernel
theorem dX5_isSound_45 : decode cX5_isSound 45 = .ok (.bipush 37, 2) := by decide +kernel
theorem dX5_isSound_47 : decode cX5_isSound 47 = .ok (.if_icmp .ge 27, 3) := by decide +kernel
theorem dX5_isSound_50 : decode cX5_isSound 50 = .ok (.aload_n 0, 1) := by decide +kernel
theorem dX5_isSound_51 : decode cX5_isSound 51 = .ok (.getfield 117, 3) := by decide +kernel
theorem dX5_isSound_54 : decode cX5_isSound 54 = .ok (.ifCond .lt 16, 3) := by decide +kernel
theorem dX5_isSound_57 : decode cX5_isSound 57 = .ok (.aload_n 0, 1) := by decide +kernel
theorem dX5_isSound_58 : decode cX5_isSound 58 = .ok (.getfield 117, 3) := by decide +kernel
theorem dX5_isSound_61 : decode cX5_isSound 61 = .ok (.bipush 16, 2) := by decide +kernel
theorem dX5_isSound_63 : decode cX5_isSound 63 = .ok (.if_icmp .ge 7, 3) := by decide +kernel
theorem dX5_isSound_66 : decode cX5_isSound 66 = .ok (.iconst 1, 1) := by decide +kernel
theorem dX5_isSound_67 : decode cX5_isSound 67 = .ok (.goto 19, 3) := by decide +kernel
theorem dX5_isSound_70 : decode cX5_isSound 70 = .ok (.iconst 0, 1) := by decide +kernel
theorem dX5_isSound_71 : decode cX5_isSound 71 = .ok (.goto 15, 3) := by decide +kernel
theorem dX5_isSound_74 : decode cX5_isSound 74 = .ok (.aload_n 0, 1) := by decide +kernel
theorem dX5_isSound_75 : decode cX5_isSound 75 = .ok (.getfield 117, 3) := by decide +kernel
theorem dX5_isSound_78 : decode cX5_isSound 78 = .ok (.ifCond .ne 7, 3) := by decide +kernel
theorem dX5_isSound_81 : decode cX5_isSound 81 = .ok (.iconst 1, 1) := by decide +kernel
theorem dX5_isSound_82 : decode cX5_isSound 82 = .ok (.goto 4, 3) := by decide +kernel
theorem dX5_isSound_85 : decode cX5_isSound 85 = .ok (.iconst 0, 1) := by decide +kernel
theorem dX5_isSound_86 : decode cX5_isSound 86 = .ok (.istore_n 1, 1) := by decide +kernel
theorem dX5_isSound_87 : decode cX5_isSound 87 = .ok (.iconst 0, 1) := by decide +kernel
theorem dX5_isSound_88 : decode cX5_isSound 88 = .ok (.istore_n 2, 1) := by decide +kernel
theorem dX5_isSound_89 : decode cX5_isSound 89 = .ok (.iconst 0, 1) := by decide +kernel
theorem dX5_isSound_90 : decode cX5_isSound 90 = .ok (.istore_n 3, 1) := by decide +kernel
theorem dX5_isSound_91 : decode cX5_isSound 91 = .ok (.iload_n 3, 1) := by decide +kernel
theorem dX5_isSound_92 : decode cX5_isSound 92 = .ok (.iconst 3, 1) := by decide +kernel
theorem dX5_isSound_93 : decode cX5_isSound 93 = .ok (.if_icmp .ge 27, 3) := by decide +kernel
theorem dX5_isSound_96 : decode cX5_isSound 96 = .ok (.iload_n 2, 1) := by decide +kernel
theorem dX5_isSound_97 : decode cX5_isSound 97 = .ok (.aload_n 0, 1) := by decide +kernel
theorem dX5_isSound_98 : decode cX5_isSound 98 = .ok (.getfield 50, 3) := by decide +kernel
theorem dX5_isSound_101 : decode cX5_isSound 101 = .ok (.iload_n 3, 1) := by decide +kernel
theorem dX5_isSound_102 : decode cX5_isSound 102 = .ok (.iaload, 1) := by decide +kernel
theorem dX5_isSound_103 : decode cX5_isSound 103 = .ok (.iconst 2, 1) := by decide +kernel
theorem dX5_isSound_104 : decode cX5_isSound 104 = .ok (.if_icmp .ne 7, 3) := by decide +kernel
theorem dX5_isSound_107 : decode cX5_isSound 107 = .ok (.iconst 1, 1) := by decide +kernel
theorem dX5_isSound_108 : decode cX5_isSound 108 = .ok (.goto 4, 3) := by decide +kernel
theorem dX5_isSound_111 : decode cX5_isSound 111 = .ok (.iconst 0, 1) := by decide +kernel
theorem dX5_isSound_112 : decode cX5_isSound 112 = .ok (.iadd, 1) := by decide +kernel
theorem dX5_isSound_113 : decode cX5_isSound 113 = .ok (.istore_n 2, 1) := by decide +kernel
theorem dX5_isSound_114 : decode cX5_isSound 114 = .ok (.iinc 3 1, 3) := by decide +kernel
theorem dX5_isSound_117 : decode cX5_isSound 117 = .ok (.goto (-26), 3) := by decide +kernel
theorem dX5_isSound_120 : decode cX5_isSound 120 = .ok (.iload_n 1, 1) := by decide +kernel
theorem dX5_isSound_121 : decode cX5_isSound 121 = .ok (.ifCond .eq 23, 3) := by decide +kernel
theorem dX5_isSound_124 : decode cX5_isSound 124 = .ok (.iload_n 2, 1) := by decide +kernel
theorem dX5_isSound_125 : decode cX5_isSound 125 = .ok (.iconst 2, 1) := by decide +kernel
theorem dX5_isSound_126 : decode cX5_isSound 126 = .ok (.if_icmp .ge 18, 3) := by decide +kernel
theorem dX5_isSound_129 : decode cX5_isSound 129 = .ok (.iload_n 2, 1) := by decide +kernel
theorem dX5_isSound_130 : decode cX5_isSound 130 = .ok (.ifCond .eq 10, 3) := by decide +kernel
theorem dX5_isSound_133 : decode cX5_isSound 133 = .ok (.aload_n 0, 1) := by decide +kernel
theorem dX5_isSound_134 : decode cX5_isSound 134 = .ok (.invokevirtual 156, 3) := by decide +kernel
theorem dX5_isSound_137 : decode cX5_isSound 137 = .ok (.ifCond .eq 7, 3) := by decide +kernel
theorem dX5_isSound_140 : decode cX5_isSound 140 = .ok (.iconst 1, 1) := by decide +kernel
theorem dX5_isSound_141 : decode cX5_isSound 141 = .ok (.goto 4, 3) := by decide +kernel
theorem dX5_isSound_144 : decode cX5_isSound 144 = .ok (.iconst 0, 1) := by decide +kernel
theorem dX5_isSound_145 : decode cX5_isSound 145 = .ok (.ireturn, 1) := by decide +kernel
theorem dX5_sizeFits_0 : decode cX5_sizeFits 0 = .ok (.aload_n 0, 1) := by decide +kernel
theorem dX5_sizeFits_1 : decode cX5_sizeFits 1 = .ok (.getfield 114, 3) := by decide +kernel
theorem dX5_sizeFits_4 : decode cX5_sizeFits 4 = .ok (.iconst 1, 1) := by decide +kernel
theorem dX5_sizeFits_5 : decode cX5_sizeFits 5 = .ok (.if_icmp .eq 20, 3) := by decide +kernel
theorem dX5_sizeFits_8 : decode cX5_sizeFits 8 = .ok (.aload_n 0, 1) := by decide +kernel
theorem dX5_sizeFits_9 : decode cX5_sizeFits 9 = .ok (.getfield 114, 3) := by decide +kernel
theorem dX5_sizeFits_12 : decode cX5_sizeFits 12 = .ok (.iconst 4, 1) := by decide +kernel
theorem dX5_sizeFits_13 : decode cX5_sizeFits 13 = .ok (.if_icmp .eq 12, 3) := by decide +kernel
theorem dX5_sizeFits_16 : decode cX5_sizeFits 16 = .ok (.aload_n 0, 1) := by decide +kernel
theorem dX5_sizeFits_17 : decode cX5_sizeFits 17 = .ok (.getfield 114, 3) := by decide +kernel
theorem dX5_sizeFits_20 : decode cX5_sizeFits 20 = .ok (.bipush 8, 2) := by decide +kernel
theorem dX5_sizeFits_22 : decode cX5_sizeFits 22 = .ok (.if_icmp .ne 7, 3) := by decide +kernel
theorem dX5_sizeFits_25 : decode cX5_sizeFits 25 = .ok (.iconst 1, 1) := by decide +kernel
theorem dX5_sizeFits_26 : decode cX5_sizeFits 26 = .ok (.goto 4, 3) := by decide +kernel
theorem dX5_sizeFits_29 : decode cX5_sizeFits 29 = .ok (.iconst 0, 1) := by decide +kernel
theorem dX5_sizeFits_30 : decode cX5_sizeFits 30 = .ok (.istore_n 1, 1) := by decide +kernel
theorem dX5_sizeFits_31 : decode cX5_sizeFits 31 = .ok (.aload_n 0, 1) := by decide +kernel
theorem dX5_sizeFits_32 : decode cX5_sizeFits 32 = .ok (.getfield 114, 3) := by decide +kernel
theorem dX5_sizeFits_35 : decode cX5_sizeFits 35 = .ok (.iconst 4, 1) := by decide +kernel
theorem dX5_sizeFits_36 : decode cX5_sizeFits 36 = .ok (.if_icmp .eq 12, 3) := by decide +kernel
theorem dX5_sizeFits_39 : decode cX5_sizeFits 39 = .ok (.aload_n 0, 1) := by decide +kernel
theorem dX5_sizeFits_40 : decode cX5_sizeFits 40 = .ok (.getfield 114, 3) := by decide +kernel
theorem dX5_sizeFits_43 : decode cX5_sizeFits 43 = .ok (.bipush 8, 2) := by decide +kernel
theorem dX5_sizeFits_45 : decode cX5_sizeFits 45 = .ok (.if_icmp .ne 7, 3) := by decide +kernel
theorem dX5_sizeFits_48 : decode cX5_sizeFits 48 = .ok (.iconst 1, 1) := by decide +kernel
theorem dX5_sizeFits_49 : decode cX5_sizeFits 49 = .ok (.goto 4, 3) := by decide +kernel
theorem dX5_sizeFits_52 : decode cX5_sizeFits 52 = .ok (.iconst 0, 1) := by decide +kernel
theorem dX5_sizeFits_53 : decode cX5_sizeFits 53 = .ok (.istore_n 2, 1) := by decide +kernel
theorem dX5_sizeFits_54 : decode cX5_sizeFits 54 = .ok (.aload_n 0, 1) := by decide +kernel
theorem dX5_sizeFits_55 : decode cX5_sizeFits 55 = .ok (.getfield 37, 3) := by decide +kernel
theorem dX5_sizeFits_58 : decode cX5_sizeFits 58 = .ok (.bipush 14, 2) := by decide +kernel
theorem dX5_sizeFits_60 : decode cX5_sizeFits 60 = .ok (.if_icmp .eq 21, 3) := by decide +kernel
theorem dX5_sizeFits_63 : decode cX5_sizeFits 63 = .ok (.aload_n 0, 1) := by decide +kernel
theorem dX5_sizeFits_64 : decode cX5_sizeFits 64 = .ok (.getfield 37, 3) := by decide +kernel
theorem dX5_sizeFits_67 : decode cX5_sizeFits 67 = .ok (.bipush 29, 2) := by decide +kernel
theorem dX5_sizeFits_69 : decode cX5_sizeFits 69 = .ok (.if_icmp .eq 12, 3) := by decide +kernel
theorem dX5_sizeFits_72 : decode cX5_sizeFits 72 = .ok (.aload_n 0, 1) := by decide +kernel
theorem dX5_sizeFits_73 : decode cX5_sizeFits 73 = .ok (.getfield 37, 3) := by decide +kernel
theorem dX5_sizeFits_76 : decode cX5_sizeFits 76 = .ok (.bipush 30, 2) := by decide +kernel
theorem dX5_sizeFits_78 : decode cX5_sizeFits 78 = .ok (.if_icmp .ne 18, 3) := by decide +kernel
theorem dX5_sizeFits_81 : decode cX5_sizeFits 81 = .ok (.aload_n 0, 1) := by decide +kernel
theorem dX5_sizeFits_82 : decode cX5_sizeFits 82 = .ok (.getfield 114, 3) := by decide +kernel
theorem dX5_sizeFits_85 : decode cX5_sizeFits 85 = .ok (.bipush 8, 2) := by decide +kernel
theorem dX5_sizeFits_87 : decode cX5_sizeFits 87 = .ok (.if_icmp .ne 7, 3) := by decide +kernel
theorem dX5_sizeFits_90 : decode cX5_sizeFits 90 = .ok (.iconst 1, 1) := by decide +kernel
theorem dX5_sizeFits_91 : decode cX5_sizeFits 91 = .ok (.goto 4, 3) := by decide +kernel
theorem dX5_sizeFits_94 : decode cX5_sizeFits 94 = .ok (.iconst 0, 1) := by decide +kernel
theorem dX5_sizeFits_95 : decode cX5_sizeFits 95 = .ok (.ireturn, 1) := by decide +kernel
theorem dX5_sizeFits_96 : decode cX5_sizeFits 96 = .ok (.aload_n 0, 1) := by decide +kernel
theorem dX5_sizeFits_97 : decode cX5_sizeFits 97 = .ok (.getfield 37, 3) := by decide +kernel
theorem dX5_sizeFits_100 : decode cX5_sizeFits 100 = .ok (.bipush 35, 2) := by decide +kernel
theorem dX5_sizeFits_102 : decode cX5_sizeFits 102 = .ok (.if_icmp .ne 17, 3) := by decide +kernel
theorem dX5_sizeFits_105 : decode cX5_sizeFits 105 = .ok (.aload_n 0, 1) := by decide +kernel
theorem dX5_sizeFits_106 : decode cX5_sizeFits 106 = .ok (.getfield 114, 3) := by decide +kernel
theorem dX5_sizeFits_109 : decode cX5_sizeFits 109 = .ok (.iconst 1, 1) := by decide +kernel
theorem dX5_sizeFits_110 : decode cX5_sizeFits 110 = .ok (.if_icmp .ne 7, 3) := by decide +kernel
theorem dX5_sizeFits_113 : decode cX5_sizeFits 113 = .ok (.iconst 1, 1) := by decide +kernel
theorem dX5_sizeFits_114 : decode cX5_sizeFits 114 = .ok (.goto 4, 3) := by decide +kernel
theorem dX5_sizeFits_117 : decode cX5_sizeFits 117 = .ok (.iconst 0, 1) := by decide +kernel
theorem dX5_sizeFits_118 : decode cX5_sizeFits 118 = .ok (.ireturn, 1) := by decide +kernel
theorem dX5_sizeFits_119 : decode cX5_sizeFits 119 = .ok (.aload_n 0, 1) := by decide +kernel
theorem dX5_sizeFits_120 : decode cX5_sizeFits 120 = .ok (.getfield 37, 3) := by decide +kernel
theorem dX5_sizeFits_123 : decode cX5_sizeFits 123 = .ok (.bipush 30, 2) := by decide +kernel
theorem dX5_sizeFits_125 : decode cX5_sizeFits 125 = .ok (.if_icmp .le 12, 3) := by decide +kernel
theorem dX5_sizeFits_128 : decode cX5_sizeFits 128 = .ok (.aload_n 0, 1) := by decide +kernel
theorem dX5_sizeFits_129 : decode cX5_sizeFits 129 = .ok (.getfield 37, 3) := by decide +kernel
theorem dX5_sizeFits_132 : decode cX5_sizeFits 132 = .ok (.bipush 35, 2) := by decide +kernel
theorem dX5_sizeFits_134 : decode cX5_sizeFits 134 = .ok (.if_icmp .lt 21, 3) := by decide +kernel
theorem dX5_sizeFits_137 : decode cX5_sizeFits 137 = .ok (.aload_n 0, 1) := by decide +kernel
theorem dX5_sizeFits_138 : decode cX5_sizeFits 138 = .ok (.getfield 37, 3) := by decide +kernel
theorem dX5_sizeFits_141 : decode cX5_sizeFits 141 = .ok (.bipush 38, 2) := by decide +kernel
theorem dX5_sizeFits_143 : decode cX5_sizeFits 143 = .ok (.if_icmp .le 25, 3) := by decide +kernel
theorem dX5_sizeFits_146 : decode cX5_sizeFits 146 = .ok (.aload_n 0, 1) := by decide +kernel
theorem dX5_sizeFits_147 : decode cX5_sizeFits 147 = .ok (.getfield 37, 3) := by decide +kernel
theorem dX5_sizeFits_150 : decode cX5_sizeFits 150 = .ok (.bipush 44, 2) := by decide +kernel
theorem dX5_sizeFits_152 : decode cX5_sizeFits 152 = .ok (.if_icmp .ge 16, 3) := by decide +kernel
theorem dX5_sizeFits_155 : decode cX5_sizeFits 155 = .ok (.aload_n 0, 1) := by decide +kernel
theorem dX5_sizeFits_156 : decode cX5_sizeFits 156 = .ok (.getfield 114, 3) := by decide +kernel
theorem dX5_sizeFits_159 : decode cX5_sizeFits 159 = .ok (.ifCond .ne 7, 3) := by decide +kernel
theorem dX5_sizeFits_162 : decode cX5_sizeFits 162 = .ok (.iconst 1, 1) := by decide +kernel
theorem dX5_sizeFits_163 : decode cX5_sizeFits 163 = .ok (.goto 4, 3) := by decide +kernel
theorem dX5_sizeFits_166 : decode cX5_sizeFits 166 = .ok (.iconst 0, 1) := by decide +kernel
theorem dX5_sizeFits_167 : decode cX5_sizeFits 167 = .ok (.ireturn, 1) := by decide +kernel
theorem dX5_sizeFits_168 : decode cX5_sizeFits 168 = .ok (.aload_n 0, 1) := by decide +kernel
theorem dX5_sizeFits_169 : decode cX5_sizeFits 169 = .ok (.getfield 37, 3) := by decide +kernel
theorem dX5_sizeFits_172 : decode cX5_sizeFits 172 = .ok (.bipush 11, 2) := by decide +kernel
theorem dX5_sizeFits_174 : decode cX5_sizeFits 174 = .ok (.if_icmp .lt 66, 3) := by decide +kernel
theorem dX5_sizeFits_177 : decode cX5_sizeFits 177 = .ok (.aload_n 0, 1) := by decide +kernel
theorem dX5_sizeFits_178 : decode cX5_sizeFits 178 = .ok (.getfield 37, 3) := by decide +kernel
theorem dX5_sizeFits_181 : decode cX5_sizeFits 181 = .ok (.bipush 14, 2) := by decide +kernel
theorem dX5_sizeFits_183 : decode cX5_sizeFits 183 = .ok (.if_icmp .le 12, 3) := by decide +kernel
theorem dX5_sizeFits_186 : decode cX5_sizeFits 186 = .ok (.aload_n 0, 1) := by decide +kernel
theorem dX5_sizeFits_187 : decode cX5_sizeFits 187 = .ok (.getfield 37, 3) := by decide +kernel
theorem dX5_sizeFits_190 : decode cX5_sizeFits 190 = .ok (.bipush 23, 2) := by decide +kernel
theorem dX5_sizeFits_192 : decode cX5_sizeFits 192 = .ok (.if_icmp .lt 48, 3) := by decide +kernel
theorem dX5_sizeFits_195 : decode cX5_sizeFits 195 = .ok (.aload_n 0, 1) := by decide +kernel
theorem dX5_sizeFits_196 : decode cX5_sizeFits 196 = .ok (.getfield 37, 3) := by decide +kernel
theorem dX5_sizeFits_199 : decode cX5_sizeFits 199 = .ok (.bipush 23, 2) := by decide +kernel
theorem dX5_sizeFits_201 : decode cX5_sizeFits 201 = .ok (.if_icmp .le 12, 3) := by decide +kernel
theorem dX5_sizeFits_204 : decode cX5_sizeFits 204 = .ok (.aload_n 0, 1) := by decide +kernel
theorem dX5_sizeFits_205 : decode cX5_sizeFits 205 = .ok (.getfield 37, 3) := by decide +kernel
theorem dX5_sizeFits_208 : decode cX5_sizeFits 208 = .ok (.bipush 29, 2) := by decide +kernel
theorem dX5_sizeFits_210 : decode cX5_sizeFits 210 = .ok (.if_icmp .lt 30, 3) := by decide +kernel
theorem dX5_sizeFits_213 : decode cX5_sizeFits 213 = .ok (.aload_n 0, 1) := by decide +kernel
theorem dX5_sizeFits_214 : decode cX5_sizeFits 214 = .ok (.getfield 37, 3) := by decide +kernel
theorem dX5_sizeFits_217 : decode cX5_sizeFits 217 = .ok (.bipush 48, 2) := by decide +kernel
theorem dX5_sizeFits_219 : decode cX5_sizeFits 219 = .ok (.if_icmp .eq 21, 3) := by decide +kernel
theorem dX5_sizeFits_222 : decode cX5_sizeFits 222 = .ok (.aload_n 0, 1) := by decide +kernel
theorem dX5_sizeFits_223 : decode cX5_sizeFits 223 = .ok (.getfield 37, 3) := by decide +kernel
theorem dX5_sizeFits_226 : decode cX5_sizeFits 226 = .ok (.bipush 49, 2) := by decide +kernel
theorem dX5_sizeFits_228 : decode cX5_sizeFits 228 = .ok (.if_icmp .eq 12, 3) := by decide +kernel
theorem dX5_sizeFits_231 : decode cX5_sizeFits 231 = .ok (.aload_n 0, 1) := by decide +kernel
theorem dX5_sizeFits_232 : decode cX5_sizeFits 232 = .ok (.getfield 37, 3) := by decide +kernel
theorem dX5_sizeFits_235 : decode cX5_sizeFits 235 = .ok (.bipush 49, 2) := by decide +kernel
theorem dX5_sizeFits_237 : decode cX5_sizeFits 237 = .ok (.if_icmp .le 7, 3) := by decide +kernel
theorem dX5_sizeFits_240 : decode cX5_sizeFits 240 = .ok (.iconst 1, 1) := by decide +kernel
theorem dX5_sizeFits_241 : decode cX5_sizeFits 241 = .ok (.goto 4, 3) := by decide +kernel
theorem dX5_sizeFits_244 : decode cX5_sizeFits 244 = .ok (.iconst 0, 1) := by decide +kernel
theorem dX5_sizeFits_245 : decode cX5_sizeFits 245 = .ok (.istore_n 3, 1) := by decide +kernel
theorem dX5_sizeFits_246 : decode cX5_sizeFits 246 = .ok (.iload_n 3, 1) := by decide +kernel
theorem dX5_sizeFits_247 : decode cX5_sizeFits 247 = .ok (.ifCond .eq 7, 3) := by decide +kernel
theorem dX5_sizeFits_250 : decode cX5_sizeFits 250 = .ok (.iload_n 1, 1) := by decide +kernel
theorem dX5_sizeFits_251 : decode cX5_sizeFits 251 = .ok (.goto 4, 3) := by decide +kernel
theorem dX5_sizeFits_254 : decode cX5_sizeFits 254 = .ok (.iload_n 2, 1) := by decide +kernel
theorem dX5_sizeFits_255 : decode cX5_sizeFits 255 = .ok (.ireturn, 1) := by decide +kernel
theorem dX5_operandsFit_0 : decode cX5_operandsFit 0 = .ok (.aload_n 0, 1) := by decide +kernel
theorem dX5_operandsFit_1 : decode cX5_operandsFit 1 = .ok (.getfield 50, 3) := by decide +kernel
theorem dX5_operandsFit_4 : decode cX5_operandsFit 4 = .ok (.iconst 0, 1) := by decide +kernel
theorem dX5_operandsFit_5 : decode cX5_operandsFit 5 = .ok (.iaload, 1) := by decide +kernel
theorem dX5_operandsFit_6 : decode cX5_operandsFit 6 = .ok (.istore_n 1, 1) := by decide +kernel
theorem dX5_operandsFit_7 : decode cX5_operandsFit 7 = .ok (.aload_n 0, 1) := by decide +kernel
theorem dX5_operandsFit_8 : decode cX5_operandsFit 8 = .ok (.getfield 50, 3) := by decide +kernel
theorem dX5_operandsFit_11 : decode cX5_operandsFit 11 = .ok (.iconst 1, 1) := by decide +kernel
theorem dX5_operandsFit_12 : decode cX5_operandsFit 12 = .ok (.iaload, 1) := by decide +kernel
theorem dX5_operandsFit_13 : decode cX5_operandsFit 13 = .ok (.istore_n 2, 1) := by decide +kernel
theorem dX5_operandsFit_14 : decode cX5_operandsFit 14 = .ok (.aload_n 0, 1) := by decide +kernel
theorem dX5_operandsFit_15 : decode cX5_operandsFit 15 = .ok (.getfield 50, 3) := by decide +kernel
theorem dX5_operandsFit_18 : decode cX5_operandsFit 18 = .ok (.iconst 2, 1) := by decide +kernel
theorem dX5_operandsFit_19 : decode cX5_operandsFit 19 = .ok (.iaload, 1) := by decide +kernel
theorem dX5_operandsFit_20 : decode cX5_operandsFit 20 = .ok (.ifCond .ne 7, 3) := by decide +kernel
theorem dX5_operandsFit_23 : decode cX5_operandsFit 23 = .ok (.iconst 1, 1) := by decide +kernel
theorem dX5_operandsFit_24 : decode cX5_operandsFit 24 = .ok (.goto 4, 3) := by decide +kernel
theorem dX5_operandsFit_27 : decode cX5_operandsFit 27 = .ok (.iconst 0, 1) := by decide +kernel
theorem dX5_operandsFit_28 : decode cX5_operandsFit 28 = .ok (.istore_n 3, 1) := by decide +kernel
theorem dX5_operandsFit_29 : decode cX5_operandsFit 29 = .ok (.iload_n 2, 1) := by decide +kernel
theorem dX5_operandsFit_30 : decode cX5_operandsFit 30 = .ok (.ifCond .ne 11, 3) := by decide +kernel
theorem dX5_operandsFit_33 : decode cX5_operandsFit 33 = .ok (.iload_n 3, 1) := by decide +kernel
theorem dX5_operandsFit_34 : decode cX5_operandsFit 34 = .ok (.ifCond .eq 7, 3) := by decide +kernel
theorem dX5_operandsFit_37 : decode cX5_operandsFit 37 = .ok (.iconst 1, 1) := by decide +kernel
theorem dX5_operandsFit_38 : decode cX5_operandsFit 38 = .ok (.goto 4, 3) := by decide +kernel
theorem dX5_operandsFit_41 : decode cX5_operandsFit 41 = .ok (.iconst 0, 1) := by decide +kernel
theorem dX5_operandsFit_42 : decode cX5_operandsFit 42 = .ok (.istore 4, 2) := by decide +kernel
theorem dX5_operandsFit_44 : decode cX5_operandsFit 44 = .ok (.aload_n 0, 1) := by decide +kernel
theorem dX5_operandsFit_45 : decode cX5_operandsFit 45 = .ok (.getfield 37, 3) := by decide +kernel
theorem dX5_operandsFit_48 : decode cX5_operandsFit 48 = .ok (.bipush 11, 2) := by decide +kernel
theorem dX5_operandsFit_50 : decode cX5_operandsFit 50 = .ok (.if_icmp .lt 21, 3) := by decide +kernel
theorem dX5_operandsFit_53 : decode cX5_operandsFit 53 = .ok (.aload_n 0, 1) := by decide +kernel
theorem dX5_operandsFit_54 : decode cX5_operandsFit 54 = .ok (.getfield 37, 3) := by decide +kernel
theorem dX5_operandsFit_57 : decode cX5_operandsFit 57 = .ok (.bipush 48, 2) := by decide +kernel
theorem dX5_operandsFit_59 : decode cX5_operandsFit 59 = .ok (.if_icmp .eq 12, 3) := by decide +kernel
theorem dX5_operandsFit_62 : decode cX5_operandsFit 62 = .ok (.aload_n 0, 1) := by decide +kernel
theorem dX5_operandsFit_63 : decode cX5_operandsFit 63 = .ok (.getfield 37, 3) := by decide +kernel
theorem dX5_operandsFit_66 : decode cX5_operandsFit 66 = .ok (.bipush 49, 2) := by decide +kernel
theorem dX5_operandsFit_68 : decode cX5_operandsFit 68 = .ok (.if_icmp .ne 70, 3) := by decide +kernel
theorem dX5_operandsFit_71 : decode cX5_operandsFit 71 = .ok (.iload_n 3, 1) := by decide +kernel
theorem dX5_operandsFit_72 : decode cX5_operandsFit 72 = .ok (.ifCond .eq 64, 3) := by decide +kernel
theorem dX5_operandsFit_75 : decode cX5_operandsFit 75 = .ok (.aload_n 0, 1) := by decide +kernel
theorem dX5_operandsFit_76 : decode cX5_operandsFit 76 = .ok (.iconst 0, 1) := by decide +kernel
theorem dX5_operandsFit_77 : decode cX5_operandsFit 77 = .ok (.invokevirtual 138, 3) := by decide +kernel
theorem dX5_operandsFit_80 : decode cX5_operandsFit 80 = .ok (.ifCond .eq 8, 3) := by decide +kernel
theorem dX5_operandsFit_83 : decode cX5_operandsFit 83 = .ok (.iload_n 2, 1) := by decide +kernel
theorem dX5_operandsFit_84 : decode cX5_operandsFit 84 = .ok (.iconst 1, 1) := by decide +kernel
theorem dX5_operandsFit_85 : decode cX5_operandsFit 85 = .ok (.if_icmp .eq 47, 3) := by decide +kernel
theorem dX5_operandsFit_88 : decode cX5_operandsFit 88 = .ok (.aload_n 0, 1) := by decide +kernel
theorem dX5_operandsFit_89 : decode cX5_operandsFit 89 = .ok (.getfield 37, 3) := by decide +kernel
theorem dX5_operandsFit_92 : decode cX5_operandsFit 92 = .ok (.bipush 9, 2) := by decide +kernel
theorem dX5_operandsFit_94 : decode cX5_operandsFit 94 = .ok (.if_icmp .ge 13, 3) := by decide +kernel
theorem dX5_operandsFit_97 : decode cX5_operandsFit 97 = .ok (.iload_n 1, 1) := by decide +kernel
theorem dX5_operandsFit_98 : decode cX5_operandsFit 98 = .ok (.iconst 1, 1) := by decide +kernel
theorem dX5_operandsFit_99 : decode cX5_operandsFit 99 = .ok (.if_icmp .ne 8, 3) := by decide +kernel
theorem dX5_operandsFit_102 : decode cX5_operandsFit 102 = .ok (.iload_n 2, 1) := by decide +kernel
theorem dX5_operandsFit_103 : decode cX5_operandsFit 103 = .ok (.iconst 2, 1) := by decide +kernel
theorem dX5_operandsFit_104 : decode cX5_operandsFit 104 = .ok (.if_icmp .eq 28, 3) := by decide +kernel
theorem dX5_operandsFit_107 : decode cX5_operandsFit 107 = .ok (.aload_n 0, 1) := by decide +kernel
theorem dX5_operandsFit_108 : decode cX5_operandsFit 108 = .ok (.getfield 37, 3) := by decide +kernel
theorem dX5_operandsFit_111 : decode cX5_operandsFit 111 = .ok (.bipush 10, 2) := by decide +kernel
theorem dX5_operandsFit_113 : decode cX5_operandsFit 113 = .ok (.if_icmp .ge 23, 3) := by decide +kernel
theorem dX5_operandsFit_116 : decode cX5_operandsFit 116 = .ok (.aload_n 0, 1) := by decide +kernel
theorem dX5_operandsFit_117 : decode cX5_operandsFit 117 = .ok (.iconst 0, 1) := by decide +kernel
theorem dX5_operandsFit_118 : decode cX5_operandsFit 118 = .ok (.invokevirtual 138, 3) := by decide +kernel
theorem dX5_operandsFit_121 : decode cX5_operandsFit 121 = .ok (.ifCond .eq 15, 3) := by decide +kernel
theorem dX5_operandsFit_124 : decode cX5_operandsFit 124 = .ok (.aload_n 0, 1) := by decide +kernel
theorem dX5_operandsFit_125 : decode cX5_operandsFit 125 = .ok (.iconst 1, 1) := by decide +kernel
theorem dX5_operandsFit_126 : decode cX5_operandsFit 126 = .ok (.invokevirtual 142, 3) := by decide +kernel
theorem dX5_operandsFit_129 : decode cX5_operandsFit 129 = .ok (.ifCond .eq 7, 3) := by decide +kernel
theorem dX5_operandsFit_132 : decode cX5_operandsFit 132 = .ok (.iconst 1, 1) := by decide +kernel
theorem dX5_operandsFit_133 : decode cX5_operandsFit 133 = .ok (.goto 4, 3) := by decide +kernel
theorem dX5_operandsFit_136 : decode cX5_operandsFit 136 = .ok (.iconst 0, 1) := by decide +kernel
theorem dX5_operandsFit_137 : decode cX5_operandsFit 137 = .ok (.ireturn, 1) := by decide +kernel
theorem dX5_operandsFit_138 : decode cX5_operandsFit 138 = .ok (.aload_n 0, 1) := by decide +kernel
theorem dX5_operandsFit_139 : decode cX5_operandsFit 139 = .ok (.getfield 37, 3) := by decide +kernel
theorem dX5_operandsFit_142 : decode cX5_operandsFit 142 = .ok (.bipush 11, 2) := by decide +kernel
theorem dX5_operandsFit_144 : decode cX5_operandsFit 144 = .ok (.if_icmp .ne 23, 3) := by decide +kernel
theorem dX5_operandsFit_147 : decode cX5_operandsFit 147 = .ok (.iload_n 3, 1) := by decide +kernel
theorem dX5_operandsFit_148 : decode cX5_operandsFit 148 = .ok (.ifCond .eq 17, 3) := by decide +kernel
theorem dX5_operandsFit_151 : decode cX5_operandsFit 151 = .ok (.iload_n 1, 1) := by decide +kernel
theorem dX5_operandsFit_152 : decode cX5_operandsFit 152 = .ok (.iconst 1, 1) := by decide +kernel
theorem dX5_operandsFit_153 : decode cX5_operandsFit 153 = .ok (.if_icmp .ne 12, 3) := by decide +kernel
theorem dX5_operandsFit_156 : decode cX5_operandsFit 156 = .ok (.iload_n 2, 1) := by decide +kernel
theorem dX5_operandsFit_157 : decode cX5_operandsFit 157 = .ok (.iconst 2, 1) := by decide +kernel
theorem dX5_operandsFit_158 : decode cX5_operandsFit 158 = .ok (.if_icmp .ne 7, 3) := by decide +kernel
theorem dX5_operandsFit_161 : decode cX5_operandsFit 161 = .ok (.iconst 1, 1) := by decide +kernel
theorem dX5_operandsFit_162 : decode cX5_operandsFit 162 = .ok (.goto 4, 3) := by decide +kernel
theorem dX5_operandsFit_165 : decode cX5_operandsFit 165 = .ok (.iconst 0, 1) := by decide +kernel
theorem dX5_operandsFit_166 : decode cX5_operandsFit 166 = .ok (.ireturn, 1) := by decide +kernel
theorem dX5_operandsFit_167 : decode cX5_operandsFit 167 = .ok (.aload_n 0, 1) := by decide +kernel
theorem dX5_operandsFit_168 : decode cX5_operandsFit 168 = .ok (.getfield 37, 3) := by decide +kernel
theorem dX5_operandsFit_171 : decode cX5_operandsFit 171 = .ok (.bipush 15, 2) := by decide +kernel
theorem dX5_operandsFit_173 : decode cX5_operandsFit 173 = .ok (.if_icmp .lt 30, 3) := by decide +kernel
theorem dX5_operandsFit_176 : decode cX5_operandsFit 176 = .ok (.aload_n 0, 1) := by decide +kernel
theorem dX5_operandsFit_177 : decode cX5_operandsFit 177 = .ok (.getfield 37, 3) := by decide +kernel
theorem dX5_operandsFit_180 : decode cX5_operandsFit 180 = .ok (.bipush 36, 2) := by decide +kernel
theorem dX5_operandsFit_182 : decode cX5_operandsFit 182 = .ok (.if_icmp .eq 21, 3) := by decide +kernel
theorem dX5_operandsFit_185 : decode cX5_operandsFit 185 = .ok (.aload_n 0, 1) := by decide +kernel
theorem dX5_operandsFit_186 : decode cX5_operandsFit 186 = .ok (.getfield 37, 3) := by decide +kernel
theorem dX5_operandsFit_189 : decode cX5_operandsFit 189 = .ok (.bipush 44, 2) := by decide +kernel
theorem dX5_operandsFit_191 : decode cX5_operandsFit 191 = .ok (.if_icmp .eq 12, 3) := by decide +kernel
theorem dX5_operandsFit_194 : decode cX5_operandsFit 194 = .ok (.aload_n 0, 1) := by decide +kernel
theorem dX5_operandsFit_195 : decode cX5_operandsFit 195 = .ok (.getfield 37, 3) := by decide +kernel
theorem dX5_operandsFit_198 : decode cX5_operandsFit 198 = .ok (.bipush 45, 2) := by decide +kernel
theorem dX5_operandsFit_200 : decode cX5_operandsFit 200 = .ok (.if_icmp .ne 26, 3) := by decide +kernel
theorem dX5_operandsFit_203 : decode cX5_operandsFit 203 = .ok (.iload_n 3, 1) := by decide +kernel
theorem dX5_operandsFit_204 : decode cX5_operandsFit 204 = .ok (.ifCond .eq 20, 3) := by decide +kernel
theorem dX5_operandsFit_207 : decode cX5_operandsFit 207 = .ok (.iload_n 1, 1) := by decide +kernel
theorem dX5_operandsFit_208 : decode cX5_operandsFit 208 = .ok (.iconst 1, 1) := by decide +kernel
theorem dX5_operandsFit_209 : decode cX5_operandsFit 209 = .ok (.if_icmp .ne 15, 3) := by decide +kernel
theorem dX5_operandsFit_212 : decode cX5_operandsFit 212 = .ok (.aload_n 0, 1) := by decide +kernel
theorem dX5_operandsFit_213 : decode cX5_operandsFit 213 = .ok (.iconst 1, 1) := by decide +kernel
theorem dX5_operandsFit_214 : decode cX5_operandsFit 214 = .ok (.invokevirtual 138, 3) := by decide +kernel
theorem dX5_operandsFit_217 : decode cX5_operandsFit 217 = .ok (.ifCond .eq 7, 3) := by decide +kernel
theorem dX5_operandsFit_220 : decode cX5_operandsFit 220 = .ok (.iconst 1, 1) := by decide +kernel
theorem dX5_operandsFit_221 : decode cX5_operandsFit 221 = .ok (.goto 4, 3) := by decide +kernel
theorem dX5_operandsFit_224 : decode cX5_operandsFit 224 = .ok (.iconst 0, 1) := by decide +kernel
theorem dX5_operandsFit_225 : decode cX5_operandsFit 225 = .ok (.ireturn, 1) := by decide +kernel
theorem dX5_operandsFit_226 : decode cX5_operandsFit 226 = .ok (.aload_n 0, 1) := by decide +kernel
theorem dX5_operandsFit_227 : decode cX5_operandsFit 227 = .ok (.getfield 37, 3) := by decide +kernel
theorem dX5_operandsFit_230 : decode cX5_operandsFit 230 = .ok (.bipush 23, 2) := by decide +kernel
theorem dX5_operandsFit_232 : decode cX5_operandsFit 232 = .ok (.if_icmp .lt 21, 3) := by decide +kernel
theorem dX5_operandsFit_235 : decode cX5_operandsFit 235 = .ok (.aload_n 0, 1) := by decide +kernel
theorem dX5_operandsFit_236 : decode cX5_operandsFit 236 = .ok (.getfield 37, 3) := by decide +kernel
theorem dX5_operandsFit_239 : decode cX5_operandsFit 239 = .ok (.bipush 30, 2) := by decide +kernel
theorem dX5_operandsFit_241 : decode cX5_operandsFit 241 = .ok (.if_icmp .eq 12, 3) := by decide +kernel
theorem dX5_operandsFit_244 : decode cX5_operandsFit 244 = .ok (.aload_n 0, 1) := by decide +kernel
theorem dX5_operandsFit_245 : decode cX5_operandsFit 245 = .ok (.getfield 37, 3) := by decide +kernel
theorem dX5_operandsFit_248 : decode cX5_operandsFit 248 = .ok (.bipush 35, 2) := by decide +kernel
theorem dX5_operandsFit_250 : decode cX5_operandsFit 250 = .ok (.if_icmp .ne 22, 3) := by decide +kernel
theorem dX5_operandsFit_253 : decode cX5_operandsFit 253 = .ok (.iload 4, 2) := by decide +kernel
theorem dX5_operandsFit_255 : decode cX5_operandsFit 255 = .ok (.ifCond .eq 15, 3) := by decide +kernel
theorem dX5_operandsFit_258 : decode cX5_operandsFit 258 = .ok (.aload_n 0, 1) := by decide +kernel
theorem dX5_operandsFit_259 : decode cX5_operandsFit 259 = .ok (.iconst 0, 1) := by decide +kernel
theorem dX5_operandsFit_260 : decode cX5_operandsFit 260 = .ok (.invokevirtual 138, 3) := by decide +kernel
theorem dX5_operandsFit_263 : decode cX5_operandsFit 263 = .ok (.ifCond .eq 7, 3) := by decide +kernel
theorem dX5_operandsFit_266 : decode cX5_operandsFit 266 = .ok (.iconst 1, 1) := by decide +kernel
theorem dX5_operandsFit_267 : decode cX5_operandsFit 267 = .ok (.goto 4, 3) := by decide +kernel
theorem dX5_operandsFit_270 : decode cX5_operandsFit 270 = .ok (.iconst 0, 1) := by decide +kernel
theorem dX5_operandsFit_271 : decode cX5_operandsFit 271 = .ok (.ireturn, 1) := by decide +kernel
theorem dX5_operandsFit_272 : decode cX5_operandsFit 272 = .ok (.aload_n 0, 1) := by decide +kernel
theorem dX5_operandsFit_273 : decode cX5_operandsFit 273 = .ok (.getfield 37, 3) := by decide +kernel
theorem dX5_operandsFit_276 : decode cX5_operandsFit 276 = .ok (.bipush 23, 2) := by decide +kernel
theorem dX5_operandsFit_278 : decode cX5_operandsFit 278 = .ok (.if_icmp .ne 34, 3) := by decide +kernel
theorem dX5_operandsFit_281 : decode cX5_operandsFit 281 = .ok (.iload_n 1, 1) := by decide +kernel
theorem dX5_operandsFit_282 : decode cX5_operandsFit 282 = .ok (.iconst 1, 1) := by decide +kernel
theorem dX5_operandsFit_283 : decode cX5_operandsFit 283 = .ok (.if_icmp .ne 27, 3) := by decide +kernel
theorem dX5_operandsFit_286 : decode cX5_operandsFit 286 = .ok (.aload_n 0, 1) := by decide +kernel
theorem dX5_operandsFit_287 : decode cX5_operandsFit 287 = .ok (.iconst 1, 1) := by decide +kernel
theorem dX5_operandsFit_288 : decode cX5_operandsFit 288 = .ok (.invokevirtual 138, 3) := by decide +kernel
theorem dX5_operandsFit_291 : decode cX5_operandsFit 291 = .ok (.ifCond .eq 19, 3) := by decide +kernel
theorem dX5_operandsFit_294 : decode cX5_operandsFit 294 = .ok (.iload_n 3, 1) := by decide +kernel
theorem dX5_operandsFit_295 : decode cX5_operandsFit 295 = .ok (.ifCond .ne 11, 3) := by decide +kernel
theorem dX5_operandsFit_298 : decode cX5_operandsFit 298 = .ok (.aload_n 0, 1) := by decide +kernel
theorem dX5_operandsFit_299 : decode cX5_operandsFit 299 = .ok (.iconst 2, 1) := by decide +kernel
theorem dX5_operandsFit_300 : decode cX5_operandsFit 300 = .ok (.invokevirtual 142, 3) := by decide +kernel
theorem dX5_operandsFit_303 : decode cX5_operandsFit 303 = .ok (.ifCond .eq 7, 3) := by decide +kernel
theorem dX5_operandsFit_306 : decode cX5_operandsFit 306 = .ok (.iconst 1, 1) := by decide +kernel
theorem dX5_operandsFit_307 : decode cX5_operandsFit 307 = .ok (.goto 4, 3) := by decide +kernel
theorem dX5_operandsFit_310 : decode cX5_operandsFit 310 = .ok (.iconst 0, 1) := by decide +kernel
theorem dX5_operandsFit_311 : decode cX5_operandsFit 311 = .ok (.ireturn, 1) := by decide +kernel
theorem dX5_operandsFit_312 : decode cX5_operandsFit 312 = .ok (.aload_n 0, 1) := by decide +kernel
theorem dX5_operandsFit_313 : decode cX5_operandsFit 313 = .ok (.getfield 37, 3) := by decide +kernel
theorem dX5_operandsFit_316 : decode cX5_operandsFit 316 = .ok (.bipush 29, 2) := by decide +kernel
theorem dX5_operandsFit_318 : decode cX5_operandsFit 318 = .ok (.if_icmp .ge 48, 3) := by decide +kernel
theorem dX5_operandsFit_321 : decode cX5_operandsFit 321 = .ok (.iload_n 3, 1) := by decide +kernel
theorem dX5_operandsFit_322 : decode cX5_operandsFit 322 = .ok (.ifCond .eq 42, 3) := by decide +kernel
theorem dX5_operandsFit_325 : decode cX5_operandsFit 325 = .ok (.aload_n 0, 1) := by decide +kernel
theorem dX5_operandsFit_326 : decode cX5_operandsFit 326 = .ok (.iconst 0, 1) := by decide +kernel
theorem dX5_operandsFit_327 : decode cX5_operandsFit 327 = .ok (.invokevirtual 138, 3) := by decide +kernel
theorem dX5_operandsFit_330 : decode cX5_operandsFit 330 = .ok (.ifCond .eq 34, 3) := by decide +kernel
theorem dX5_operandsFit_333 : decode cX5_operandsFit 333 = .ok (.iload_n 2, 1) := by decide +kernel
theorem dX5_operandsFit_334 : decode cX5_operandsFit 334 = .ok (.iconst 1, 1) := by decide +kernel
theorem dX5_operandsFit_335 : decode cX5_operandsFit 335 = .ok (.if_icmp .ne 13, 3) := by decide +kernel
theorem dX5_operandsFit_338 : decode cX5_operandsFit 338 = .ok (.aload_n 0, 1) := by decide +kernel
theorem dX5_operandsFit_339 : decode cX5_operandsFit 339 = .ok (.getfield 54, 3) := by decide +kernel
theorem dX5_operandsFit_342 : decode cX5_operandsFit 342 = .ok (.iconst 1, 1) := by decide +kernel
theorem dX5_operandsFit_343 : decode cX5_operandsFit 343 = .ok (.iaload, 1) := by decide +kernel
theorem dX5_operandsFit_344 : decode cX5_operandsFit 344 = .ok (.iconst 1, 1) := by decide +kernel
theorem dX5_operandsFit_345 : decode cX5_operandsFit 345 = .ok (.if_icmp .eq 15, 3) := by decide +kernel
