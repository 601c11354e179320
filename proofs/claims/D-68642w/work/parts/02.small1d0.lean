set_option maxRecDepth 100000
theorem dJ2_init_0 : decode cJ2_init 0 = .ok (.return_, 1) := by decide +kernel
theorem dJ1_numberOfLeadingZeros_0 : decode cJ1_numberOfLeadingZeros 0 = .ok (.iload_n 0, 1) := by decide +kernel
theorem dJ1_numberOfLeadingZeros_1 : decode cJ1_numberOfLeadingZeros 1 = .ok (.ifCond .gt 14, 3) := by decide +kernel
theorem dJ1_numberOfLeadingZeros_4 : decode cJ1_numberOfLeadingZeros 4 = .ok (.iload_n 0, 1) := by decide +kernel
theorem dJ1_numberOfLeadingZeros_5 : decode cJ1_numberOfLeadingZeros 5 = .ok (.ifCond .ne 8, 3) := by decide +kernel
theorem dJ1_numberOfLeadingZeros_8 : decode cJ1_numberOfLeadingZeros 8 = .ok (.bipush 32, 2) := by decide +kernel
theorem dJ1_numberOfLeadingZeros_10 : decode cJ1_numberOfLeadingZeros 10 = .ok (.goto 4, 3) := by decide +kernel
theorem dJ1_numberOfLeadingZeros_13 : decode cJ1_numberOfLeadingZeros 13 = .ok (.iconst 0, 1) := by decide +kernel
theorem dJ1_numberOfLeadingZeros_14 : decode cJ1_numberOfLeadingZeros 14 = .ok (.ireturn, 1) := by decide +kernel
theorem dJ1_numberOfLeadingZeros_15 : decode cJ1_numberOfLeadingZeros 15 = .ok (.bipush 31, 2) := by decide +kernel
theorem dJ1_numberOfLeadingZeros_17 : decode cJ1_numberOfLeadingZeros 17 = .ok (.istore_n 1, 1) := by decide +kernel
theorem dJ1_numberOfLeadingZeros_18 : decode cJ1_numberOfLeadingZeros 18 = .ok (.iload_n 0, 1) := by decide +kernel
theorem dJ1_numberOfLeadingZeros_19 : decode cJ1_numberOfLeadingZeros 19 = .ok (.ldc_w 264, 3) := by decide +kernel
theorem dJ1_numberOfLeadingZeros_22 : decode cJ1_numberOfLeadingZeros 22 = .ok (.if_icmp .lt 11, 3) := by decide +kernel
theorem dJ1_numberOfLeadingZeros_25 : decode cJ1_numberOfLeadingZeros 25 = .ok (.iinc 1 (-16), 3) := by decide +kernel
theorem dJ1_numberOfLeadingZeros_28 : decode cJ1_numberOfLeadingZeros 28 = .ok (.iload_n 0, 1) := by decide +kernel
theorem dJ1_numberOfLeadingZeros_29 : decode cJ1_numberOfLeadingZeros 29 = .ok (.bipush 16, 2) := by decide +kernel
theorem dJ1_numberOfLeadingZeros_31 : decode cJ1_numberOfLeadingZeros 31 = .ok (.iushr, 1) := by decide +kernel
theorem dJ1_numberOfLeadingZeros_32 : decode cJ1_numberOfLeadingZeros 32 = .ok (.istore_n 0, 1) := by decide +kernel
theorem dJ1_numberOfLeadingZeros_33 : decode cJ1_numberOfLeadingZeros 33 = .ok (.iload_n 0, 1) := by decide +kernel
theorem dJ1_numberOfLeadingZeros_34 : decode cJ1_numberOfLeadingZeros 34 = .ok (.sipush 256, 3) := by decide +kernel
theorem dJ1_numberOfLeadingZeros_37 : decode cJ1_numberOfLeadingZeros 37 = .ok (.if_icmp .lt 11, 3) := by decide +kernel
theorem dJ1_numberOfLeadingZeros_40 : decode cJ1_numberOfLeadingZeros 40 = .ok (.iinc 1 (-8), 3) := by decide +kernel
theorem dJ1_numberOfLeadingZeros_43 : decode cJ1_numberOfLeadingZeros 43 = .ok (.iload_n 0, 1) := by decide +kernel
theorem dJ1_numberOfLeadingZeros_44 : decode cJ1_numberOfLeadingZeros 44 = .ok (.bipush 8, 2) := by decide +kernel
theorem dJ1_numberOfLeadingZeros_46 : decode cJ1_numberOfLeadingZeros 46 = .ok (.iushr, 1) := by decide +kernel
theorem dJ1_numberOfLeadingZeros_47 : decode cJ1_numberOfLeadingZeros 47 = .ok (.istore_n 0, 1) := by decide +kernel
theorem dJ1_numberOfLeadingZeros_48 : decode cJ1_numberOfLeadingZeros 48 = .ok (.iload_n 0, 1) := by decide +kernel
theorem dJ1_numberOfLeadingZeros_49 : decode cJ1_numberOfLeadingZeros 49 = .ok (.bipush 16, 2) := by decide +kernel
theorem dJ1_numberOfLeadingZeros_51 : decode cJ1_numberOfLeadingZeros 51 = .ok (.if_icmp .lt 10, 3) := by decide +kernel
theorem dJ1_numberOfLeadingZeros_54 : decode cJ1_numberOfLeadingZeros 54 = .ok (.iinc 1 (-4), 3) := by decide +kernel
theorem dJ1_numberOfLeadingZeros_57 : decode cJ1_numberOfLeadingZeros 57 = .ok (.iload_n 0, 1) := by decide +kernel
theorem dJ1_numberOfLeadingZeros_58 : decode cJ1_numberOfLeadingZeros 58 = .ok (.iconst 4, 1) := by decide +kernel
theorem dJ1_numberOfLeadingZeros_59 : decode cJ1_numberOfLeadingZeros 59 = .ok (.iushr, 1) := by decide +kernel
theorem dJ1_numberOfLeadingZeros_60 : decode cJ1_numberOfLeadingZeros 60 = .ok (.istore_n 0, 1) := by decide +kernel
theorem dJ1_numberOfLeadingZeros_61 : decode cJ1_numberOfLeadingZeros 61 = .ok (.iload_n 0, 1) := by decide +kernel
theorem dJ1_numberOfLeadingZeros_62 : decode cJ1_numberOfLeadingZeros 62 = .ok (.iconst 4, 1) := by decide +kernel
theorem dJ1_numberOfLeadingZeros_63 : decode cJ1_numberOfLeadingZeros 63 = .ok (.if_icmp .lt 10, 3) := by decide +kernel
theorem dJ1_numberOfLeadingZeros_66 : decode cJ1_numberOfLeadingZeros 66 = .ok (.iinc 1 (-2), 3) := by decide +kernel
theorem dJ1_numberOfLeadingZeros_69 : decode cJ1_numberOfLeadingZeros 69 = .ok (.iload_n 0, 1) := by decide +kernel
theorem dJ1_numberOfLeadingZeros_70 : decode cJ1_numberOfLeadingZeros 70 = .ok (.iconst 2, 1) := by decide +kernel
theorem dJ1_numberOfLeadingZeros_71 : decode cJ1_numberOfLeadingZeros 71 = .ok (.iushr, 1) := by decide +kernel
theorem dJ1_numberOfLeadingZeros_72 : decode cJ1_numberOfLeadingZeros 72 = .ok (.istore_n 0, 1) := by decide +kernel
theorem dJ1_numberOfLeadingZeros_73 : decode cJ1_numberOfLeadingZeros 73 = .ok (.iload_n 1, 1) := by decide +kernel
theorem dJ1_numberOfLeadingZeros_74 : decode cJ1_numberOfLeadingZeros 74 = .ok (.iload_n 0, 1) := by decide +kernel
theorem dJ1_numberOfLeadingZeros_75 : decode cJ1_numberOfLeadingZeros 75 = .ok (.iconst 1, 1) := by decide +kernel
theorem dJ1_numberOfLeadingZeros_76 : decode cJ1_numberOfLeadingZeros 76 = .ok (.iushr, 1) := by decide +kernel
theorem dJ1_numberOfLeadingZeros_77 : decode cJ1_numberOfLeadingZeros 77 = .ok (.isub, 1) := by decide +kernel
theorem dJ1_numberOfLeadingZeros_78 : decode cJ1_numberOfLeadingZeros 78 = .ok (.ireturn, 1) := by decide +kernel
theorem dJ1_numberOfTrailingZeros_0 : decode cJ1_numberOfTrailingZeros 0 = .ok (.iload_n 0, 1) := by decide +kernel
theorem dJ1_numberOfTrailingZeros_1 : decode cJ1_numberOfTrailingZeros 1 = .ok (.iconst (-1), 1) := by decide +kernel
theorem dJ1_numberOfTrailingZeros_2 : decode cJ1_numberOfTrailingZeros 2 = .ok (.ixor, 1) := by decide +kernel
theorem dJ1_numberOfTrailingZeros_3 : decode cJ1_numberOfTrailingZeros 3 = .ok (.iload_n 0, 1) := by decide +kernel
theorem dJ1_numberOfTrailingZeros_4 : decode cJ1_numberOfTrailingZeros 4 = .ok (.iconst 1, 1) := by decide +kernel
theorem dJ1_numberOfTrailingZeros_5 : decode cJ1_numberOfTrailingZeros 5 = .ok (.isub, 1) := by decide +kernel
theorem dJ1_numberOfTrailingZeros_6 : decode cJ1_numberOfTrailingZeros 6 = .ok (.iand, 1) := by decide +kernel
theorem dJ1_numberOfTrailingZeros_7 : decode cJ1_numberOfTrailingZeros 7 = .ok (.istore_n 0, 1) := by decide +kernel
theorem dJ1_numberOfTrailingZeros_8 : decode cJ1_numberOfTrailingZeros 8 = .ok (.iload_n 0, 1) := by decide +kernel
theorem dJ1_numberOfTrailingZeros_9 : decode cJ1_numberOfTrailingZeros 9 = .ok (.ifCond .gt 8, 3) := by decide +kernel
theorem dJ1_numberOfTrailingZeros_12 : decode cJ1_numberOfTrailingZeros 12 = .ok (.iload_n 0, 1) := by decide +kernel
theorem dJ1_numberOfTrailingZeros_13 : decode cJ1_numberOfTrailingZeros 13 = .ok (.bipush 32, 2) := by decide +kernel
theorem dJ1_numberOfTrailingZeros_15 : decode cJ1_numberOfTrailingZeros 15 = .ok (.iand, 1) := by decide +kernel
theorem dJ1_numberOfTrailingZeros_16 : decode cJ1_numberOfTrailingZeros 16 = .ok (.ireturn, 1) := by decide +kernel
theorem dJ1_numberOfTrailingZeros_17 : decode cJ1_numberOfTrailingZeros 17 = .ok (.iconst 1, 1) := by decide +kernel
theorem dJ1_numberOfTrailingZeros_18 : decode cJ1_numberOfTrailingZeros 18 = .ok (.istore_n 1, 1) := by decide +kernel
theorem dJ1_numberOfTrailingZeros_19 : decode cJ1_numberOfTrailingZeros 19 = .ok (.iload_n 0, 1) := by decide +kernel
theorem dJ1_numberOfTrailingZeros_20 : decode cJ1_numberOfTrailingZeros 20 = .ok (.ldc_w 264, 3) := by decide +kernel
theorem dJ1_numberOfTrailingZeros_23 : decode cJ1_numberOfTrailingZeros 23 = .ok (.if_icmp .le 11, 3) := by decide +kernel
theorem dJ1_numberOfTrailingZeros_26 : decode cJ1_numberOfTrailingZeros 26 = .ok (.iinc 1 16, 3) := by decide +kernel
theorem dJ1_numberOfTrailingZeros_29 : decode cJ1_numberOfTrailingZeros 29 = .ok (.iload_n 0, 1) := by decide +kernel
theorem dJ1_numberOfTrailingZeros_30 : decode cJ1_numberOfTrailingZeros 30 = .ok (.bipush 16, 2) := by decide +kernel
theorem dJ1_numberOfTrailingZeros_32 : decode cJ1_numberOfTrailingZeros 32 = .ok (.iushr, 1) := by decide +kernel
theorem dJ1_numberOfTrailingZeros_33 : decode cJ1_numberOfTrailingZeros 33 = .ok (.istore_n 0, 1) := by decide +kernel
theorem dJ1_numberOfTrailingZeros_34 : decode cJ1_numberOfTrailingZeros 34 = .ok (.iload_n 0, 1) := by decide +kernel
theorem dJ1_numberOfTrailingZeros_35 : decode cJ1_numberOfTrailingZeros 35 = .ok (.sipush 256, 3) := by decide +kernel
theorem dJ1_numberOfTrailingZeros_38 : decode cJ1_numberOfTrailingZeros 38 = .ok (.if_icmp .le 11, 3) := by decide +kernel
theorem dJ1_numberOfTrailingZeros_41 : decode cJ1_numberOfTrailingZeros 41 = .ok (.iinc 1 8, 3) := by decide +kernel
theorem dJ1_numberOfTrailingZeros_44 : decode cJ1_numberOfTrailingZeros 44 = .ok (.iload_n 0, 1) := by decide +kernel
theorem dJ1_numberOfTrailingZeros_45 : decode cJ1_numberOfTrailingZeros 45 = .ok (.bipush 8, 2) := by decide +kernel
theorem dJ1_numberOfTrailingZeros_47 : decode cJ1_numberOfTrailingZeros 47 = .ok (.iushr, 1) := by decide +kernel
theorem dJ1_numberOfTrailingZeros_48 : decode cJ1_numberOfTrailingZeros 48 = .ok (.istore_n 0, 1) := by decide +kernel
theorem dJ1_numberOfTrailingZeros_49 : decode cJ1_numberOfTrailingZeros 49 = .ok (.iload_n 0, 1) := by decide +kernel
theorem dJ1_numberOfTrailingZeros_50 : decode cJ1_numberOfTrailingZeros 50 = .ok (.bipush 16, 2) := by decide +kernel
theorem dJ1_numberOfTrailingZeros_52 : decode cJ1_numberOfTrailingZeros 52 = .ok (.if_icmp .le 10, 3) := by decide +kernel
theorem dJ1_numberOfTrailingZeros_55 : decode cJ1_numberOfTrailingZeros 55 = .ok (.iinc 1 4, 3) := by decide +kernel
theorem dJ1_numberOfTrailingZeros_58 : decode cJ1_numberOfTrailingZeros 58 = .ok (.iload_n 0, 1) := by decide +kernel
theorem dJ1_numberOfTrailingZeros_59 : decode cJ1_numberOfTrailingZeros 59 = .ok (.iconst 4, 1) := by decide +kernel
theorem dJ1_numberOfTrailingZeros_60 : decode cJ1_numberOfTrailingZeros 60 = .ok (.iushr, 1) := by decide +kernel
theorem dJ1_numberOfTrailingZeros_61 : decode cJ1_numberOfTrailingZeros 61 = .ok (.istore_n 0, 1) := by decide +kernel
theorem dJ1_numberOfTrailingZeros_62 : decode cJ1_numberOfTrailingZeros 62 = .ok (.iload_n 0, 1) := by decide +kernel
theorem dJ1_numberOfTrailingZeros_63 : decode cJ1_numberOfTrailingZeros 63 = .ok (.iconst 4, 1) := by decide +kernel
theorem dJ1_numberOfTrailingZeros_64 : decode cJ1_numberOfTrailingZeros 64 = .ok (.if_icmp .le 10, 3) := by decide +kernel
theorem dJ1_numberOfTrailingZeros_67 : decode cJ1_numberOfTrailingZeros 67 = .ok (.iinc 1 2, 3) := by decide +kernel
theorem dJ1_numberOfTrailingZeros_70 : decode cJ1_numberOfTrailingZeros 70 = .ok (.iload_n 0, 1) := by decide +kernel
theorem dJ1_numberOfTrailingZeros_71 : decode cJ1_numberOfTrailingZeros 71 = .ok (.iconst 2, 1) := by decide +kernel
theorem dJ1_numberOfTrailingZeros_72 : decode cJ1_numberOfTrailingZeros 72 = .ok (.iushr, 1) := by decide +kernel
theorem dJ1_numberOfTrailingZeros_73 : decode cJ1_numberOfTrailingZeros 73 = .ok (.istore_n 0, 1) := by decide +kernel
theorem dJ1_numberOfTrailingZeros_74 : decode cJ1_numberOfTrailingZeros 74 = .ok (.iload_n 1, 1) := by decide +kernel
theorem dJ1_numberOfTrailingZeros_75 : decode cJ1_numberOfTrailingZeros 75 = .ok (.iload_n 0, 1) := by decide +kernel
theorem dJ1_numberOfTrailingZeros_76 : decode cJ1_numberOfTrailingZeros 76 = .ok (.iconst 1, 1) := by decide +kernel
theorem dJ1_numberOfTrailingZeros_77 : decode cJ1_numberOfTrailingZeros 77 = .ok (.iushr, 1) := by decide +kernel
theorem dJ1_numberOfTrailingZeros_78 : decode cJ1_numberOfTrailingZeros 78 = .ok (.iadd, 1) := by decide +kernel
theorem dJ1_numberOfTrailingZeros_79 : decode cJ1_numberOfTrailingZeros 79 = .ok (.ireturn, 1) := by decide +kernel
theorem dJ0_compareUnsigned_0 : decode cJ0_compareUnsigned 0 = .ok (.lload_n 0, 1) := by decide +kernel
theorem dJ0_compareUnsigned_1 : decode cJ0_compareUnsigned 1 = .ok (.ldc2_w 168, 3) := by decide +kernel
theorem dJ0_compareUnsigned_4 : decode cJ0_compareUnsigned 4 = .ok (.ladd, 1) := by decide +kernel
theorem dJ0_compareUnsigned_5 : decode cJ0_compareUnsigned 5 = .ok (.lload_n 2, 1) := by decide +kernel
theorem dJ0_compareUnsigned_6 : decode cJ0_compareUnsigned 6 = .ok (.ldc2_w 168, 3) := by decide +kernel
theorem dJ0_compareUnsigned_9 : decode cJ0_compareUnsigned 9 = .ok (.ladd, 1) := by decide +kernel
theorem dJ0_compareUnsigned_10 : decode cJ0_compareUnsigned 10 = .ok (.invokestatic 302, 3) := by decide +kernel
theorem dJ0_compareUnsigned_13 : decode cJ0_compareUnsigned 13 = .ok (.ireturn, 1) := by decide +kernel
theorem dJ0_compare_0 : decode cJ0_compare 0 = .ok (.lload_n 0, 1) := by decide +kernel
theorem dJ0_compare_1 : decode cJ0_compare 1 = .ok (.lload_n 2, 1) := by decide +kernel
theorem dJ0_compare_2 : decode cJ0_compare 2 = .ok (.lcmp, 1) := by decide +kernel
theorem dJ0_compare_3 : decode cJ0_compare 3 = .ok (.ifCond .ge 7, 3) := by decide +kernel
theorem dJ0_compare_6 : decode cJ0_compare 6 = .ok (.iconst (-1), 1) := by decide +kernel
theorem dJ0_compare_7 : decode cJ0_compare 7 = .ok (.goto 14, 3) := by decide +kernel
theorem dJ0_compare_10 : decode cJ0_compare 10 = .ok (.lload_n 0, 1) := by decide +kernel
theorem dJ0_compare_11 : decode cJ0_compare 11 = .ok (.lload_n 2, 1) := by decide +kernel
theorem dJ0_compare_12 : decode cJ0_compare 12 = .ok (.lcmp, 1) := by decide +kernel
theorem dJ0_compare_13 : decode cJ0_compare 13 = .ok (.ifCond .ne 7, 3) := by decide +kernel
theorem dJ0_compare_16 : decode cJ0_compare 16 = .ok (.iconst 0, 1) := by decide +kernel
theorem dJ0_compare_17 : decode cJ0_compare 17 = .ok (.goto 4, 3) := by decide +kernel
theorem dJ0_compare_20 : decode cJ0_compare 20 = .ok (.iconst 1, 1) := by decide +kernel
theorem dJ0_compare_21 : decode cJ0_compare 21 = .ok (.ireturn, 1) := by decide +kernel
theorem dJ0_divideUnsigned_0 : decode cJ0_divideUnsigned 0 = .ok (.lload_n 2, 1) := by decide +kernel
theorem dJ0_divideUnsigned_1 : decode cJ0_divideUnsigned 1 = .ok (.lconst 0, 1) := by decide +kernel
theorem dJ0_divideUnsigned_2 : decode cJ0_divideUnsigned 2 = .ok (.lcmp, 1) := by decide +kernel
theorem dJ0_divideUnsigned_3 : decode cJ0_divideUnsigned 3 = .ok (.ifCond .lt 38, 3) := by decide +kernel
theorem dJ0_divideUnsigned_6 : decode cJ0_divideUnsigned 6 = .ok (.lload_n 0, 1) := by decide +kernel
theorem dJ0_divideUnsigned_7 : decode cJ0_divideUnsigned 7 = .ok (.iconst 1, 1) := by decide +kernel
theorem dJ0_divideUnsigned_8 : decode cJ0_divideUnsigned 8 = .ok (.lushr, 1) := by decide +kernel
theorem dJ0_divideUnsigned_9 : decode cJ0_divideUnsigned 9 = .ok (.lload_n 2, 1) := by decide +kernel
theorem dJ0_divideUnsigned_10 : decode cJ0_divideUnsigned 10 = .ok (.ldiv, 1) := by decide +kernel
theorem dJ0_divideUnsigned_11 : decode cJ0_divideUnsigned 11 = .ok (.iconst 1, 1) := by decide +kernel
theorem dJ0_divideUnsigned_12 : decode cJ0_divideUnsigned 12 = .ok (.lshl, 1) := by decide +kernel
theorem dJ0_divideUnsigned_13 : decode cJ0_divideUnsigned 13 = .ok (.lstore 4, 2) := by decide +kernel
theorem dJ0_divideUnsigned_15 : decode cJ0_divideUnsigned 15 = .ok (.lload_n 0, 1) := by decide +kernel
theorem dJ0_divideUnsigned_16 : decode cJ0_divideUnsigned 16 = .ok (.lload 4, 2) := by decide +kernel
theorem dJ0_divideUnsigned_18 : decode cJ0_divideUnsigned 18 = .ok (.lload_n 2, 1) := by decide +kernel
theorem dJ0_divideUnsigned_19 : decode cJ0_divideUnsigned 19 = .ok (.lmul, 1) := by decide +kernel
theorem dJ0_divideUnsigned_20 : decode cJ0_divideUnsigned 20 = .ok (.lsub, 1) := by decide +kernel
theorem dJ0_divideUnsigned_21 : decode cJ0_divideUnsigned 21 = .ok (.lstore 6, 2) := by decide +kernel
theorem dJ0_divideUnsigned_23 : decode cJ0_divideUnsigned 23 = .ok (.lload 4, 2) := by decide +kernel
theorem dJ0_divideUnsigned_25 : decode cJ0_divideUnsigned 25 = .ok (.lload 6, 2) := by decide +kernel
theorem dJ0_divideUnsigned_27 : decode cJ0_divideUnsigned 27 = .ok (.lload 6, 2) := by decide +kernel
theorem dJ0_divideUnsigned_29 : decode cJ0_divideUnsigned 29 = .ok (.lload_n 2, 1) := by decide +kernel
theorem dJ0_divideUnsigned_30 : decode cJ0_divideUnsigned 30 = .ok (.lsub, 1) := by decide +kernel
theorem dJ0_divideUnsigned_31 : decode cJ0_divideUnsigned 31 = .ok (.ldc2_w 306, 3) := by decide +kernel
theorem dJ0_divideUnsigned_34 : decode cJ0_divideUnsigned 34 = .ok (.lxor, 1) := by decide +kernel
theorem dJ0_divideUnsigned_35 : decode cJ0_divideUnsigned 35 = .ok (.lor, 1) := by decide +kernel
theorem dJ0_divideUnsigned_36 : decode cJ0_divideUnsigned 36 = .ok (.bipush 63, 2) := by decide +kernel
theorem dJ0_divideUnsigned_38 : decode cJ0_divideUnsigned 38 = .ok (.lushr, 1) := by decide +kernel
theorem dJ0_divideUnsigned_39 : decode cJ0_divideUnsigned 39 = .ok (.ladd, 1) := by decide +kernel
theorem dJ0_divideUnsigned_40 : decode cJ0_divideUnsigned 40 = .ok (.lreturn, 1) := by decide +kernel
theorem dJ0_divideUnsigned_41 : decode cJ0_divideUnsigned 41 = .ok (.lload_n 0, 1) := by decide +kernel
theorem dJ0_divideUnsigned_42 : decode cJ0_divideUnsigned 42 = .ok (.lload_n 0, 1) := by decide +kernel
theorem dJ0_divideUnsigned_43 : decode cJ0_divideUnsigned 43 = .ok (.lload_n 2, 1) := by decide +kernel
theorem dJ0_divideUnsigned_44 : decode cJ0_divideUnsigned 44 = .ok (.lsub, 1) := by decide +kernel
theorem dJ0_divideUnsigned_45 : decode cJ0_divideUnsigned 45 = .ok (.ldc2_w 306, 3) := by decide +kernel
theorem dJ0_divideUnsigned_48 : decode cJ0_divideUnsigned 48 = .ok (.lxor, 1) := by decide +kernel
theorem dJ0_divideUnsigned_49 : decode cJ0_divideUnsigned 49 = .ok (.land, 1) := by decide +kernel
theorem dJ0_divideUnsigned_50 : decode cJ0_divideUnsigned 50 = .ok (.bipush 63, 2) := by decide +kernel
theorem dJ0_divideUnsigned_52 : decode cJ0_divideUnsigned 52 = .ok (.lushr, 1) := by decide +kernel
theorem dJ0_divideUnsigned_53 : decode cJ0_divideUnsigned 53 = .ok (.lreturn, 1) := by decide +kernel
theorem dJ0_numberOfLeadingZeros_0 : decode cJ0_numberOfLeadingZeros 0 = .ok (.lload_n 0, 1) := by decide +kernel
theorem dJ0_numberOfLeadingZeros_1 : decode cJ0_numberOfLeadingZeros 1 = .ok (.bipush 32, 2) := by decide +kernel
theorem dJ0_numberOfLeadingZeros_3 : decode cJ0_numberOfLeadingZeros 3 = .ok (.lushr, 1) := by decide +kernel
theorem dJ0_numberOfLeadingZeros_4 : decode cJ0_numberOfLeadingZeros 4 = .ok (.l2i, 1) := by decide +kernel
theorem dJ0_numberOfLeadingZeros_5 : decode cJ0_numberOfLeadingZeros 5 = .ok (.istore_n 2, 1) := by decide +kernel
theorem dJ0_numberOfLeadingZeros_6 : decode cJ0_numberOfLeadingZeros 6 = .ok (.iload_n 2, 1) := by decide +kernel
theorem dJ0_numberOfLeadingZeros_7 : decode cJ0_numberOfLeadingZeros 7 = .ok (.ifCond .ne 14, 3) := by decide +kernel
theorem dJ0_numberOfLeadingZeros_10 : decode cJ0_numberOfLeadingZeros 10 = .ok (.bipush 32, 2) := by decide +kernel
theorem dJ0_numberOfLeadingZeros_12 : decode cJ0_numberOfLeadingZeros 12 = .ok (.lload_n 0, 1) := by decide +kernel
theorem dJ0_numberOfLeadingZeros_13 : decode cJ0_numberOfLeadingZeros 13 = .ok (.l2i, 1) := by decide +kernel
theorem dJ0_numberOfLeadingZeros_14 : decode cJ0_numberOfLeadingZeros 14 = .ok (.invokestatic 308, 3) := by decide +kernel
theorem dJ0_numberOfLeadingZeros_17 : decode cJ0_numberOfLeadingZeros 17 = .ok (.iadd, 1) := by decide +kernel
theorem dJ0_numberOfLeadingZeros_18 : decode cJ0_numberOfLeadingZeros 18 = .ok (.goto 7, 3) := by decide +kernel
theorem dJ0_numberOfLeadingZeros_21 : decode cJ0_numberOfLeadingZeros 21 = .ok (.iload_n 2, 1) := by decide +kernel
theorem dJ0_numberOfLeadingZeros_22 : decode cJ0_numberOfLeadingZeros 22 = .ok (.invokestatic 308, 3) := by decide +kernel
theorem dJ0_numberOfLeadingZeros_25 : decode cJ0_numberOfLeadingZeros 25 = .ok (.ireturn, 1) := by decide +kernel
theorem dJ0_numberOfTrailingZeros_0 : decode cJ0_numberOfTrailingZeros 0 = .ok (.lload_n 0, 1) := by decide +kernel
theorem dJ0_numberOfTrailingZeros_1 : decode cJ0_numberOfTrailingZeros 1 = .ok (.l2i, 1) := by decide +kernel
theorem dJ0_numberOfTrailingZeros_2 : decode cJ0_numberOfTrailingZeros 2 = .ok (.istore_n 2, 1) := by decide +kernel
theorem dJ0_numberOfTrailingZeros_3 : decode cJ0_numberOfTrailingZeros 3 = .ok (.iload_n 2, 1) := by decide +kernel
theorem dJ0_numberOfTrailingZeros_4 : decode cJ0_numberOfTrailingZeros 4 = .ok (.ifCond .ne 17, 3) := by decide +kernel
theorem dJ0_numberOfTrailingZeros_7 : decode cJ0_numberOfTrailingZeros 7 = .ok (.bipush 32, 2) := by decide +kernel
theorem dJ0_numberOfTrailingZeros_9 : decode cJ0_numberOfTrailingZeros 9 = .ok (.lload_n 0, 1) := by decide +kernel
theorem dJ0_numberOfTrailingZeros_10 : decode cJ0_numberOfTrailingZeros 10 = .ok (.bipush 32, 2) := by decide +kernel
theorem dJ0_numberOfTrailingZeros_12 : decode cJ0_numberOfTrailingZeros 12 = .ok (.lushr, 1) := by decide +kernel
theorem dJ0_numberOfTrailingZeros_13 : decode cJ0_numberOfTrailingZeros 13 = .ok (.l2i, 1) := by decide +kernel
theorem dJ0_numberOfTrailingZeros_14 : decode cJ0_numberOfTrailingZeros 14 = .ok (.invokestatic 311, 3) := by decide +kernel
theorem dJ0_numberOfTrailingZeros_17 : decode cJ0_numberOfTrailingZeros 17 = .ok (.iadd, 1) := by decide +kernel
theorem dJ0_numberOfTrailingZeros_18 : decode cJ0_numberOfTrailingZeros 18 = .ok (.goto 7, 3) := by decide +kernel
theorem dJ0_numberOfTrailingZeros_21 : decode cJ0_numberOfTrailingZeros 21 = .ok (.iload_n 2, 1) := by decide +kernel
theorem dJ0_numberOfTrailingZeros_22 : decode cJ0_numberOfTrailingZeros 22 = .ok (.invokestatic 311, 3) := by decide +kernel
theorem dJ0_numberOfTrailingZeros_25 : decode cJ0_numberOfTrailingZeros 25 = .ok (.ireturn, 1) := by decide +kernel
theorem dJ0_reverseBytes_0 : decode cJ0_reverseBytes 0 = .ok (.lload_n 0, 1) := by decide +kernel
theorem dJ0_reverseBytes_1 : decode cJ0_reverseBytes 1 = .ok (.ldc2_w 327, 3) := by decide +kernel
theorem dJ0_reverseBytes_4 : decode cJ0_reverseBytes 4 = .ok (.land, 1) := by decide +kernel
theorem dJ0_reverseBytes_5 : decode cJ0_reverseBytes 5 = .ok (.bipush 8, 2) := by decide +kernel
theorem dJ0_reverseBytes_7 : decode cJ0_reverseBytes 7 = .ok (.lshl, 1) := by decide +kernel
theorem dJ0_reverseBytes_8 : decode cJ0_reverseBytes 8 = .ok (.lload_n 0, 1) := by decide +kernel
theorem dJ0_reverseBytes_9 : decode cJ0_reverseBytes 9 = .ok (.bipush 8, 2) := by decide +kernel
theorem dJ0_reverseBytes_11 : decode cJ0_reverseBytes 11 = .ok (.lushr, 1) := by decide +kernel
theorem dJ0_reverseBytes_12 : decode cJ0_reverseBytes 12 = .ok (.ldc2_w 327, 3) := by decide +kernel
theorem dJ0_reverseBytes_15 : decode cJ0_reverseBytes 15 = .ok (.land, 1) := by decide +kernel
theorem dJ0_reverseBytes_16 : decode cJ0_reverseBytes 16 = .ok (.lor, 1) := by decide +kernel
theorem dJ0_reverseBytes_17 : decode cJ0_reverseBytes 17 = .ok (.lstore_n 0, 1) := by decide +kernel
theorem dJ0_reverseBytes_18 : decode cJ0_reverseBytes 18 = .ok (.lload_n 0, 1) := by decide +kernel
theorem dJ0_reverseBytes_19 : decode cJ0_reverseBytes 19 = .ok (.bipush 48, 2) := by decide +kernel
theorem dJ0_reverseBytes_21 : decode cJ0_reverseBytes 21 = .ok (.lshl, 1) := by decide +kernel
theorem dJ0_reverseBytes_22 : decode cJ0_reverseBytes 22 = .ok (.lload_n 0, 1) := by decide +kernel
theorem dJ0_reverseBytes_23 : decode cJ0_reverseBytes 23 = .ok (.ldc2_w 329, 3) := by decide +kernel
theorem dJ0_reverseBytes_26 : decode cJ0_reverseBytes 26 = .ok (.land, 1) := by decide +kernel
theorem dJ0_reverseBytes_27 : decode cJ0_reverseBytes 27 = .ok (.bipush 16, 2) := by decide +kernel
theorem dJ0_reverseBytes_29 : decode cJ0_reverseBytes 29 = .ok (.lshl, 1) := by decide +kernel
theorem dJ0_reverseBytes_30 : decode cJ0_reverseBytes 30 = .ok (.lor, 1) := by decide +kernel
theorem dJ0_reverseBytes_31 : decode cJ0_reverseBytes 31 = .ok (.lload_n 0, 1) := by decide +kernel
theorem dJ0_reverseBytes_32 : decode cJ0_reverseBytes 32 = .ok (.bipush 16, 2) := by decide +kernel
theorem dJ0_reverseBytes_34 : decode cJ0_reverseBytes 34 = .ok (.lushr, 1) := by decide +kernel
theorem dJ0_reverseBytes_35 : decode cJ0_reverseBytes 35 = .ok (.ldc2_w 329, 3) := by decide +kernel
theorem dJ0_reverseBytes_38 : decode cJ0_reverseBytes 38 = .ok (.land, 1) := by decide +kernel
theorem dJ0_reverseBytes_39 : decode cJ0_reverseBytes 39 = .ok (.lor, 1) := by decide +kernel
theorem dJ0_reverseBytes_40 : decode cJ0_reverseBytes 40 = .ok (.lload_n 0, 1) := by decide +kernel
theorem dJ0_reverseBytes_41 : decode cJ0_reverseBytes 41 = .ok (.bipush 48, 2) := by decide +kernel
theorem dJ0_reverseBytes_43 : decode cJ0_reverseBytes 43 = .ok (.lushr, 1) := by decide +kernel
theorem dJ0_reverseBytes_44 : decode cJ0_reverseBytes 44 = .ok (.lor, 1) := by decide +kernel
theorem dJ0_reverseBytes_45 : decode cJ0_reverseBytes 45 = .ok (.lreturn, 1) := by decide +kernel
theorem dX3_init_0 : decode cX3_init 0 = .ok (.aload_n 0, 1) := by decide +kernel
theorem dX3_init_1 : decode cX3_init 1 = .ok (.invokespecial 1, 3) := by decide +kernel
theorem dX3_init_4 : decode cX3_init 4 = .ok (.aload_n 0, 1) := by decide +kernel
theorem dX3_init_5 : decode cX3_init 5 = .ok (.ldc 9, 2) := by decide +kernel
theorem dX3_init_7 : decode cX3_init 7 = .ok (.newarray .byte, 2) := by decide +kernel
theorem dX3_init_9 : decode cX3_init 9 = .ok (.putfield 10, 3) := by decide +kernel
theorem dX3_init_12 : decode cX3_init 12 = .ok (.return_, 1) := by decide +kernel
theorem dX3_drop_0 : decode cX3_drop 0 = .ok (.iload_n 1, 1) := by decide +kernel
theorem dX3_drop_1 : decode cX3_drop 1 = .ok (.istore_n 2, 1) := by decide +kernel
theorem dX3_drop_2 : decode cX3_drop 2 = .ok (.iload_n 2, 1) := by decide +kernel
theorem dX3_drop_3 : decode cX3_drop 3 = .ok (.aload_n 0, 1) := by decide +kernel
theorem dX3_drop_4 : decode cX3_drop 4 = .ok (.getfield 14, 3) := by decide +kernel
theorem dX3_drop_7 : decode cX3_drop 7 = .ok (.if_icmp .ge 23, 3) := by decide +kernel
theorem dX3_drop_10 : decode cX3_drop 10 = .ok (.aload_n 0, 1) := by decide +kernel
theorem dX3_drop_11 : decode cX3_drop 11 = .ok (.getfield 10, 3) := by decide +kernel
theorem dX3_drop_14 : decode cX3_drop 14 = .ok (.iload_n 2, 1) := by decide +kernel
theorem dX3_drop_15 : decode cX3_drop 15 = .ok (.iload_n 1, 1) := by decide +kernel
theorem dX3_drop_16 : decode cX3_drop 16 = .ok (.isub, 1) := by decide +kernel
theorem dX3_drop_17 : decode cX3_drop 17 = .ok (.aload_n 0, 1) := by decide +kernel
theorem dX3_drop_18 : decode cX3_drop 18 = .ok (.getfield 10, 3) := by decide +kernel
theorem dX3_drop_21 : decode cX3_drop 21 = .ok (.iload_n 2, 1) := by decide +kernel
theorem dX3_drop_22 : decode cX3_drop 22 = .ok (.baload, 1) := by decide +kernel
theorem dX3_drop_23 : decode cX3_drop 23 = .ok (.bastore, 1) := by decide +kernel
theorem dX3_drop_24 : decode cX3_drop 24 = .ok (.iinc 2 1, 3) := by decide +kernel
theorem dX3_drop_27 : decode cX3_drop 27 = .ok (.goto (-25), 3) := by decide +kernel
theorem dX3_drop_30 : decode cX3_drop 30 = .ok (.aload_n 0, 1) := by decide +kernel
theorem dX3_drop_31 : decode cX3_drop 31 = .ok (.dup, 1) := by decide +kernel
theorem dX3_drop_32 : decode cX3_drop 32 = .ok (.getfield 14, 3) := by decide +kernel
theorem dX3_drop_35 : decode cX3_drop 35 = .ok (.iload_n 1, 1) := by decide +kernel
theorem dX3_drop_36 : decode cX3_drop 36 = .ok (.isub, 1) := by decide +kernel
theorem dX3_drop_37 : decode cX3_drop 37 = .ok (.putfield 14, 3) := by decide +kernel
theorem dX3_drop_40 : decode cX3_drop 40 = .ok (.return_, 1) := by decide +kernel
theorem dX3_add_0 : decode cX3_add 0 = .ok (.aload_n 0, 1) := by decide +kernel
theorem dX3_add_1 : decode cX3_add 1 = .ok (.getfield 10, 3) := by decide +kernel
theorem dX3_add_4 : decode cX3_add 4 = .ok (.aload_n 0, 1) := by decide +kernel
theorem dX3_add_5 : decode cX3_add 5 = .ok (.dup, 1) := by decide +kernel
theorem dX3_add_6 : decode cX3_add 6 = .ok (.getfield 14, 3) := by decide +kernel
theorem dX3_add_9 : decode cX3_add 9 = .ok (.dup_x1, 1) := by decide +kernel
theorem dX3_add_10 : decode cX3_add 10 = .ok (.iconst 1, 1) := by decide +kernel
theorem dX3_add_11 : decode cX3_add 11 = .ok (.iadd, 1) := by decide +kernel
theorem dX3_add_12 : decode cX3_add 12 = .ok (.putfield 14, 3) := by decide +kernel
theorem dX3_add_15 : decode cX3_add 15 = .ok (.iload_n 1, 1) := by decide +kernel
theorem dX3_add_16 : decode cX3_add 16 = .ok (.i2b, 1) := by decide +kernel
theorem dX3_add_17 : decode cX3_add 17 = .ok (.bastore, 1) := by decide +kernel
theorem dX3_add_18 : decode cX3_add 18 = .ok (.return_, 1) := by decide +kernel
theorem dX4_init_0 : decode cX4_init 0 = .ok (.aload_n 0, 1) := by decide +kernel
theorem dX4_init_1 : decode cX4_init 1 = .ok (.invokespecial 1, 3) := by decide +kernel
theorem dX4_init_4 : decode cX4_init 4 = .ok (.aload_n 0, 1) := by decide +kernel
theorem dX4_init_5 : decode cX4_init 5 = .ok (.bipush 39, 2) := by decide +kernel
theorem dX4_init_7 : decode cX4_init 7 = .ok (.putfield 7, 3) := by decide +kernel
theorem dX4_init_10 : decode cX4_init 10 = .ok (.aload_n 0, 1) := by decide +kernel
theorem dX4_init_11 : decode cX4_init 11 = .ok (.iconst 3, 1) := by decide +kernel
theorem dX4_init_12 : decode cX4_init 12 = .ok (.newarray .int, 2) := by decide +kernel
theorem dX4_init_14 : decode cX4_init 14 = .ok (.putfield 13, 3) := by decide +kernel
theorem dX4_init_17 : decode cX4_init 17 = .ok (.aload_n 0, 1) := by decide +kernel
theorem dX4_init_18 : decode cX4_init 18 = .ok (.iconst 3, 1) := by decide +kernel
theorem dX4_init_19 : decode cX4_init 19 = .ok (.newarray .int, 2) := by decide +kernel
theorem dX4_init_21 : decode cX4_init 21 = .ok (.putfield 17, 3) := by decide +kernel
theorem dX4_init_24 : decode cX4_init 24 = .ok (.aload_n 0, 1) := by decide +kernel
theorem dX4_init_25 : decode cX4_init 25 = .ok (.iconst (-1), 1) := by decide +kernel
theorem dX4_init_26 : decode cX4_init 26 = .ok (.putfield 20, 3) := by decide +kernel
theorem dX4_init_29 : decode cX4_init 29 = .ok (.aload_n 0, 1) := by decide +kernel
theorem dX4_init_30 : decode cX4_init 30 = .ok (.iconst (-1), 1) := by decide +kernel
theorem dX4_init_31 : decode cX4_init 31 = .ok (.putfield 23, 3) := by decide +kernel
theorem dX4_init_34 : decode cX4_init 34 = .ok (.aload_n 0, 1) := by decide +kernel
theorem dX4_init_35 : decode cX4_init 35 = .ok (.iconst 1, 1) := by decide +kernel
theorem dX4_init_36 : decode cX4_init 36 = .ok (.putfield 26, 3) := by decide +kernel
theorem dX4_init_39 : decode cX4_init 39 = .ok (.return_, 1) := by decide +kernel
theorem dX4_clear_0 : decode cX4_clear 0 = .ok (.aload_n 0, 1) := by decide +kernel
theorem dX4_clear_1 : decode cX4_clear 1 = .ok (.iload_n 1, 1) := by decide +kernel
theorem dX4_clear_2 : decode cX4_clear 2 = .ok (.putfield 7, 3) := by decide +kernel
theorem dX4_clear_5 : decode cX4_clear 5 = .ok (.aload_n 0, 1) := by decide +kernel
theorem dX4_clear_6 : decode cX4_clear 6 = .ok (.iload_n 2, 1) := by decide +kernel
theorem dX4_clear_7 : decode cX4_clear 7 = .ok (.putfield 29, 3) := by decide +kernel
theorem dX4_clear_10 : decode cX4_clear 10 = .ok (.aload_n 0, 1) := by decide +kernel
theorem dX4_clear_11 : decode cX4_clear 11 = .ok (.iload_n 3, 1) := by decide +kernel
theorem dX4_clear_12 : decode cX4_clear 12 = .ok (.putfield 32, 3) := by decide +kernel
theorem dX4_clear_15 : decode cX4_clear 15 = .ok (.iconst 0, 1) := by decide +kernel
theorem dX4_clear_16 : decode cX4_clear 16 = .ok (.istore 4, 2) := by decide +kernel
theorem dX4_clear_18 : decode cX4_clear 18 = .ok (.iload 4, 2) := by decide +kernel
theorem dX4_clear_20 : decode cX4_clear 20 = .ok (.iconst 3, 1) := by decide +kernel
theorem dX4_clear_21 : decode cX4_clear 21 = .ok (.if_icmp .ge 25, 3) := by decide +kernel
theorem dX4_clear_24 : decode cX4_clear 24 = .ok (.aload_n 0, 1) := by decide +kernel
theorem dX4_clear_25 : decode cX4_clear 25 = .ok (.getfield 13, 3) := by decide +kernel
theorem dX4_clear_28 : decode cX4_clear 28 = .ok (.iload 4, 2) := by decide +kernel
theorem dX4_clear_30 : decode cX4_clear 30 = .ok (.iconst 0, 1) := by decide +kernel
theorem dX4_clear_31 : decode cX4_clear 31 = .ok (.iastore, 1) := by decide +kernel
theorem dX4_clear_32 : decode cX4_clear 32 = .ok (.aload_n 0, 1) := by decide +kernel
theorem dX4_clear_33 : decode cX4_clear 33 = .ok (.getfield 17, 3) := by decide +kernel
theorem dX4_clear_36 : decode cX4_clear 36 = .ok (.iload 4, 2) := by decide +kernel
theorem dX4_clear_38 : decode cX4_clear 38 = .ok (.iconst 0, 1) := by decide +kernel
theorem dX4_clear_39 : decode cX4_clear 39 = .ok (.iastore, 1) := by decide +kernel
theorem dX4_clear_40 : decode cX4_clear 40 = .ok (.iinc 4 1, 3) := by decide +kernel
theorem dX4_clear_43 : decode cX4_clear 43 = .ok (.goto (-25), 3) := by decide +kernel
theorem dX4_clear_46 : decode cX4_clear 46 = .ok (.return_, 1) := by decide +kernel
theorem dX4_put_0 : decode cX4_put 0 = .ok (.aload_n 0, 1) := by decide +kernel
theorem dX4_put_1 : decode cX4_put 1 = .ok (.getfield 13, 3) := by decide +kernel
theorem dX4_put_4 : decode cX4_put 4 = .ok (.iload_n 1, 1) := by decide +kernel
theorem dX4_put_5 : decode cX4_put 5 = .ok (.iload_n 2, 1) := by decide +kernel
theorem dX4_put_6 : decode cX4_put 6 = .ok (.iastore, 1) := by decide +kernel
theorem dX4_put_7 : decode cX4_put 7 = .ok (.aload_n 0, 1) := by decide +kernel
theorem dX4_put_8 : decode cX4_put 8 = .ok (.getfield 17, 3) := by decide +kernel
theorem dX4_put_11 : decode cX4_put 11 = .ok (.iload_n 1, 1) := by decide +kernel
theorem dX4_put_12 : decode cX4_put 12 = .ok (.iload_n 3, 1) := by decide +kernel
theorem dX4_put_13 : decode cX4_put 13 = .ok (.iastore, 1) := by decide +kernel
theorem dX4_put_14 : decode cX4_put 14 = .ok (.return_, 1) := by decide +kernel
theorem dX4_memory_0 : decode cX4_memory 0 = .ok (.aload_n 0, 1) := by decide +kernel
theorem dX4_memory_1 : decode cX4_memory 1 = .ok (.iload_n 1, 1) := by decide +kernel
theorem dX4_memory_2 : decode cX4_memory 2 = .ok (.putfield 20, 3) := by decide +kernel
theorem dX4_memory_5 : decode cX4_memory 5 = .ok (.aload_n 0, 1) := by decide +kernel
theorem dX4_memory_6 : decode cX4_memory 6 = .ok (.iload_n 2, 1) := by decide +kernel
theorem dX4_memory_7 : decode cX4_memory 7 = .ok (.putfield 23, 3) := by decide +kernel
theorem dX4_memory_10 : decode cX4_memory 10 = .ok (.aload_n 0, 1) := by decide +kernel
theorem dX4_memory_11 : decode cX4_memory 11 = .ok (.iload_n 3, 1) := by decide +kernel
theorem dX4_memory_12 : decode cX4_memory 12 = .ok (.putfield 26, 3) := by decide +kernel
theorem dX4_memory_15 : decode cX4_memory 15 = .ok (.aload_n 0, 1) := by decide +kernel
theorem dX4_memory_16 : decode cX4_memory 16 = .ok (.iload 4, 2) := by decide +kernel
theorem dX4_memory_18 : decode cX4_memory 18 = .ok (.putfield 35, 3) := by decide +kernel
theorem dX4_memory_21 : decode cX4_memory 21 = .ok (.return_, 1) := by decide +kernel
theorem dX1_init_0 : decode cX1_init 0 = .ok (.aload_n 0, 1) := by decide +kernel
theorem dX1_init_1 : decode cX1_init 1 = .ok (.invokespecial 1, 3) := by decide +kernel
theorem dX1_init_4 : decode cX1_init 4 = .ok (.aload_n 0, 1) := by decide +kernel
theorem dX1_init_5 : decode cX1_init 5 = .ok (.ldc2_w 9, 3) := by decide +kernel
theorem dX1_init_8 : decode cX1_init 8 = .ok (.putfield 11, 3) := by decide +kernel
theorem dX1_init_11 : decode cX1_init 11 = .ok (.aload_n 0, 1) := by decide +kernel
theorem dX1_init_12 : decode cX1_init 12 = .ok (.ldc2_w 9, 3) := by decide +kernel
theorem dX1_init_15 : decode cX1_init 15 = .ok (.putfield 15, 3) := by decide +kernel
theorem dX1_init_18 : decode cX1_init 18 = .ok (.aload_n 0, 1) := by decide +kernel
theorem dX1_init_19 : decode cX1_init 19 = .ok (.iload_n 1, 1) := by decide +kernel
theorem dX1_init_20 : decode cX1_init 20 = .ok (.putfield 18, 3) := by decide +kernel
theorem dX1_init_23 : decode cX1_init 23 = .ok (.aload_n 0, 1) := by decide +kernel
theorem dX1_init_24 : decode cX1_init 24 = .ok (.iload_n 1, 1) := by decide +kernel
theorem dX1_init_25 : decode cX1_init 25 = .ok (.ldc 22, 2) := by decide +kernel
theorem dX1_init_27 : decode cX1_init 27 = .ok (.iadd, 1) := by decide +kernel
theorem dX1_init_28 : decode cX1_init 28 = .ok (.putfield 23, 3) := by decide +kernel
theorem dX1_init_31 : decode cX1_init 31 = .ok (.aload_n 0, 1) := by decide +kernel
theorem dX1_init_32 : decode cX1_init 32 = .ok (.aload_n 0, 1) := by decide +kernel
theorem dX1_init_33 : decode cX1_init 33 = .ok (.getfield 23, 3) := by decide +kernel
theorem dX1_init_36 : decode cX1_init 36 = .ok (.ldc 22, 2) := by decide +kernel
theorem dX1_init_38 : decode cX1_init 38 = .ok (.iadd, 1) := by decide +kernel
theorem dX1_init_39 : decode cX1_init 39 = .ok (.newarray .byte, 2) := by decide +kernel
theorem dX1_init_41 : decode cX1_init 41 = .ok (.putfield 26, 3) := by decide +kernel
theorem dX1_init_44 : decode cX1_init 44 = .ok (.return_, 1) := by decide +kernel
theorem dX1_load_0 : decode cX1_load 0 = .ok (.aload_n 1, 1) := by decide +kernel
theorem dX1_load_1 : decode cX1_load 1 = .ok (.iconst 0, 1) := by decide +kernel
theorem dX1_load_2 : decode cX1_load 2 = .ok (.aload_n 0, 1) := by decide +kernel
theorem dX1_load_3 : decode cX1_load 3 = .ok (.getfield 26, 3) := by decide +kernel
theorem dX1_load_6 : decode cX1_load 6 = .ok (.iconst 0, 1) := by decide +kernel
theorem dX1_load_7 : decode cX1_load 7 = .ok (.iload_n 2, 1) := by decide +kernel
theorem dX1_load_8 : decode cX1_load 8 = .ok (.invokestatic 30, 3) := by decide +kernel
theorem dX1_load_11 : decode cX1_load 11 = .ok (.iload_n 2, 1) := by decide +kernel
theorem dX1_load_12 : decode cX1_load 12 = .ok (.istore_n 3, 1) := by decide +kernel
theorem dX1_load_13 : decode cX1_load 13 = .ok (.iload_n 3, 1) := by decide +kernel
theorem dX1_load_14 : decode cX1_load 14 = .ok (.aload_n 0, 1) := by decide +kernel
theorem dX1_load_15 : decode cX1_load 15 = .ok (.getfield 26, 3) := by decide +kernel
theorem dX1_load_18 : decode cX1_load 18 = .ok (.arraylength, 1) := by decide +kernel
theorem dX1_load_19 : decode cX1_load 19 = .ok (.if_icmp .ge 16, 3) := by decide +kernel
theorem dX1_load_22 : decode cX1_load 22 = .ok (.aload_n 0, 1) := by decide +kernel
theorem dX1_load_23 : decode cX1_load 23 = .ok (.getfield 26, 3) := by decide +kernel
theorem dX1_load_26 : decode cX1_load 26 = .ok (.iload_n 3, 1) := by decide +kernel
theorem dX1_load_27 : decode cX1_load 27 = .ok (.iconst 0, 1) := by decide +kernel
theorem dX1_load_28 : decode cX1_load 28 = .ok (.bastore, 1) := by decide +kernel
theorem dX1_load_29 : decode cX1_load 29 = .ok (.iinc 3 1, 3) := by decide +kernel
theorem dX1_load_32 : decode cX1_load 32 = .ok (.goto (-19), 3) := by decide +kernel
theorem dX1_load_35 : decode cX1_load 35 = .ok (.aload_n 0, 1) := by decide +kernel
theorem dX1_load_36 : decode cX1_load 36 = .ok (.ldc 36, 2) := by decide +kernel
theorem dX1_load_38 : decode cX1_load 38 = .ok (.iload_n 2, 1) := by decide +kernel
theorem dX1_load_39 : decode cX1_load 39 = .ok (.iadd, 1) := by decide +kernel
theorem dX1_load_40 : decode cX1_load 40 = .ok (.sipush 4096, 3) := by decide +kernel
theorem dX1_load_43 : decode cX1_load 43 = .ok (.iadd, 1) := by decide +kernel
theorem dX1_load_44 : decode cX1_load 44 = .ok (.iconst 1, 1) := by decide +kernel
theorem dX1_load_45 : decode cX1_load 45 = .ok (.isub, 1) := by decide +kernel
theorem dX1_load_46 : decode cX1_load 46 = .ok (.sipush (-4096), 3) := by decide +kernel
theorem dX1_load_49 : decode cX1_load 49 = .ok (.iand, 1) := by decide +kernel
theorem dX1_load_50 : decode cX1_load 50 = .ok (.i2l, 1) := by decide +kernel
theorem dX1_load_51 : decode cX1_load 51 = .ok (.putfield 11, 3) := by decide +kernel
theorem dX1_load_54 : decode cX1_load 54 = .ok (.aload_n 0, 1) := by decide +kernel
theorem dX1_load_55 : decode cX1_load 55 = .ok (.aload_n 0, 1) := by decide +kernel
theorem dX1_load_56 : decode cX1_load 56 = .ok (.getfield 11, 3) := by decide +kernel
theorem dX1_load_59 : decode cX1_load 59 = .ok (.putfield 15, 3) := by decide +kernel
theorem dX1_load_62 : decode cX1_load 62 = .ok (.return_, 1) := by decide +kernel
theorem dX1_lay_0 : decode cX1_lay 0 = .ok (.aload_n 0, 1) := by decide +kernel
theorem dX1_lay_1 : decode cX1_lay 1 = .ok (.iload_n 1, 1) := by decide +kernel
theorem dX1_lay_2 : decode cX1_lay 2 = .ok (.putfield 37, 3) := by decide +kernel
theorem dX1_lay_5 : decode cX1_lay 5 = .ok (.aload_n 0, 1) := by decide +kernel
theorem dX1_lay_6 : decode cX1_lay 6 = .ok (.iload_n 2, 1) := by decide +kernel
theorem dX1_lay_7 : decode cX1_lay 7 = .ok (.putfield 40, 3) := by decide +kernel
theorem dX1_lay_10 : decode cX1_lay 10 = .ok (.aload_n 0, 1) := by decide +kernel
theorem dX1_lay_11 : decode cX1_lay 11 = .ok (.iload_n 3, 1) := by decide +kernel
theorem dX1_lay_12 : decode cX1_lay 12 = .ok (.putfield 43, 3) := by decide +kernel
theorem dX1_lay_15 : decode cX1_lay 15 = .ok (.aload_n 0, 1) := by decide +kernel
theorem dX1_lay_16 : decode cX1_lay 16 = .ok (.iload 4, 2) := by decide +kernel
theorem dX1_lay_18 : decode cX1_lay 18 = .ok (.putfield 46, 3) := by decide +kernel
theorem dX1_lay_21 : decode cX1_lay 21 = .ok (.aload_n 0, 1) := by decide +kernel
theorem dX1_lay_22 : decode cX1_lay 22 = .ok (.iload 5, 2) := by decide +kernel
theorem dX1_lay_24 : decode cX1_lay 24 = .ok (.putfield 49, 3) := by decide +kernel
theorem dX1_lay_27 : decode cX1_lay 27 = .ok (.return_, 1) := by decide +kernel
theorem dX1_has_0 : decode cX1_has 0 = .ok (.iconst 1, 1) := by decide +kernel
theorem dX1_has_1 : decode cX1_has 1 = .ok (.istore 5, 2) := by decide +kernel
theorem dX1_has_3 : decode cX1_has 3 = .ok (.iconst 0, 1) := by decide +kernel
theorem dX1_has_4 : decode cX1_has 4 = .ok (.istore 6, 2) := by decide +kernel
theorem dX1_has_6 : decode cX1_has 6 = .ok (.iload 6, 2) := by decide +kernel
theorem dX1_has_8 : decode cX1_has 8 = .ok (.iload_n 3, 1) := by decide +kernel
theorem dX1_has_9 : decode cX1_has 9 = .ok (.if_icmp .ge 35, 3) := by decide +kernel
theorem dX1_has_12 : decode cX1_has 12 = .ok (.iload 5, 2) := by decide +kernel
theorem dX1_has_14 : decode cX1_has 14 = .ok (.ifCond .eq 21, 3) := by decide +kernel
theorem dX1_has_17 : decode cX1_has 17 = .ok (.aload_n 0, 1) := by decide +kernel
theorem dX1_has_18 : decode cX1_has 18 = .ok (.lload_n 1, 1) := by decide +kernel
theorem dX1_has_19 : decode cX1_has 19 = .ok (.iload 6, 2) := by decide +kernel
theorem dX1_has_21 : decode cX1_has 21 = .ok (.i2l, 1) := by decide +kernel
theorem dX1_has_22 : decode cX1_has 22 = .ok (.ladd, 1) := by decide +kernel
theorem dX1_has_23 : decode cX1_has 23 = .ok (.iload 4, 2) := by decide +kernel
theorem dX1_has_25 : decode cX1_has 25 = .ok (.invokevirtual 62, 3) := by decide +kernel
theorem dX1_has_28 : decode cX1_has 28 = .ok (.ifCond .lt 7, 3) := by decide +kernel
theorem dX1_has_31 : decode cX1_has 31 = .ok (.iconst 1, 1) := by decide +kernel
theorem dX1_has_32 : decode cX1_has 32 = .ok (.goto 4, 3) := by decide +kernel
theorem dX1_has_35 : decode cX1_has 35 = .ok (.iconst 0, 1) := by decide +kernel
theorem dX1_has_36 : decode cX1_has 36 = .ok (.istore 5, 2) := by decide +kernel
theorem dX1_has_38 : decode cX1_has 38 = .ok (.iinc 6 1, 3) := by decide +kernel
theorem dX1_has_41 : decode cX1_has 41 = .ok (.goto (-35), 3) := by decide +kernel
theorem dX1_has_44 : decode cX1_has 44 = .ok (.iload 5, 2) := by decide +kernel
theorem dX1_has_46 : decode cX1_has 46 = .ok (.ireturn, 1) := by decide +kernel
theorem dX1_where_0 : decode cX1_where 0 = .ok (.lload_n 1, 1) := by decide +kernel
theorem dX1_where_1 : decode cX1_where 1 = .ok (.ldc2_w 52, 3) := by decide +kernel
theorem dX1_where_4 : decode cX1_where 4 = .ok (.ldc2_w 54, 3) := by decide +kernel
theorem dX1_where_7 : decode cX1_where 7 = .ok (.invokestatic 56, 3) := by decide +kernel
theorem dX1_where_10 : decode cX1_where 10 = .ok (.ifCond .eq 19, 3) := by decide +kernel
theorem dX1_where_13 : decode cX1_where 13 = .ok (.aload_n 0, 1) := by decide +kernel
theorem dX1_where_14 : decode cX1_where 14 = .ok (.getfield 23, 3) := by decide +kernel
theorem dX1_where_17 : decode cX1_where 17 = .ok (.lload_n 1, 1) := by decide +kernel
theorem dX1_where_18 : decode cX1_where 18 = .ok (.ldc2_w 54, 3) := by decide +kernel
theorem dX1_where_21 : decode cX1_where 21 = .ok (.lsub, 1) := by decide +kernel
theorem dX1_where_22 : decode cX1_where 22 = .ok (.ldc2_w 60, 3) := by decide +kernel
theorem dX1_where_25 : decode cX1_where 25 = .ok (.ladd, 1) := by decide +kernel
theorem dX1_where_26 : decode cX1_where 26 = .ok (.l2i, 1) := by decide +kernel
theorem dX1_where_27 : decode cX1_where 27 = .ok (.iadd, 1) := by decide +kernel
theorem dX1_where_28 : decode cX1_where 28 = .ok (.ireturn, 1) := by decide +kernel
theorem dX1_where_29 : decode cX1_where 29 = .ok (.lload_n 1, 1) := by decide +kernel
theorem dX1_where_30 : decode cX1_where 30 = .ok (.aload_n 0, 1) := by decide +kernel
theorem dX1_where_31 : decode cX1_where 31 = .ok (.getfield 11, 3) := by decide +kernel
theorem dX1_where_34 : decode cX1_where 34 = .ok (.aload_n 0, 1) := by decide +kernel
theorem dX1_where_35 : decode cX1_where 35 = .ok (.getfield 15, 3) := by decide +kernel
theorem dX1_where_38 : decode cX1_where 38 = .ok (.invokestatic 56, 3) := by decide +kernel
theorem dX1_where_41 : decode cX1_where 41 = .ok (.ifCond .eq 16, 3) := by decide +kernel
theorem dX1_where_44 : decode cX1_where 44 = .ok (.aload_n 0, 1) := by decide +kernel
theorem dX1_where_45 : decode cX1_where 45 = .ok (.getfield 18, 3) := by decide +kernel
theorem dX1_where_48 : decode cX1_where 48 = .ok (.lload_n 1, 1) := by decide +kernel
theorem dX1_where_49 : decode cX1_where 49 = .ok (.aload_n 0, 1) := by decide +kernel
theorem dX1_where_50 : decode cX1_where 50 = .ok (.getfield 11, 3) := by decide +kernel
theorem dX1_where_53 : decode cX1_where 53 = .ok (.lsub, 1) := by decide +kernel
theorem dX1_where_54 : decode cX1_where 54 = .ok (.l2i, 1) := by decide +kernel
theorem dX1_where_55 : decode cX1_where 55 = .ok (.iadd, 1) := by decide +kernel
theorem dX1_where_56 : decode cX1_where 56 = .ok (.ireturn, 1) := by decide +kernel
theorem dX1_where_57 : decode cX1_where 57 = .ok (.lload_n 1, 1) := by decide +kernel
theorem dX1_where_58 : decode cX1_where 58 = .ok (.aload_n 0, 1) := by decide +kernel
theorem dX1_where_59 : decode cX1_where 59 = .ok (.getfield 46, 3) := by decide +kernel
theorem dX1_where_62 : decode cX1_where 62 = .ok (.i2l, 1) := by decide +kernel
theorem dX1_where_63 : decode cX1_where 63 = .ok (.aload_n 0, 1) := by decide +kernel
theorem dX1_where_64 : decode cX1_where 64 = .ok (.getfield 49, 3) := by decide +kernel
theorem dX1_where_67 : decode cX1_where 67 = .ok (.i2l, 1) := by decide +kernel
theorem dX1_where_68 : decode cX1_where 68 = .ok (.invokestatic 56, 3) := by decide +kernel
theorem dX1_where_71 : decode cX1_where 71 = .ok (.ifCond .ne 39, 3) := by decide +kernel
theorem dX1_where_74 : decode cX1_where 74 = .ok (.iload_n 3, 1) := by decide +kernel
theorem dX1_where_75 : decode cX1_where 75 = .ok (.ifCond .ne 39, 3) := by decide +kernel
theorem dX1_where_78 : decode cX1_where 78 = .ok (.lload_n 1, 1) := by decide +kernel
theorem dX1_where_79 : decode cX1_where 79 = .ok (.ldc2_w 9, 3) := by decide +kernel
theorem dX1_where_82 : decode cX1_where 82 = .ok (.aload_n 0, 1) := by decide +kernel
theorem dX1_where_83 : decode cX1_where 83 = .ok (.getfield 37, 3) := by decide +kernel
theorem dX1_where_86 : decode cX1_where 86 = .ok (.i2l, 1) := by decide +kernel
theorem dX1_where_87 : decode cX1_where 87 = .ok (.invokestatic 56, 3) := by decide +kernel
theorem dX1_where_90 : decode cX1_where 90 = .ok (.ifCond .ne 20, 3) := by decide +kernel
theorem dX1_where_93 : decode cX1_where 93 = .ok (.lload_n 1, 1) := by decide +kernel
theorem dX1_where_94 : decode cX1_where 94 = .ok (.aload_n 0, 1) := by decide +kernel
theorem dX1_where_95 : decode cX1_where 95 = .ok (.getfield 40, 3) := by decide +kernel
theorem dX1_where_98 : decode cX1_where 98 = .ok (.i2l, 1) := by decide +kernel
theorem dX1_where_99 : decode cX1_where 99 = .ok (.aload_n 0, 1) := by decide +kernel
theorem dX1_where_100 : decode cX1_where 100 = .ok (.getfield 43, 3) := by decide +kernel
theorem dX1_where_103 : decode cX1_where 103 = .ok (.i2l, 1) := by decide +kernel
theorem dX1_where_104 : decode cX1_where 104 = .ok (.invokestatic 56, 3) := by decide +kernel
theorem dX1_where_107 : decode cX1_where 107 = .ok (.ifCond .eq 7, 3) := by decide +kernel
theorem dX1_where_110 : decode cX1_where 110 = .ok (.iconst 1, 1) := by decide +kernel
theorem dX1_where_111 : decode cX1_where 111 = .ok (.goto 4, 3) := by decide +kernel
theorem dX1_where_114 : decode cX1_where 114 = .ok (.iconst 0, 1) := by decide +kernel
theorem dX1_where_115 : decode cX1_where 115 = .ok (.istore 4, 2) := by decide +kernel
theorem dX1_where_117 : decode cX1_where 117 = .ok (.iload 4, 2) := by decide +kernel
theorem dX1_where_119 : decode cX1_where 119 = .ok (.ifCond .eq 12, 3) := by decide +kernel
theorem dX1_where_122 : decode cX1_where 122 = .ok (.lload_n 1, 1) := by decide +kernel
theorem dX1_where_123 : decode cX1_where 123 = .ok (.ldc2_w 9, 3) := by decide +kernel
theorem dX1_where_126 : decode cX1_where 126 = .ok (.lsub, 1) := by decide +kernel
theorem dX1_where_127 : decode cX1_where 127 = .ok (.l2i, 1) := by decide +kernel
theorem dX1_where_128 : decode cX1_where 128 = .ok (.goto 4, 3) := by decide +kernel
theorem dX1_where_131 : decode cX1_where 131 = .ok (.iconst (-1), 1) := by decide +kernel
theorem dX1_where_132 : decode cX1_where 132 = .ok (.ireturn, 1) := by decide +kernel
theorem dX1_in_0 : decode cX1_in 0 = .ok (.lload_n 0, 1) := by decide +kernel
theorem dX1_in_1 : decode cX1_in 1 = .ok (.lload_n 2, 1) := by decide +kernel
theorem dX1_in_2 : decode cX1_in 2 = .ok (.lcmp, 1) := by decide +kernel
theorem dX1_in_3 : decode cX1_in 3 = .ok (.ifCond .lt 14, 3) := by decide +kernel
theorem dX1_in_6 : decode cX1_in 6 = .ok (.lload_n 0, 1) := by decide +kernel
theorem dX1_in_7 : decode cX1_in 7 = .ok (.lload 4, 2) := by decide +kernel
theorem dX1_in_9 : decode cX1_in 9 = .ok (.lcmp, 1) := by decide +kernel
theorem dX1_in_10 : decode cX1_in 10 = .ok (.ifCond .ge 7, 3) := by decide +kernel
theorem dX1_in_13 : decode cX1_in 13 = .ok (.iconst 1, 1) := by decide +kernel
theorem dX1_in_14 : decode cX1_in 14 = .ok (.goto 4, 3) := by decide +kernel
theorem dX1_in_17 : decode cX1_in 17 = .ok (.iconst 0, 1) := by decide +kernel
theorem dX1_in_18 : decode cX1_in 18 = .ok (.ireturn, 1) := by decide +kernel
theorem dX1_read_0 : decode cX1_read 0 = .ok (.lconst 0, 1) := by decide +kernel
theorem dX1_read_1 : decode cX1_read 1 = .ok (.lstore 4, 2) := by decide +kernel
theorem dX1_read_3 : decode cX1_read 3 = .ok (.iconst 0, 1) := by decide +kernel
theorem dX1_read_4 : decode cX1_read 4 = .ok (.istore 6, 2) := by decide +kernel
theorem dX1_read_6 : decode cX1_read 6 = .ok (.iload 6, 2) := by decide +kernel
theorem dX1_read_8 : decode cX1_read 8 = .ok (.iload_n 3, 1) := by decide +kernel
theorem dX1_read_9 : decode cX1_read 9 = .ok (.if_icmp .ge 40, 3) := by decide +kernel
theorem dX1_read_12 : decode cX1_read 12 = .ok (.lload 4, 2) := by decide +kernel
theorem dX1_read_14 : decode cX1_read 14 = .ok (.aload_n 0, 1) := by decide +kernel
theorem dX1_read_15 : decode cX1_read 15 = .ok (.getfield 26, 3) := by decide +kernel
theorem dX1_read_18 : decode cX1_read 18 = .ok (.aload_n 0, 1) := by decide +kernel
theorem dX1_read_19 : decode cX1_read 19 = .ok (.lload_n 1, 1) := by decide +kernel
theorem dX1_read_20 : decode cX1_read 20 = .ok (.iload 6, 2) := by decide +kernel
theorem dX1_read_22 : decode cX1_read 22 = .ok (.i2l, 1) := by decide +kernel
theorem dX1_read_23 : decode cX1_read 23 = .ok (.ladd, 1) := by decide +kernel
theorem dX1_read_24 : decode cX1_read 24 = .ok (.iconst 0, 1) := by decide +kernel
theorem dX1_read_25 : decode cX1_read 25 = .ok (.invokevirtual 62, 3) := by decide +kernel
theorem dX1_read_28 : decode cX1_read 28 = .ok (.baload, 1) := by decide +kernel
theorem dX1_read_29 : decode cX1_read 29 = .ok (.i2l, 1) := by decide +kernel
theorem dX1_read_30 : decode cX1_read 30 = .ok (.ldc2_w 66, 3) := by decide +kernel
theorem dX1_read_33 : decode cX1_read 33 = .ok (.land, 1) := by decide +kernel
theorem dX1_read_34 : decode cX1_read 34 = .ok (.bipush 8, 2) := by decide +kernel
theorem dX1_read_36 : decode cX1_read 36 = .ok (.iload 6, 2) := by decide +kernel
theorem dX1_read_38 : decode cX1_read 38 = .ok (.imul, 1) := by decide +kernel
theorem dX1_read_39 : decode cX1_read 39 = .ok (.lshl, 1) := by decide +kernel
theorem dX1_read_40 : decode cX1_read 40 = .ok (.lor, 1) := by decide +kernel
theorem dX1_read_41 : decode cX1_read 41 = .ok (.lstore 4, 2) := by decide +kernel
theorem dX1_read_43 : decode cX1_read 43 = .ok (.iinc 6 1, 3) := by decide +kernel
theorem dX1_read_46 : decode cX1_read 46 = .ok (.goto (-40), 3) := by decide +kernel
theorem dX1_read_49 : decode cX1_read 49 = .ok (.lload 4, 2) := by decide +kernel
theorem dX1_read_51 : decode cX1_read 51 = .ok (.lreturn, 1) := by decide +kernel
theorem dX1_write_0 : decode cX1_write 0 = .ok (.iconst 0, 1) := by decide +kernel
theorem dX1_write_1 : decode cX1_write 1 = .ok (.istore 6, 2) := by decide +kernel
theorem dX1_write_3 : decode cX1_write 3 = .ok (.iload 6, 2) := by decide +kernel
theorem dX1_write_5 : decode cX1_write 5 = .ok (.iload_n 3, 1) := by decide +kernel
theorem dX1_write_6 : decode cX1_write 6 = .ok (.if_icmp .ge 34, 3) := by decide +kernel
theorem dX1_write_9 : decode cX1_write 9 = .ok (.aload_n 0, 1) := by decide +kernel
theorem dX1_write_10 : decode cX1_write 10 = .ok (.getfield 26, 3) := by decide +kernel
theorem dX1_write_13 : decode cX1_write 13 = .ok (.aload_n 0, 1) := by decide +kernel
theorem dX1_write_14 : decode cX1_write 14 = .ok (.lload_n 1, 1) := by decide +kernel
theorem dX1_write_15 : decode cX1_write 15 = .ok (.iload 6, 2) := by decide +kernel
theorem dX1_write_17 : decode cX1_write 17 = .ok (.i2l, 1) := by decide +kernel
theorem dX1_write_18 : decode cX1_write 18 = .ok (.ladd, 1) := by decide +kernel
theorem dX1_write_19 : decode cX1_write 19 = .ok (.iconst 1, 1) := by decide +kernel
theorem dX1_write_20 : decode cX1_write 20 = .ok (.invokevirtual 62, 3) := by decide +kernel
theorem dX1_write_23 : decode cX1_write 23 = .ok (.lload 4, 2) := by decide +kernel
theorem dX1_write_25 : decode cX1_write 25 = .ok (.bipush 8, 2) := by decide +kernel
theorem dX1_write_27 : decode cX1_write 27 = .ok (.iload 6, 2) := by decide +kernel
theorem dX1_write_29 : decode cX1_write 29 = .ok (.imul, 1) := by decide +kernel
theorem dX1_write_30 : decode cX1_write 30 = .ok (.lshr, 1) := by decide +kernel
theorem dX1_write_31 : decode cX1_write 31 = .ok (.l2i, 1) := by decide +kernel
theorem dX1_write_32 : decode cX1_write 32 = .ok (.i2b, 1) := by decide +kernel
theorem dX1_write_33 : decode cX1_write 33 = .ok (.bastore, 1) := by decide +kernel
theorem dX1_write_34 : decode cX1_write 34 = .ok (.iinc 6 1, 3) := by decide +kernel
theorem dX1_write_37 : decode cX1_write 37 = .ok (.goto (-34), 3) := by decide +kernel
theorem dX1_write_40 : decode cX1_write 40 = .ok (.return_, 1) := by decide +kernel
theorem dX1_moveBreak_0 : decode cX1_moveBreak 0 = .ok (.lload_n 1, 1) := by decide +kernel
theorem dX1_moveBreak_1 : decode cX1_moveBreak 1 = .ok (.aload_n 0, 1) := by decide +kernel
theorem dX1_moveBreak_2 : decode cX1_moveBreak 2 = .ok (.getfield 11, 3) := by decide +kernel
theorem dX1_moveBreak_5 : decode cX1_moveBreak 5 = .ok (.lcmp, 1) := by decide +kernel
theorem dX1_moveBreak_6 : decode cX1_moveBreak 6 = .ok (.ifCond .lt 16, 3) := by decide +kernel
theorem dX1_moveBreak_9 : decode cX1_moveBreak 9 = .ok (.lload_n 1, 1) := by decide +kernel
theorem dX1_moveBreak_10 : decode cX1_moveBreak 10 = .ok (.aload_n 0, 1) := by decide +kernel
theorem dX1_moveBreak_11 : decode cX1_moveBreak 11 = .ok (.getfield 11, 3) := by decide +kernel
theorem dX1_moveBreak_14 : decode cX1_moveBreak 14 = .ok (.ldc2_w 60, 3) := by decide +kernel
theorem dX1_moveBreak_17 : decode cX1_moveBreak 17 = .ok (.ladd, 1) := by decide +kernel
theorem dX1_moveBreak_18 : decode cX1_moveBreak 18 = .ok (.lcmp, 1) := by decide +kernel
theorem dX1_moveBreak_19 : decode cX1_moveBreak 19 = .ok (.ifCond .le 8, 3) := by decide +kernel
theorem dX1_moveBreak_22 : decode cX1_moveBreak 22 = .ok (.aload_n 0, 1) := by decide +kernel
theorem dX1_moveBreak_23 : decode cX1_moveBreak 23 = .ok (.getfield 15, 3) := by decide +kernel
theorem dX1_moveBreak_26 : decode cX1_moveBreak 26 = .ok (.lreturn, 1) := by decide +kernel
theorem dX1_moveBreak_27 : decode cX1_moveBreak 27 = .ok (.lload_n 1, 1) := by decide +kernel
theorem dX1_moveBreak_28 : decode cX1_moveBreak 28 = .ok (.lstore_n 3, 1) := by decide +kernel
theorem dX1_moveBreak_29 : decode cX1_moveBreak 29 = .ok (.lload_n 3, 1) := by decide +kernel
theorem dX1_moveBreak_30 : decode cX1_moveBreak 30 = .ok (.aload_n 0, 1) := by decide +kernel
theorem dX1_moveBreak_31 : decode cX1_moveBreak 31 = .ok (.getfield 15, 3) := by decide +kernel
theorem dX1_moveBreak_34 : decode cX1_moveBreak 34 = .ok (.lcmp, 1) := by decide +kernel
theorem dX1_moveBreak_35 : decode cX1_moveBreak 35 = .ok (.ifCond .ge 28, 3) := by decide +kernel
theorem dX1_moveBreak_38 : decode cX1_moveBreak 38 = .ok (.aload_n 0, 1) := by decide +kernel
theorem dX1_moveBreak_39 : decode cX1_moveBreak 39 = .ok (.getfield 26, 3) := by decide +kernel
theorem dX1_moveBreak_42 : decode cX1_moveBreak 42 = .ok (.aload_n 0, 1) := by decide +kernel
theorem dX1_moveBreak_43 : decode cX1_moveBreak 43 = .ok (.getfield 18, 3) := by decide +kernel
theorem dX1_moveBreak_46 : decode cX1_moveBreak 46 = .ok (.lload_n 3, 1) := by decide +kernel
theorem dX1_moveBreak_47 : decode cX1_moveBreak 47 = .ok (.aload_n 0, 1) := by decide +kernel
theorem dX1_moveBreak_48 : decode cX1_moveBreak 48 = .ok (.getfield 11, 3) := by decide +kernel
theorem dX1_moveBreak_51 : decode cX1_moveBreak 51 = .ok (.lsub, 1) := by decide +kernel
theorem dX1_moveBreak_52 : decode cX1_moveBreak 52 = .ok (.l2i, 1) := by decide +kernel
theorem dX1_moveBreak_53 : decode cX1_moveBreak 53 = .ok (.iadd, 1) := by decide +kernel
theorem dX1_moveBreak_54 : decode cX1_moveBreak 54 = .ok (.iconst 0, 1) := by decide +kernel
theorem dX1_moveBreak_55 : decode cX1_moveBreak 55 = .ok (.bastore, 1) := by decide +kernel
theorem dX1_moveBreak_56 : decode cX1_moveBreak 56 = .ok (.lload_n 3, 1) := by decide +kernel
theorem dX1_moveBreak_57 : decode cX1_moveBreak 57 = .ok (.lconst 1, 1) := by decide +kernel
theorem dX1_moveBreak_58 : decode cX1_moveBreak 58 = .ok (.ladd, 1) := by decide +kernel
theorem dX1_moveBreak_59 : decode cX1_moveBreak 59 = .ok (.lstore_n 3, 1) := by decide +kernel
theorem dX1_moveBreak_60 : decode cX1_moveBreak 60 = .ok (.goto (-31), 3) := by decide +kernel
theorem dX1_moveBreak_63 : decode cX1_moveBreak 63 = .ok (.aload_n 0, 1) := by decide +kernel
theorem dX1_moveBreak_64 : decode cX1_moveBreak 64 = .ok (.lload_n 1, 1) := by decide +kernel
theorem dX1_moveBreak_65 : decode cX1_moveBreak 65 = .ok (.putfield 15, 3) := by decide +kernel
theorem dX1_moveBreak_68 : decode cX1_moveBreak 68 = .ok (.aload_n 0, 1) := by decide +kernel
theorem dX1_moveBreak_69 : decode cX1_moveBreak 69 = .ok (.getfield 15, 3) := by decide +kernel
theorem dX1_moveBreak_72 : decode cX1_moveBreak 72 = .ok (.lreturn, 1) := by decide +kernel
theorem dX0_init_0 : decode cX0_init 0 = .ok (.aload_n 0, 1) := by decide +kernel
theorem dX0_init_1 : decode cX0_init 1 = .ok (.invokespecial 1, 3) := by decide +kernel
theorem dX0_init_4 : decode cX0_init 4 = .ok (.aload_n 0, 1) := by decide +kernel
theorem dX0_init_5 : decode cX0_init 5 = .ok (.ldc 9, 2) := by decide +kernel
theorem dX0_init_7 : decode cX0_init 7 = .ok (.newarray .byte, 2) := by decide +kernel
theorem dX0_init_9 : decode cX0_init 9 = .ok (.putfield 10, 3) := by decide +kernel
theorem dX0_init_12 : decode cX0_init 12 = .ok (.aload_n 0, 1) := by decide +kernel
theorem dX0_init_13 : decode cX0_init 13 = .ok (.new 14, 3) := by decide +kernel
theorem dX0_init_16 : decode cX0_init 16 = .ok (.dup, 1) := by decide +kernel
theorem dX0_init_17 : decode cX0_init 17 = .ok (.ldc 9, 2) := by decide +kernel
theorem dX0_init_19 : decode cX0_init 19 = .ok (.invokespecial 16, 3) := by decide +kernel
theorem dX0_init_22 : decode cX0_init 22 = .ok (.putfield 19, 3) := by decide +kernel
theorem dX0_init_25 : decode cX0_init 25 = .ok (.aload_n 0, 1) := by decide +kernel
theorem dX0_init_26 : decode cX0_init 26 = .ok (.new 23, 3) := by decide +kernel
theorem dX0_init_29 : decode cX0_init 29 = .ok (.dup, 1) := by decide +kernel
theorem dX0_init_30 : decode cX0_init 30 = .ok (.aload_n 0, 1) := by decide +kernel
theorem dX0_init_31 : decode cX0_init 31 = .ok (.getfield 19, 3) := by decide +kernel
theorem dX0_init_34 : decode cX0_init 34 = .ok (.invokespecial 25, 3) := by decide +kernel
theorem dX0_init_37 : decode cX0_init 37 = .ok (.putfield 28, 3) := by decide +kernel
theorem dX0_init_40 : decode cX0_init 40 = .ok (.aload_n 0, 1) := by decide +kernel
theorem dX0_init_41 : decode cX0_init 41 = .ok (.iconst 0, 1) := by decide +kernel
theorem dX0_init_42 : decode cX0_init 42 = .ok (.iconst 0, 1) := by decide +kernel
theorem dX0_init_43 : decode cX0_init 43 = .ok (.iconst 0, 1) := by decide +kernel
theorem dX0_init_44 : decode cX0_init 44 = .ok (.iconst 0, 1) := by decide +kernel
theorem dX0_init_45 : decode cX0_init 45 = .ok (.iconst 0, 1) := by decide +kernel
theorem dX0_init_46 : decode cX0_init 46 = .ok (.iconst 0, 1) := by decide +kernel
theorem dX0_init_47 : decode cX0_init 47 = .ok (.invokevirtual 32, 3) := by decide +kernel
theorem dX0_init_50 : decode cX0_init 50 = .ok (.pop, 1) := by decide +kernel
theorem dX0_init_51 : decode cX0_init 51 = .ok (.return_, 1) := by decide +kernel
theorem dX0_begin_0 : decode cX0_begin 0 = .ok (.iload_n 2, 1) := by decide +kernel
theorem dX0_begin_1 : decode cX0_begin 1 = .ok (.ifCond .lt 40, 3) := by decide +kernel
theorem dX0_begin_4 : decode cX0_begin 4 = .ok (.iload_n 3, 1) := by decide +kernel
theorem dX0_begin_5 : decode cX0_begin 5 = .ok (.iload_n 2, 1) := by decide +kernel
theorem dX0_begin_6 : decode cX0_begin 6 = .ok (.if_icmp .lt 35, 3) := by decide +kernel
theorem dX0_begin_9 : decode cX0_begin 9 = .ok (.iload 4, 2) := by decide +kernel
theorem dX0_begin_11 : decode cX0_begin 11 = .ok (.iload_n 3, 1) := by decide +kernel
theorem dX0_begin_12 : decode cX0_begin 12 = .ok (.if_icmp .lt 29, 3) := by decide +kernel
theorem dX0_begin_15 : decode cX0_begin 15 = .ok (.iload 5, 2) := by decide +kernel
theorem dX0_begin_17 : decode cX0_begin 17 = .ok (.iload 4, 2) := by decide +kernel
theorem dX0_begin_19 : decode cX0_begin 19 = .ok (.if_icmp .lt 22, 3) := by decide +kernel
theorem dX0_begin_22 : decode cX0_begin 22 = .ok (.iload 6, 2) := by decide +kernel
theorem dX0_begin_24 : decode cX0_begin 24 = .ok (.iload 5, 2) := by decide +kernel
theorem dX0_begin_26 : decode cX0_begin 26 = .ok (.if_icmp .lt 15, 3) := by decide +kernel
theorem dX0_begin_29 : decode cX0_begin 29 = .ok (.iload_n 1, 1) := by decide +kernel
theorem dX0_begin_30 : decode cX0_begin 30 = .ok (.iload 6, 2) := by decide +kernel
theorem dX0_begin_32 : decode cX0_begin 32 = .ok (.if_icmp .lt 9, 3) := by decide +kernel
theorem dX0_begin_35 : decode cX0_begin 35 = .ok (.iload_n 1, 1) := by decide +kernel
theorem dX0_begin_36 : decode cX0_begin 36 = .ok (.ldc 9, 2) := by decide +kernel
theorem dX0_begin_38 : decode cX0_begin 38 = .ok (.if_icmp .le 5, 3) := by decide +kernel
theorem dX0_begin_41 : decode cX0_begin 41 = .ok (.iconst 0, 1) := by decide +kernel
theorem dX0_begin_42 : decode cX0_begin 42 = .ok (.ireturn, 1) := by decide +kernel
theorem dX0_begin_43 : decode cX0_begin 43 = .ok (.aload_n 0, 1) := by decide +kernel
theorem dX0_begin_44 : decode cX0_begin 44 = .ok (.getfield 19, 3) := by decide +kernel
theorem dX0_begin_47 : decode cX0_begin 47 = .ok (.aload_n 0, 1) := by decide +kernel
theorem dX0_begin_48 : decode cX0_begin 48 = .ok (.getfield 10, 3) := by decide +kernel
theorem dX0_begin_51 : decode cX0_begin 51 = .ok (.iload_n 1, 1) := by decide +kernel
theorem dX0_begin_52 : decode cX0_begin 52 = .ok (.invokevirtual 36, 3) := by decide +kernel
theorem dX0_begin_55 : decode cX0_begin 55 = .ok (.aload_n 0, 1) := by decide +kernel
theorem dX0_begin_56 : decode cX0_begin 56 = .ok (.getfield 19, 3) := by decide +kernel
theorem dX0_begin_59 : decode cX0_begin 59 = .ok (.ldc 40, 2) := by decide +kernel
theorem dX0_begin_61 : decode cX0_begin 61 = .ok (.iload_n 2, 1) := by decide +kernel
theorem dX0_begin_62 : decode cX0_begin 62 = .ok (.iadd, 1) := by decide +kernel
theorem dX0_begin_63 : decode cX0_begin 63 = .ok (.ldc 40, 2) := by decide +kernel
theorem dX0_begin_65 : decode cX0_begin 65 = .ok (.iload_n 3, 1) := by decide +kernel
theorem dX0_begin_66 : decode cX0_begin 66 = .ok (.iadd, 1) := by decide +kernel
theorem dX0_begin_67 : decode cX0_begin 67 = .ok (.ldc 40, 2) := by decide +kernel
theorem dX0_begin_69 : decode cX0_begin 69 = .ok (.iload 4, 2) := by decide +kernel
theorem dX0_begin_71 : decode cX0_begin 71 = .ok (.iadd, 1) := by decide +kernel
theorem dX0_begin_72 : decode cX0_begin 72 = .ok (.ldc 40, 2) := by decide +kernel
theorem dX0_begin_74 : decode cX0_begin 74 = .ok (.iload 5, 2) := by decide +kernel
theorem dX0_begin_76 : decode cX0_begin 76 = .ok (.iadd, 1) := by decide +kernel
theorem dX0_begin_77 : decode cX0_begin 77 = .ok (.ldc 40, 2) := by decide +kernel
theorem dX0_begin_79 : decode cX0_begin 79 = .ok (.iload 6, 2) := by decide +kernel
theorem dX0_begin_81 : decode cX0_begin 81 = .ok (.iadd, 1) := by decide +kernel
theorem dX0_begin_82 : decode cX0_begin 82 = .ok (.invokevirtual 41, 3) := by decide +kernel
theorem dX0_begin_85 : decode cX0_begin 85 = .ok (.aload_n 0, 1) := by decide +kernel
theorem dX0_begin_86 : decode cX0_begin 86 = .ok (.getfield 28, 3) := by decide +kernel
theorem dX0_begin_89 : decode cX0_begin 89 = .ok (.ldc2_w 45, 3) := by decide +kernel
theorem dX0_begin_92 : decode cX0_begin 92 = .ok (.invokevirtual 47, 3) := by decide +kernel
theorem dX0_begin_95 : decode cX0_begin 95 = .ok (.iconst 1, 1) := by decide +kernel
theorem dX0_begin_96 : decode cX0_begin 96 = .ok (.ireturn, 1) := by decide +kernel
theorem dX0_fill_0 : decode cX0_fill 0 = .ok (.iconst 0, 1) := by decide +kernel
theorem dX0_fill_1 : decode cX0_fill 1 = .ok (.istore 4, 2) := by decide +kernel
theorem dX0_fill_3 : decode cX0_fill 3 = .ok (.iload 4, 2) := by decide +kernel
theorem dX0_fill_5 : decode cX0_fill 5 = .ok (.bipush 8, 2) := by decide +kernel
theorem dX0_fill_7 : decode cX0_fill 7 = .ok (.if_icmp .ge 50, 3) := by decide +kernel
theorem dX0_fill_10 : decode cX0_fill 10 = .ok (.iload_n 1, 1) := by decide +kernel
theorem dX0_fill_11 : decode cX0_fill 11 = .ok (.i2l, 1) := by decide +kernel
theorem dX0_fill_12 : decode cX0_fill 12 = .ok (.iload 4, 2) := by decide +kernel
theorem dX0_fill_14 : decode cX0_fill 14 = .ok (.i2l, 1) := by decide +kernel
theorem dX0_fill_15 : decode cX0_fill 15 = .ok (.ladd, 1) := by decide +kernel
theorem dX0_fill_16 : decode cX0_fill 16 = .ok (.lstore 5, 2) := by decide +kernel
theorem dX0_fill_18 : decode cX0_fill 18 = .ok (.lload 5, 2) := by decide +kernel
theorem dX0_fill_20 : decode cX0_fill 20 = .ok (.lconst 0, 1) := by decide +kernel
theorem dX0_fill_21 : decode cX0_fill 21 = .ok (.lcmp, 1) := by decide +kernel
theorem dX0_fill_22 : decode cX0_fill 22 = .ok (.ifCond .lt 29, 3) := by decide +kernel
theorem dX0_fill_25 : decode cX0_fill 25 = .ok (.lload 5, 2) := by decide +kernel
theorem dX0_fill_27 : decode cX0_fill 27 = .ok (.ldc2_w 50, 3) := by decide +kernel
theorem dX0_fill_30 : decode cX0_fill 30 = .ok (.lcmp, 1) := by decide +kernel
theorem dX0_fill_31 : decode cX0_fill 31 = .ok (.ifCond .ge 20, 3) := by decide +kernel
theorem dX0_fill_34 : decode cX0_fill 34 = .ok (.aload_n 0, 1) := by decide +kernel
theorem dX0_fill_35 : decode cX0_fill 35 = .ok (.getfield 10, 3) := by decide +kernel
theorem dX0_fill_38 : decode cX0_fill 38 = .ok (.lload 5, 2) := by decide +kernel
theorem dX0_fill_40 : decode cX0_fill 40 = .ok (.l2i, 1) := by decide +kernel
theorem dX0_fill_41 : decode cX0_fill 41 = .ok (.lload_n 2, 1) := by decide +kernel
theorem dX0_fill_42 : decode cX0_fill 42 = .ok (.bipush 8, 2) := by decide +kernel
theorem dX0_fill_44 : decode cX0_fill 44 = .ok (.iload 4, 2) := by decide +kernel
theorem dX0_fill_46 : decode cX0_fill 46 = .ok (.imul, 1) := by decide +kernel
theorem dX0_fill_47 : decode cX0_fill 47 = .ok (.lshr, 1) := by decide +kernel
theorem dX0_fill_48 : decode cX0_fill 48 = .ok (.l2i, 1) := by decide +kernel
theorem dX0_fill_49 : decode cX0_fill 49 = .ok (.i2b, 1) := by decide +kernel
theorem dX0_fill_50 : decode cX0_fill 50 = .ok (.bastore, 1) := by decide +kernel
theorem dX0_fill_51 : decode cX0_fill 51 = .ok (.iinc 4 1, 3) := by decide +kernel
theorem dX0_fill_54 : decode cX0_fill 54 = .ok (.goto (-51), 3) := by decide +kernel
theorem dX0_fill_57 : decode cX0_fill 57 = .ok (.return_, 1) := by decide +kernel
theorem dX0_op_0 : decode cX0_op 0 = .ok (.aload_n 0, 1) := by decide +kernel
theorem dX0_op_1 : decode cX0_op 1 = .ok (.getfield 28, 3) := by decide +kernel
theorem dX0_op_4 : decode cX0_op 4 = .ok (.getfield 52, 3) := by decide +kernel
theorem dX0_op_7 : decode cX0_op 7 = .ok (.iload_n 1, 1) := by decide +kernel
theorem dX0_op_8 : decode cX0_op 8 = .ok (.iload_n 2, 1) := by decide +kernel
theorem dX0_op_9 : decode cX0_op 9 = .ok (.iload_n 3, 1) := by decide +kernel
theorem dX0_op_10 : decode cX0_op 10 = .ok (.invokevirtual 56, 3) := by decide +kernel
theorem dX0_op_13 : decode cX0_op 13 = .ok (.return_, 1) := by decide +kernel
theorem dX0_operand_0 : decode cX0_operand 0 = .ok (.iload_n 1, 1) := by decide +kernel
theorem dX0_operand_1 : decode cX0_operand 1 = .ok (.ifCond .lt 36, 3) := by decide +kernel
theorem dX0_operand_4 : decode cX0_operand 4 = .ok (.iload_n 1, 1) := by decide +kernel
theorem dX0_operand_5 : decode cX0_operand 5 = .ok (.iconst 2, 1) := by decide +kernel
theorem dX0_operand_6 : decode cX0_operand 6 = .ok (.if_icmp .gt 31, 3) := by decide +kernel
theorem dX0_operand_9 : decode cX0_operand 9 = .ok (.iload_n 2, 1) := by decide +kernel
theorem dX0_operand_10 : decode cX0_operand 10 = .ok (.ifCond .lt 27, 3) := by decide +kernel
theorem dX0_operand_13 : decode cX0_operand 13 = .ok (.iload_n 2, 1) := by decide +kernel
theorem dX0_operand_14 : decode cX0_operand 14 = .ok (.iconst 3, 1) := by decide +kernel
theorem dX0_operand_15 : decode cX0_operand 15 = .ok (.if_icmp .gt 22, 3) := by decide +kernel
theorem dX0_operand_18 : decode cX0_operand 18 = .ok (.iload_n 3, 1) := by decide +kernel
theorem dX0_operand_19 : decode cX0_operand 19 = .ok (.ifCond .lt 18, 3) := by decide +kernel
theorem dX0_operand_22 : decode cX0_operand 22 = .ok (.iload_n 3, 1) := by decide +kernel
theorem dX0_operand_23 : decode cX0_operand 23 = .ok (.bipush 15, 2) := by decide +kernel
theorem dX0_operand_25 : decode cX0_operand 25 = .ok (.if_icmp .gt 12, 3) := by decide +kernel
theorem dX0_operand_28 : decode cX0_operand 28 = .ok (.iload_n 2, 1) := by decide +kernel
theorem dX0_operand_29 : decode cX0_operand 29 = .ok (.iconst 1, 1) := by decide +kernel
theorem dX0_operand_30 : decode cX0_operand 30 = .ok (.if_icmp .eq 9, 3) := by decide +kernel
theorem dX0_operand_33 : decode cX0_operand 33 = .ok (.iload_n 3, 1) := by decide +kernel
theorem dX0_operand_34 : decode cX0_operand 34 = .ok (.ifCond .eq 5, 3) := by decide +kernel
theorem dX0_operand_37 : decode cX0_operand 37 = .ok (.iconst 0, 1) := by decide +kernel
theorem dX0_operand_38 : decode cX0_operand 38 = .ok (.ireturn, 1) := by decide +kernel
theorem dX0_operand_39 : decode cX0_operand 39 = .ok (.aload_n 0, 1) := by decide +kernel
theorem dX0_operand_40 : decode cX0_operand 40 = .ok (.getfield 28, 3) := by decide +kernel
theorem dX0_operand_43 : decode cX0_operand 43 = .ok (.getfield 52, 3) := by decide +kernel
theorem dX0_operand_46 : decode cX0_operand 46 = .ok (.iload_n 1, 1) := by decide +kernel
theorem dX0_operand_47 : decode cX0_operand 47 = .ok (.iload_n 2, 1) := by decide +kernel
theorem dX0_operand_48 : decode cX0_operand 48 = .ok (.iload_n 3, 1) := by decide +kernel
theorem dX0_operand_49 : decode cX0_operand 49 = .ok (.invokevirtual 62, 3) := by decide +kernel
theorem dX0_operand_52 : decode cX0_operand 52 = .ok (.iconst 1, 1) := by decide +kernel
theorem dX0_operand_53 : decode cX0_operand 53 = .ok (.ireturn, 1) := by decide +kernel
theorem dX0_memory_0 : decode cX0_memory 0 = .ok (.aload_n 0, 1) := by decide +kernel
theorem dX0_memory_1 : decode cX0_memory 1 = .ok (.getfield 28, 3) := by decide +kernel
theorem dX0_memory_4 : decode cX0_memory 4 = .ok (.getfield 52, 3) := by decide +kernel
theorem dX0_memory_7 : decode cX0_memory 7 = .ok (.iload_n 1, 1) := by decide +kernel
theorem dX0_memory_8 : decode cX0_memory 8 = .ok (.iload_n 2, 1) := by decide +kernel
theorem dX0_memory_9 : decode cX0_memory 9 = .ok (.iload_n 3, 1) := by decide +kernel
theorem dX0_memory_10 : decode cX0_memory 10 = .ok (.iload 4, 2) := by decide +kernel
theorem dX0_memory_12 : decode cX0_memory 12 = .ok (.invokevirtual 65, 3) := by decide +kernel
theorem dX0_memory_15 : decode cX0_memory 15 = .ok (.return_, 1) := by decide +kernel
theorem dX0_number_0 : decode cX0_number 0 = .ok (.aload_n 0, 1) := by decide +kernel
theorem dX0_number_1 : decode cX0_number 1 = .ok (.getfield 28, 3) := by decide +kernel
theorem dX0_number_4 : decode cX0_number 4 = .ok (.getfield 52, 3) := by decide +kernel
theorem dX0_number_7 : decode cX0_number 7 = .ok (.lload_n 1, 1) := by decide +kernel
theorem dX0_number_8 : decode cX0_number 8 = .ok (.putfield 68, 3) := by decide +kernel
theorem dX0_number_11 : decode cX0_number 11 = .ok (.return_, 1) := by decide +kernel
theorem dX0_step_0 : decode cX0_step 0 = .ok (.iload_n 1, 1) := by decide +kernel
theorem dX0_step_1 : decode cX0_step 1 = .ok (.iconst 1, 1) := by decide +kernel
theorem dX0_step_2 : decode cX0_step 2 = .ok (.if_icmp .lt 33, 3) := by decide +kernel
theorem dX0_step_5 : decode cX0_step 5 = .ok (.iload_n 1, 1) := by decide +kernel
theorem dX0_step_6 : decode cX0_step 6 = .ok (.bipush 15, 2) := by decide +kernel
theorem dX0_step_8 : decode cX0_step 8 = .ok (.if_icmp .gt 27, 3) := by decide +kernel
theorem dX0_step_11 : decode cX0_step 11 = .ok (.aload_n 0, 1) := by decide +kernel
theorem dX0_step_12 : decode cX0_step 12 = .ok (.getfield 28, 3) := by decide +kernel
theorem dX0_step_15 : decode cX0_step 15 = .ok (.getfield 72, 3) := by decide +kernel
theorem dX0_step_18 : decode cX0_step 18 = .ok (.iconst 1, 1) := by decide +kernel
theorem dX0_step_19 : decode cX0_step 19 = .ok (.if_icmp .eq 16, 3) := by decide +kernel
theorem dX0_step_22 : decode cX0_step 22 = .ok (.aload_n 0, 1) := by decide +kernel
theorem dX0_step_23 : decode cX0_step 23 = .ok (.getfield 28, 3) := by decide +kernel
theorem dX0_step_26 : decode cX0_step 26 = .ok (.getfield 52, 3) := by decide +kernel
theorem dX0_step_29 : decode cX0_step 29 = .ok (.invokestatic 76, 3) := by decide +kernel
theorem dX0_step_32 : decode cX0_step 32 = .ok (.ifCond .ne 5, 3) := by decide +kernel
theorem dX0_step_35 : decode cX0_step 35 = .ok (.iconst (-1), 1) := by decide +kernel
theorem dX0_step_36 : decode cX0_step 36 = .ok (.ireturn, 1) := by decide +kernel
theorem dX0_step_37 : decode cX0_step 37 = .ok (.aload_n 0, 1) := by decide +kernel
theorem dX0_step_38 : decode cX0_step 38 = .ok (.getfield 28, 3) := by decide +kernel
theorem dX0_step_41 : decode cX0_step 41 = .ok (.iload_n 1, 1) := by decide +kernel
theorem dX0_step_42 : decode cX0_step 42 = .ok (.invokevirtual 82, 3) := by decide +kernel
theorem dX0_step_45 : decode cX0_step 45 = .ok (.pop, 1) := by decide +kernel
theorem dX0_step_46 : decode cX0_step 46 = .ok (.aload_n 0, 1) := by decide +kernel
theorem dX0_step_47 : decode cX0_step 47 = .ok (.getfield 28, 3) := by decide +kernel
theorem dX0_step_50 : decode cX0_step 50 = .ok (.getfield 72, 3) := by decide +kernel
theorem dX0_step_53 : decode cX0_step 53 = .ok (.ireturn, 1) := by decide +kernel
theorem dX0_value_0 : decode cX0_value 0 = .ok (.aload_n 0, 1) := by decide +kernel
theorem dX0_value_1 : decode cX0_value 1 = .ok (.getfield 28, 3) := by decide +kernel
theorem dX0_value_4 : decode cX0_value 4 = .ok (.getfield 86, 3) := by decide +kernel
theorem dX0_value_7 : decode cX0_value 7 = .ok (.lreturn, 1) := by decide +kernel
theorem dX0_register_0 : decode cX0_register 0 = .ok (.iload_n 1, 1) := by decide +kernel
theorem dX0_register_1 : decode cX0_register 1 = .ok (.ifCond .lt 19, 3) := by decide +kernel
theorem dX0_register_4 : decode cX0_register 4 = .ok (.iload_n 1, 1) := by decide +kernel
theorem dX0_register_5 : decode cX0_register 5 = .ok (.bipush 16, 2) := by decide +kernel
theorem dX0_register_7 : decode cX0_register 7 = .ok (.if_icmp .ge 13, 3) := by decide +kernel
theorem dX0_register_10 : decode cX0_register 10 = .ok (.aload_n 0, 1) := by decide +kernel
theorem dX0_register_11 : decode cX0_register 11 = .ok (.getfield 28, 3) := by decide +kernel
theorem dX0_register_14 : decode cX0_register 14 = .ok (.getfield 89, 3) := by decide +kernel
theorem dX0_register_17 : decode cX0_register 17 = .ok (.iload_n 1, 1) := by decide +kernel
theorem dX0_register_18 : decode cX0_register 18 = .ok (.laload, 1) := by decide +kernel
theorem dX0_register_19 : decode cX0_register 19 = .ok (.lreturn, 1) := by decide +kernel
theorem dX0_register_20 : decode cX0_register 20 = .ok (.iload_n 1, 1) := by decide +kernel
theorem dX0_register_21 : decode cX0_register 21 = .ok (.bipush 16, 2) := by decide +kernel
theorem dX0_register_23 : decode cX0_register 23 = .ok (.if_icmp .ne 13, 3) := by decide +kernel
theorem dX0_register_26 : decode cX0_register 26 = .ok (.aload_n 0, 1) := by decide +kernel
theorem dX0_register_27 : decode cX0_register 27 = .ok (.getfield 28, 3) := by decide +kernel
theorem dX0_register_30 : decode cX0_register 30 = .ok (.getfield 93, 3) := by decide +kernel
theorem dX0_register_33 : decode cX0_register 33 = .ok (.goto 58, 3) := by decide +kernel
theorem dX0_register_36 : decode cX0_register 36 = .ok (.iload_n 1, 1) := by decide +kernel
theorem dX0_register_37 : decode cX0_register 37 = .ok (.bipush 17, 2) := by decide +kernel
theorem dX0_register_39 : decode cX0_register 39 = .ok (.if_icmp .ne 18, 3) := by decide +kernel
theorem dX0_register_42 : decode cX0_register 42 = .ok (.ldc2_w 96, 3) := by decide +kernel
theorem dX0_register_45 : decode cX0_register 45 = .ok (.aload_n 0, 1) := by decide +kernel
theorem dX0_register_46 : decode cX0_register 46 = .ok (.getfield 28, 3) := by decide +kernel
theorem dX0_register_49 : decode cX0_register 49 = .ok (.getfield 98, 3) := by decide +kernel
theorem dX0_register_52 : decode cX0_register 52 = .ok (.i2l, 1) := by decide +kernel
theorem dX0_register_53 : decode cX0_register 53 = .ok (.ladd, 1) := by decide +kernel
theorem dX0_register_54 : decode cX0_register 54 = .ok (.goto 37, 3) := by decide +kernel
theorem dX0_register_57 : decode cX0_register 57 = .ok (.iload_n 1, 1) := by decide +kernel
theorem dX0_register_58 : decode cX0_register 58 = .ok (.bipush 18, 2) := by decide +kernel
theorem dX0_register_60 : decode cX0_register 60 = .ok (.if_icmp .ne 13, 3) := by decide +kernel
theorem dX0_register_63 : decode cX0_register 63 = .ok (.aload_n 0, 1) := by decide +kernel
theorem dX0_register_64 : decode cX0_register 64 = .ok (.getfield 19, 3) := by decide +kernel
theorem dX0_register_67 : decode cX0_register 67 = .ok (.getfield 101, 3) := by decide +kernel
theorem dX0_register_70 : decode cX0_register 70 = .ok (.goto 21, 3) := by decide +kernel
theorem dX0_register_73 : decode cX0_register 73 = .ok (.iload_n 1, 1) := by decide +kernel
theorem dX0_register_74 : decode cX0_register 74 = .ok (.bipush 19, 2) := by decide +kernel
theorem dX0_register_76 : decode cX0_register 76 = .ok (.if_icmp .ne 14, 3) := by decide +kernel
theorem dX0_register_79 : decode cX0_register 79 = .ok (.aload_n 0, 1) := by decide +kernel
theorem dX0_register_80 : decode cX0_register 80 = .ok (.getfield 28, 3) := by decide +kernel
theorem dX0_register_83 : decode cX0_register 83 = .ok (.getfield 104, 3) := by decide +kernel
theorem dX0_register_86 : decode cX0_register 86 = .ok (.i2l, 1) := by decide +kernel
theorem dX0_register_87 : decode cX0_register 87 = .ok (.goto 4, 3) := by decide +kernel
theorem dX0_register_90 : decode cX0_register 90 = .ok (.lconst 0, 1) := by decide +kernel
theorem dX0_register_91 : decode cX0_register 91 = .ok (.lreturn, 1) := by decide +kernel
theorem dX0_set_0 : decode cX0_set 0 = .ok (.iload_n 1, 1) := by decide +kernel
theorem dX0_set_1 : decode cX0_set 1 = .ok (.ifCond .lt 9, 3) := by decide +kernel
theorem dX0_set_4 : decode cX0_set 4 = .ok (.iload_n 1, 1) := by decide +kernel
theorem dX0_set_5 : decode cX0_set 5 = .ok (.bipush 16, 2) := by decide +kernel
theorem dX0_set_7 : decode cX0_set 7 = .ok (.if_icmp .le 5, 3) := by decide +kernel
theorem dX0_set_10 : decode cX0_set 10 = .ok (.iconst 0, 1) := by decide +kernel
theorem dX0_set_11 : decode cX0_set 11 = .ok (.ireturn, 1) := by decide +kernel
theorem dX0_set_12 : decode cX0_set 12 = .ok (.iload_n 1, 1) := by decide +kernel
theorem dX0_set_13 : decode cX0_set 13 = .ok (.bipush 16, 2) := by decide +kernel
theorem dX0_set_15 : decode cX0_set 15 = .ok (.if_icmp .ne 14, 3) := by decide +kernel
theorem dX0_set_18 : decode cX0_set 18 = .ok (.aload_n 0, 1) := by decide +kernel
theorem dX0_set_19 : decode cX0_set 19 = .ok (.getfield 28, 3) := by decide +kernel
theorem dX0_set_22 : decode cX0_set 22 = .ok (.lload_n 2, 1) := by decide +kernel
theorem dX0_set_23 : decode cX0_set 23 = .ok (.putfield 93, 3) := by decide +kernel
theorem dX0_set_26 : decode cX0_set 26 = .ok (.goto 13, 3) := by decide +kernel
theorem dX0_set_29 : decode cX0_set 29 = .ok (.aload_n 0, 1) := by decide +kernel
theorem dX0_set_30 : decode cX0_set 30 = .ok (.getfield 28, 3) := by decide +kernel
theorem dX0_set_33 : decode cX0_set 33 = .ok (.getfield 89, 3) := by decide +kernel
theorem dX0_set_36 : decode cX0_set 36 = .ok (.iload_n 1, 1) := by decide +kernel
theorem dX0_set_37 : decode cX0_set 37 = .ok (.lload_n 2, 1) := by decide +kernel
