set_option maxRecDepth 100000
theorem dX0_set_38 : decode cX0_set 38 = .ok (.lastore, 1) := by decide +kernel
theorem dX0_set_39 : decode cX0_set 39 = .ok (.iconst 1, 1) := by decide +kernel
theorem dX0_set_40 : decode cX0_set 40 = .ok (.ireturn, 1) := by decide +kernel
theorem dX0_input_0 : decode cX0_input 0 = .ok (.iload_n 3, 1) := by decide +kernel
theorem dX0_input_1 : decode cX0_input 1 = .ok (.iconst 1, 1) := by decide +kernel
theorem dX0_input_2 : decode cX0_input 2 = .ok (.if_icmp .lt 26, 3) := by decide +kernel
theorem dX0_input_5 : decode cX0_input 5 = .ok (.iload_n 3, 1) := by decide +kernel
theorem dX0_input_6 : decode cX0_input 6 = .ok (.bipush 8, 2) := by decide +kernel
theorem dX0_input_8 : decode cX0_input 8 = .ok (.if_icmp .gt 20, 3) := by decide +kernel
theorem dX0_input_11 : decode cX0_input 11 = .ok (.aload_n 0, 1) := by decide +kernel
theorem dX0_input_12 : decode cX0_input 12 = .ok (.getfield 28, 3) := by decide +kernel
theorem dX0_input_15 : decode cX0_input 15 = .ok (.getfield 107, 3) := by decide +kernel
theorem dX0_input_18 : decode cX0_input 18 = .ok (.getfield 111, 3) := by decide +kernel
theorem dX0_input_21 : decode cX0_input 21 = .ok (.iload_n 3, 1) := by decide +kernel
theorem dX0_input_22 : decode cX0_input 22 = .ok (.iadd, 1) := by decide +kernel
theorem dX0_input_23 : decode cX0_input 23 = .ok (.ldc 116, 2) := by decide +kernel
theorem dX0_input_25 : decode cX0_input 25 = .ok (.if_icmp .le 5, 3) := by decide +kernel
theorem dX0_input_28 : decode cX0_input 28 = .ok (.iconst 0, 1) := by decide +kernel
theorem dX0_input_29 : decode cX0_input 29 = .ok (.ireturn, 1) := by decide +kernel
theorem dX0_input_30 : decode cX0_input 30 = .ok (.iload_n 3, 1) := by decide +kernel
theorem dX0_input_31 : decode cX0_input 31 = .ok (.iconst 1, 1) := by decide +kernel
theorem dX0_input_32 : decode cX0_input 32 = .ok (.isub, 1) := by decide +kernel
theorem dX0_input_33 : decode cX0_input 33 = .ok (.istore 4, 2) := by decide +kernel
theorem dX0_input_35 : decode cX0_input 35 = .ok (.iload 4, 2) := by decide +kernel
theorem dX0_input_37 : decode cX0_input 37 = .ok (.ifCond .lt 27, 3) := by decide +kernel
theorem dX0_input_40 : decode cX0_input 40 = .ok (.aload_n 0, 1) := by decide +kernel
theorem dX0_input_41 : decode cX0_input 41 = .ok (.getfield 28, 3) := by decide +kernel
theorem dX0_input_44 : decode cX0_input 44 = .ok (.getfield 107, 3) := by decide +kernel
theorem dX0_input_47 : decode cX0_input 47 = .ok (.lload_n 1, 1) := by decide +kernel
theorem dX0_input_48 : decode cX0_input 48 = .ok (.bipush 8, 2) := by decide +kernel
theorem dX0_input_50 : decode cX0_input 50 = .ok (.iload 4, 2) := by decide +kernel
theorem dX0_input_52 : decode cX0_input 52 = .ok (.imul, 1) := by decide +kernel
theorem dX0_input_53 : decode cX0_input 53 = .ok (.lshr, 1) := by decide +kernel
theorem dX0_input_54 : decode cX0_input 54 = .ok (.l2i, 1) := by decide +kernel
theorem dX0_input_55 : decode cX0_input 55 = .ok (.invokevirtual 117, 3) := by decide +kernel
theorem dX0_input_58 : decode cX0_input 58 = .ok (.iinc 4 (-1), 3) := by decide +kernel
theorem dX0_input_61 : decode cX0_input 61 = .ok (.goto (-26), 3) := by decide +kernel
theorem dX0_input_64 : decode cX0_input 64 = .ok (.iconst 1, 1) := by decide +kernel
theorem dX0_input_65 : decode cX0_input 65 = .ok (.ireturn, 1) := by decide +kernel
theorem dX0_output_0 : decode cX0_output 0 = .ok (.iload_n 1, 1) := by decide +kernel
theorem dX0_output_1 : decode cX0_output 1 = .ok (.iconst (-1), 1) := by decide +kernel
theorem dX0_output_2 : decode cX0_output 2 = .ok (.if_icmp .ne 16, 3) := by decide +kernel
theorem dX0_output_5 : decode cX0_output 5 = .ok (.aload_n 0, 1) := by decide +kernel
theorem dX0_output_6 : decode cX0_output 6 = .ok (.getfield 28, 3) := by decide +kernel
theorem dX0_output_9 : decode cX0_output 9 = .ok (.getfield 120, 3) := by decide +kernel
theorem dX0_output_12 : decode cX0_output 12 = .ok (.getfield 111, 3) := by decide +kernel
theorem dX0_output_15 : decode cX0_output 15 = .ok (.goto 41, 3) := by decide +kernel
theorem dX0_output_18 : decode cX0_output 18 = .ok (.iload_n 1, 1) := by decide +kernel
theorem dX0_output_19 : decode cX0_output 19 = .ok (.ifCond .lt 36, 3) := by decide +kernel
theorem dX0_output_22 : decode cX0_output 22 = .ok (.iload_n 1, 1) := by decide +kernel
theorem dX0_output_23 : decode cX0_output 23 = .ok (.aload_n 0, 1) := by decide +kernel
theorem dX0_output_24 : decode cX0_output 24 = .ok (.getfield 28, 3) := by decide +kernel
theorem dX0_output_27 : decode cX0_output 27 = .ok (.getfield 120, 3) := by decide +kernel
theorem dX0_output_30 : decode cX0_output 30 = .ok (.getfield 111, 3) := by decide +kernel
theorem dX0_output_33 : decode cX0_output 33 = .ok (.if_icmp .ge 22, 3) := by decide +kernel
theorem dX0_output_36 : decode cX0_output 36 = .ok (.aload_n 0, 1) := by decide +kernel
theorem dX0_output_37 : decode cX0_output 37 = .ok (.getfield 28, 3) := by decide +kernel
theorem dX0_output_40 : decode cX0_output 40 = .ok (.getfield 120, 3) := by decide +kernel
theorem dX0_output_43 : decode cX0_output 43 = .ok (.getfield 123, 3) := by decide +kernel
theorem dX0_output_46 : decode cX0_output 46 = .ok (.iload_n 1, 1) := by decide +kernel
theorem dX0_output_47 : decode cX0_output 47 = .ok (.baload, 1) := by decide +kernel
theorem dX0_output_48 : decode cX0_output 48 = .ok (.sipush 255, 3) := by decide +kernel
theorem dX0_output_51 : decode cX0_output 51 = .ok (.iand, 1) := by decide +kernel
theorem dX0_output_52 : decode cX0_output 52 = .ok (.goto 4, 3) := by decide +kernel
theorem dX0_output_55 : decode cX0_output 55 = .ok (.iconst (-1), 1) := by decide +kernel
theorem dX0_output_56 : decode cX0_output 56 = .ok (.ireturn, 1) := by decide +kernel
theorem dX0_peek_0 : decode cX0_peek 0 = .ok (.aload_n 0, 1) := by decide +kernel
theorem dX0_peek_1 : decode cX0_peek 1 = .ok (.getfield 19, 3) := by decide +kernel
theorem dX0_peek_4 : decode cX0_peek 4 = .ok (.lload_n 1, 1) := by decide +kernel
theorem dX0_peek_5 : decode cX0_peek 5 = .ok (.iconst 0, 1) := by decide +kernel
theorem dX0_peek_6 : decode cX0_peek 6 = .ok (.invokevirtual 126, 3) := by decide +kernel
theorem dX0_peek_9 : decode cX0_peek 9 = .ok (.istore_n 3, 1) := by decide +kernel
theorem dX0_peek_10 : decode cX0_peek 10 = .ok (.iload_n 3, 1) := by decide +kernel
theorem dX0_peek_11 : decode cX0_peek 11 = .ok (.ifCond .ge 7, 3) := by decide +kernel
theorem dX0_peek_14 : decode cX0_peek 14 = .ok (.iconst (-1), 1) := by decide +kernel
theorem dX0_peek_15 : decode cX0_peek 15 = .ok (.goto 16, 3) := by decide +kernel
theorem dX0_peek_18 : decode cX0_peek 18 = .ok (.aload_n 0, 1) := by decide +kernel
theorem dX0_peek_19 : decode cX0_peek 19 = .ok (.getfield 19, 3) := by decide +kernel
theorem dX0_peek_22 : decode cX0_peek 22 = .ok (.getfield 130, 3) := by decide +kernel
theorem dX0_peek_25 : decode cX0_peek 25 = .ok (.iload_n 3, 1) := by decide +kernel
theorem dX0_peek_26 : decode cX0_peek 26 = .ok (.baload, 1) := by decide +kernel
theorem dX0_peek_27 : decode cX0_peek 27 = .ok (.sipush 255, 3) := by decide +kernel
theorem dX0_peek_30 : decode cX0_peek 30 = .ok (.iand, 1) := by decide +kernel
theorem dX0_peek_31 : decode cX0_peek 31 = .ok (.ireturn, 1) := by decide +kernel
theorem dX0_poke_0 : decode cX0_poke 0 = .ok (.aload_n 0, 1) := by decide +kernel
theorem dX0_poke_1 : decode cX0_poke 1 = .ok (.getfield 19, 3) := by decide +kernel
theorem dX0_poke_4 : decode cX0_poke 4 = .ok (.lload_n 1, 1) := by decide +kernel
theorem dX0_poke_5 : decode cX0_poke 5 = .ok (.iconst 1, 1) := by decide +kernel
theorem dX0_poke_6 : decode cX0_poke 6 = .ok (.invokevirtual 126, 3) := by decide +kernel
theorem dX0_poke_9 : decode cX0_poke 9 = .ok (.istore 4, 2) := by decide +kernel
theorem dX0_poke_11 : decode cX0_poke 11 = .ok (.iload 4, 2) := by decide +kernel
theorem dX0_poke_13 : decode cX0_poke 13 = .ok (.ifCond .ge 5, 3) := by decide +kernel
theorem dX0_poke_16 : decode cX0_poke 16 = .ok (.iconst 0, 1) := by decide +kernel
theorem dX0_poke_17 : decode cX0_poke 17 = .ok (.ireturn, 1) := by decide +kernel
theorem dX0_poke_18 : decode cX0_poke 18 = .ok (.aload_n 0, 1) := by decide +kernel
theorem dX0_poke_19 : decode cX0_poke 19 = .ok (.getfield 19, 3) := by decide +kernel
theorem dX0_poke_22 : decode cX0_poke 22 = .ok (.getfield 130, 3) := by decide +kernel
theorem dX0_poke_25 : decode cX0_poke 25 = .ok (.iload 4, 2) := by decide +kernel
theorem dX0_poke_27 : decode cX0_poke 27 = .ok (.iload_n 3, 1) := by decide +kernel
theorem dX0_poke_28 : decode cX0_poke 28 = .ok (.i2b, 1) := by decide +kernel
theorem dX0_poke_29 : decode cX0_poke 29 = .ok (.bastore, 1) := by decide +kernel
theorem dX0_poke_30 : decode cX0_poke 30 = .ok (.iconst 1, 1) := by decide +kernel
theorem dX0_poke_31 : decode cX0_poke 31 = .ok (.ireturn, 1) := by decide +kernel
theorem dX6_is_0 : decode cX6_is 0 = .ok (.aload_n 0, 1) := by decide +kernel
theorem dX6_is_1 : decode cX6_is 1 = .ok (.getfield 7, 3) := by decide +kernel
theorem dX6_is_4 : decode cX6_is 4 = .ok (.i2l, 1) := by decide +kernel
theorem dX6_is_5 : decode cX6_is 5 = .ok (.lconst 0, 1) := by decide +kernel
theorem dX6_is_6 : decode cX6_is 6 = .ok (.ldc2_w 13, 3) := by decide +kernel
theorem dX6_is_9 : decode cX6_is 9 = .ok (.invokestatic 15, 3) := by decide +kernel
theorem dX6_is_12 : decode cX6_is 12 = .ok (.ifCond .eq 60, 3) := by decide +kernel
theorem dX6_is_15 : decode cX6_is 15 = .ok (.aload_n 0, 1) := by decide +kernel
theorem dX6_is_16 : decode cX6_is 16 = .ok (.getfield 7, 3) := by decide +kernel
theorem dX6_is_19 : decode cX6_is 19 = .ok (.aload_n 0, 1) := by decide +kernel
theorem dX6_is_20 : decode cX6_is 20 = .ok (.getfield 21, 3) := by decide +kernel
theorem dX6_is_23 : decode cX6_is 23 = .ok (.invokestatic 24, 3) := by decide +kernel
theorem dX6_is_26 : decode cX6_is 26 = .ok (.ifCond .eq 46, 3) := by decide +kernel
theorem dX6_is_29 : decode cX6_is 29 = .ok (.aload_n 0, 1) := by decide +kernel
theorem dX6_is_30 : decode cX6_is 30 = .ok (.getfield 7, 3) := by decide +kernel
theorem dX6_is_33 : decode cX6_is 33 = .ok (.bipush 34, 2) := by decide +kernel
theorem dX6_is_35 : decode cX6_is 35 = .ok (.if_icmp .lt 30, 3) := by decide +kernel
theorem dX6_is_38 : decode cX6_is 38 = .ok (.aload_n 0, 1) := by decide +kernel
theorem dX6_is_39 : decode cX6_is 39 = .ok (.getfield 7, 3) := by decide +kernel
theorem dX6_is_42 : decode cX6_is 42 = .ok (.bipush 36, 2) := by decide +kernel
theorem dX6_is_44 : decode cX6_is 44 = .ok (.if_icmp .gt 21, 3) := by decide +kernel
theorem dX6_is_47 : decode cX6_is 47 = .ok (.aload_n 0, 1) := by decide +kernel
theorem dX6_is_48 : decode cX6_is 48 = .ok (.getfield 28, 3) := by decide +kernel
theorem dX6_is_51 : decode cX6_is 51 = .ok (.i2l, 1) := by decide +kernel
theorem dX6_is_52 : decode cX6_is 52 = .ok (.lconst 0, 1) := by decide +kernel
theorem dX6_is_53 : decode cX6_is 53 = .ok (.ldc2_w 31, 3) := by decide +kernel
theorem dX6_is_56 : decode cX6_is 56 = .ok (.invokestatic 15, 3) := by decide +kernel
theorem dX6_is_59 : decode cX6_is 59 = .ok (.ifCond .eq 13, 3) := by decide +kernel
theorem dX6_is_62 : decode cX6_is 62 = .ok (.goto 12, 3) := by decide +kernel
theorem dX6_is_65 : decode cX6_is 65 = .ok (.aload_n 0, 1) := by decide +kernel
theorem dX6_is_66 : decode cX6_is 66 = .ok (.getfield 28, 3) := by decide +kernel
theorem dX6_is_69 : decode cX6_is 69 = .ok (.ifCond .eq 5, 3) := by decide +kernel
theorem dX6_is_72 : decode cX6_is 72 = .ok (.iconst 0, 1) := by decide +kernel
theorem dX6_is_73 : decode cX6_is 73 = .ok (.ireturn, 1) := by decide +kernel
theorem dX6_is_74 : decode cX6_is 74 = .ok (.aload_n 0, 1) := by decide +kernel
theorem dX6_is_75 : decode cX6_is 75 = .ok (.getfield 33, 3) := by decide +kernel
theorem dX6_is_78 : decode cX6_is 78 = .ok (.iconst 0, 1) := by decide +kernel
theorem dX6_is_79 : decode cX6_is 79 = .ok (.iaload, 1) := by decide +kernel
theorem dX6_is_80 : decode cX6_is 80 = .ok (.iconst 2, 1) := by decide +kernel
theorem dX6_is_81 : decode cX6_is 81 = .ok (.if_icmp .eq 13, 3) := by decide +kernel
theorem dX6_is_84 : decode cX6_is 84 = .ok (.aload_n 0, 1) := by decide +kernel
theorem dX6_is_85 : decode cX6_is 85 = .ok (.getfield 33, 3) := by decide +kernel
theorem dX6_is_88 : decode cX6_is 88 = .ok (.iconst 1, 1) := by decide +kernel
theorem dX6_is_89 : decode cX6_is 89 = .ok (.iaload, 1) := by decide +kernel
theorem dX6_is_90 : decode cX6_is 90 = .ok (.iconst 2, 1) := by decide +kernel
theorem dX6_is_91 : decode cX6_is 91 = .ok (.if_icmp .ne 7, 3) := by decide +kernel
theorem dX6_is_94 : decode cX6_is 94 = .ok (.iconst 1, 1) := by decide +kernel
theorem dX6_is_95 : decode cX6_is 95 = .ok (.goto 4, 3) := by decide +kernel
theorem dX6_is_98 : decode cX6_is 98 = .ok (.iconst 0, 1) := by decide +kernel
theorem dX6_is_99 : decode cX6_is 99 = .ok (.istore_n 1, 1) := by decide +kernel
theorem dX6_is_100 : decode cX6_is 100 = .ok (.aload_n 0, 1) := by decide +kernel
theorem dX6_is_101 : decode cX6_is 101 = .ok (.invokestatic 37, 3) := by decide +kernel
theorem dX6_is_104 : decode cX6_is 104 = .ok (.ifCond .eq 32, 3) := by decide +kernel
theorem dX6_is_107 : decode cX6_is 107 = .ok (.iload_n 1, 1) := by decide +kernel
theorem dX6_is_108 : decode cX6_is 108 = .ok (.ifCond .eq 10, 3) := by decide +kernel
theorem dX6_is_111 : decode cX6_is 111 = .ok (.aload_n 0, 1) := by decide +kernel
theorem dX6_is_112 : decode cX6_is 112 = .ok (.invokestatic 41, 3) := by decide +kernel
theorem dX6_is_115 : decode cX6_is 115 = .ok (.ifCond .eq 21, 3) := by decide +kernel
theorem dX6_is_118 : decode cX6_is 118 = .ok (.aload_n 0, 1) := by decide +kernel
theorem dX6_is_119 : decode cX6_is 119 = .ok (.invokestatic 44, 3) := by decide +kernel
theorem dX6_is_122 : decode cX6_is 122 = .ok (.ifCond .eq 10, 3) := by decide +kernel
theorem dX6_is_125 : decode cX6_is 125 = .ok (.aload_n 0, 1) := by decide +kernel
theorem dX6_is_126 : decode cX6_is 126 = .ok (.invokestatic 47, 3) := by decide +kernel
theorem dX6_is_129 : decode cX6_is 129 = .ok (.ifCond .eq 7, 3) := by decide +kernel
theorem dX6_is_132 : decode cX6_is 132 = .ok (.iconst 1, 1) := by decide +kernel
theorem dX6_is_133 : decode cX6_is 133 = .ok (.goto 4, 3) := by decide +kernel
theorem dX6_is_136 : decode cX6_is 136 = .ok (.iconst 0, 1) := by decide +kernel
theorem dX6_is_137 : decode cX6_is 137 = .ok (.ireturn, 1) := by decide +kernel
theorem dX6_in_0 : decode cX6_in 0 = .ok (.lload_n 0, 1) := by decide +kernel
theorem dX6_in_1 : decode cX6_in 1 = .ok (.lload_n 2, 1) := by decide +kernel
theorem dX6_in_2 : decode cX6_in 2 = .ok (.lcmp, 1) := by decide +kernel
theorem dX6_in_3 : decode cX6_in 3 = .ok (.ifCond .lt 14, 3) := by decide +kernel
theorem dX6_in_6 : decode cX6_in 6 = .ok (.lload_n 0, 1) := by decide +kernel
theorem dX6_in_7 : decode cX6_in 7 = .ok (.lload 4, 2) := by decide +kernel
theorem dX6_in_9 : decode cX6_in 9 = .ok (.lcmp, 1) := by decide +kernel
theorem dX6_in_10 : decode cX6_in 10 = .ok (.ifCond .gt 7, 3) := by decide +kernel
theorem dX6_in_13 : decode cX6_in 13 = .ok (.iconst 1, 1) := by decide +kernel
theorem dX6_in_14 : decode cX6_in 14 = .ok (.goto 4, 3) := by decide +kernel
theorem dX6_in_17 : decode cX6_in 17 = .ok (.iconst 0, 1) := by decide +kernel
theorem dX6_in_18 : decode cX6_in 18 = .ok (.ireturn, 1) := by decide +kernel
theorem dX6_isSize_0 : decode cX6_isSize 0 = .ok (.iload_n 0, 1) := by decide +kernel
theorem dX6_isSize_1 : decode cX6_isSize 1 = .ok (.bipush 31, 2) := by decide +kernel
theorem dX6_isSize_3 : decode cX6_isSize 3 = .ok (.if_icmp .lt 9, 3) := by decide +kernel
theorem dX6_isSize_6 : decode cX6_isSize 6 = .ok (.iload_n 0, 1) := by decide +kernel
theorem dX6_isSize_7 : decode cX6_isSize 7 = .ok (.bipush 34, 2) := by decide +kernel
theorem dX6_isSize_9 : decode cX6_isSize 9 = .ok (.if_icmp .le 15, 3) := by decide +kernel
theorem dX6_isSize_12 : decode cX6_isSize 12 = .ok (.iload_n 0, 1) := by decide +kernel
theorem dX6_isSize_13 : decode cX6_isSize 13 = .ok (.bipush 39, 2) := by decide +kernel
theorem dX6_isSize_15 : decode cX6_isSize 15 = .ok (.if_icmp .lt 13, 3) := by decide +kernel
theorem dX6_isSize_18 : decode cX6_isSize 18 = .ok (.iload_n 0, 1) := by decide +kernel
theorem dX6_isSize_19 : decode cX6_isSize 19 = .ok (.bipush 43, 2) := by decide +kernel
theorem dX6_isSize_21 : decode cX6_isSize 21 = .ok (.if_icmp .gt 7, 3) := by decide +kernel
theorem dX6_isSize_24 : decode cX6_isSize 24 = .ok (.iconst 1, 1) := by decide +kernel
theorem dX6_isSize_25 : decode cX6_isSize 25 = .ok (.goto 4, 3) := by decide +kernel
theorem dX6_isSize_28 : decode cX6_isSize 28 = .ok (.iconst 0, 1) := by decide +kernel
theorem dX6_isSize_29 : decode cX6_isSize 29 = .ok (.istore_n 2, 1) := by decide +kernel
theorem dX6_isSize_30 : decode cX6_isSize 30 = .ok (.iload_n 0, 1) := by decide +kernel
theorem dX6_isSize_31 : decode cX6_isSize 31 = .ok (.bipush 14, 2) := by decide +kernel
theorem dX6_isSize_33 : decode cX6_isSize 33 = .ok (.if_icmp .eq 15, 3) := by decide +kernel
theorem dX6_isSize_36 : decode cX6_isSize 36 = .ok (.iload_n 0, 1) := by decide +kernel
theorem dX6_isSize_37 : decode cX6_isSize 37 = .ok (.bipush 29, 2) := by decide +kernel
theorem dX6_isSize_39 : decode cX6_isSize 39 = .ok (.if_icmp .eq 9, 3) := by decide +kernel
theorem dX6_isSize_42 : decode cX6_isSize 42 = .ok (.iload_n 0, 1) := by decide +kernel
theorem dX6_isSize_43 : decode cX6_isSize 43 = .ok (.bipush 30, 2) := by decide +kernel
theorem dX6_isSize_45 : decode cX6_isSize 45 = .ok (.if_icmp .ne 7, 3) := by decide +kernel
theorem dX6_isSize_48 : decode cX6_isSize 48 = .ok (.iconst 1, 1) := by decide +kernel
theorem dX6_isSize_49 : decode cX6_isSize 49 = .ok (.goto 4, 3) := by decide +kernel
theorem dX6_isSize_52 : decode cX6_isSize 52 = .ok (.iconst 0, 1) := by decide +kernel
theorem dX6_isSize_53 : decode cX6_isSize 53 = .ok (.istore_n 3, 1) := by decide +kernel
theorem dX6_isSize_54 : decode cX6_isSize 54 = .ok (.iload_n 0, 1) := by decide +kernel
theorem dX6_isSize_55 : decode cX6_isSize 55 = .ok (.bipush 11, 2) := by decide +kernel
theorem dX6_isSize_57 : decode cX6_isSize 57 = .ok (.if_icmp .lt 9, 3) := by decide +kernel
theorem dX6_isSize_60 : decode cX6_isSize 60 = .ok (.iload_n 0, 1) := by decide +kernel
theorem dX6_isSize_61 : decode cX6_isSize 61 = .ok (.bipush 13, 2) := by decide +kernel
theorem dX6_isSize_63 : decode cX6_isSize 63 = .ok (.if_icmp .le 39, 3) := by decide +kernel
theorem dX6_isSize_66 : decode cX6_isSize 66 = .ok (.iload_n 0, 1) := by decide +kernel
theorem dX6_isSize_67 : decode cX6_isSize 67 = .ok (.bipush 23, 2) := by decide +kernel
theorem dX6_isSize_69 : decode cX6_isSize 69 = .ok (.if_icmp .eq 33, 3) := by decide +kernel
theorem dX6_isSize_72 : decode cX6_isSize 72 = .ok (.iload_n 0, 1) := by decide +kernel
theorem dX6_isSize_73 : decode cX6_isSize 73 = .ok (.bipush 36, 2) := by decide +kernel
theorem dX6_isSize_75 : decode cX6_isSize 75 = .ok (.if_icmp .eq 27, 3) := by decide +kernel
theorem dX6_isSize_78 : decode cX6_isSize 78 = .ok (.iload_n 0, 1) := by decide +kernel
theorem dX6_isSize_79 : decode cX6_isSize 79 = .ok (.bipush 37, 2) := by decide +kernel
theorem dX6_isSize_81 : decode cX6_isSize 81 = .ok (.if_icmp .eq 21, 3) := by decide +kernel
theorem dX6_isSize_84 : decode cX6_isSize 84 = .ok (.iload_n 0, 1) := by decide +kernel
theorem dX6_isSize_85 : decode cX6_isSize 85 = .ok (.bipush 38, 2) := by decide +kernel
theorem dX6_isSize_87 : decode cX6_isSize 87 = .ok (.if_icmp .eq 15, 3) := by decide +kernel
theorem dX6_isSize_90 : decode cX6_isSize 90 = .ok (.iload_n 0, 1) := by decide +kernel
theorem dX6_isSize_91 : decode cX6_isSize 91 = .ok (.bipush 44, 2) := by decide +kernel
theorem dX6_isSize_93 : decode cX6_isSize 93 = .ok (.if_icmp .lt 13, 3) := by decide +kernel
theorem dX6_isSize_96 : decode cX6_isSize 96 = .ok (.iload_n 0, 1) := by decide +kernel
theorem dX6_isSize_97 : decode cX6_isSize 97 = .ok (.bipush 47, 2) := by decide +kernel
theorem dX6_isSize_99 : decode cX6_isSize 99 = .ok (.if_icmp .gt 7, 3) := by decide +kernel
theorem dX6_isSize_102 : decode cX6_isSize 102 = .ok (.iconst 1, 1) := by decide +kernel
theorem dX6_isSize_103 : decode cX6_isSize 103 = .ok (.goto 4, 3) := by decide +kernel
theorem dX6_isSize_106 : decode cX6_isSize 106 = .ok (.iconst 0, 1) := by decide +kernel
theorem dX6_isSize_107 : decode cX6_isSize 107 = .ok (.istore 4, 2) := by decide +kernel
theorem dX6_isSize_109 : decode cX6_isSize 109 = .ok (.iload_n 2, 1) := by decide +kernel
theorem dX6_isSize_110 : decode cX6_isSize 110 = .ok (.ifCond .eq 13, 3) := by decide +kernel
theorem dX6_isSize_113 : decode cX6_isSize 113 = .ok (.iload_n 1, 1) := by decide +kernel
theorem dX6_isSize_114 : decode cX6_isSize 114 = .ok (.ifCond .ne 7, 3) := by decide +kernel
theorem dX6_isSize_117 : decode cX6_isSize 117 = .ok (.iconst 1, 1) := by decide +kernel
theorem dX6_isSize_118 : decode cX6_isSize 118 = .ok (.goto 4, 3) := by decide +kernel
theorem dX6_isSize_121 : decode cX6_isSize 121 = .ok (.iconst 0, 1) := by decide +kernel
theorem dX6_isSize_122 : decode cX6_isSize 122 = .ok (.ireturn, 1) := by decide +kernel
theorem dX6_isSize_123 : decode cX6_isSize 123 = .ok (.iload_n 3, 1) := by decide +kernel
theorem dX6_isSize_124 : decode cX6_isSize 124 = .ok (.ifCond .eq 17, 3) := by decide +kernel
theorem dX6_isSize_127 : decode cX6_isSize 127 = .ok (.iload_n 1, 1) := by decide +kernel
theorem dX6_isSize_128 : decode cX6_isSize 128 = .ok (.bipush 8, 2) := by decide +kernel
theorem dX6_isSize_130 : decode cX6_isSize 130 = .ok (.if_icmp .ne 7, 3) := by decide +kernel
theorem dX6_isSize_133 : decode cX6_isSize 133 = .ok (.iconst 1, 1) := by decide +kernel
theorem dX6_isSize_134 : decode cX6_isSize 134 = .ok (.goto 52, 3) := by decide +kernel
theorem dX6_isSize_137 : decode cX6_isSize 137 = .ok (.iconst 0, 1) := by decide +kernel
theorem dX6_isSize_138 : decode cX6_isSize 138 = .ok (.goto 48, 3) := by decide +kernel
theorem dX6_isSize_141 : decode cX6_isSize 141 = .ok (.iload_n 0, 1) := by decide +kernel
theorem dX6_isSize_142 : decode cX6_isSize 142 = .ok (.bipush 35, 2) := by decide +kernel
theorem dX6_isSize_144 : decode cX6_isSize 144 = .ok (.if_icmp .ne 16, 3) := by decide +kernel
theorem dX6_isSize_147 : decode cX6_isSize 147 = .ok (.iload_n 1, 1) := by decide +kernel
theorem dX6_isSize_148 : decode cX6_isSize 148 = .ok (.iconst 1, 1) := by decide +kernel
theorem dX6_isSize_149 : decode cX6_isSize 149 = .ok (.if_icmp .ne 7, 3) := by decide +kernel
theorem dX6_isSize_152 : decode cX6_isSize 152 = .ok (.iconst 1, 1) := by decide +kernel
theorem dX6_isSize_153 : decode cX6_isSize 153 = .ok (.goto 33, 3) := by decide +kernel
theorem dX6_isSize_156 : decode cX6_isSize 156 = .ok (.iconst 0, 1) := by decide +kernel
theorem dX6_isSize_157 : decode cX6_isSize 157 = .ok (.goto 29, 3) := by decide +kernel
theorem dX6_isSize_160 : decode cX6_isSize 160 = .ok (.iload_n 1, 1) := by decide +kernel
theorem dX6_isSize_161 : decode cX6_isSize 161 = .ok (.iconst 4, 1) := by decide +kernel
theorem dX6_isSize_162 : decode cX6_isSize 162 = .ok (.if_icmp .eq 19, 3) := by decide +kernel
theorem dX6_isSize_165 : decode cX6_isSize 165 = .ok (.iload_n 1, 1) := by decide +kernel
theorem dX6_isSize_166 : decode cX6_isSize 166 = .ok (.bipush 8, 2) := by decide +kernel
theorem dX6_isSize_168 : decode cX6_isSize 168 = .ok (.if_icmp .eq 13, 3) := by decide +kernel
theorem dX6_isSize_171 : decode cX6_isSize 171 = .ok (.iload_n 1, 1) := by decide +kernel
theorem dX6_isSize_172 : decode cX6_isSize 172 = .ok (.iconst 1, 1) := by decide +kernel
theorem dX6_isSize_173 : decode cX6_isSize 173 = .ok (.if_icmp .ne 12, 3) := by decide +kernel
theorem dX6_isSize_176 : decode cX6_isSize 176 = .ok (.iload 4, 2) := by decide +kernel
theorem dX6_isSize_178 : decode cX6_isSize 178 = .ok (.ifCond .ne 7, 3) := by decide +kernel
theorem dX6_isSize_181 : decode cX6_isSize 181 = .ok (.iconst 1, 1) := by decide +kernel
theorem dX6_isSize_182 : decode cX6_isSize 182 = .ok (.goto 4, 3) := by decide +kernel
theorem dX6_isSize_185 : decode cX6_isSize 185 = .ok (.iconst 0, 1) := by decide +kernel
theorem dX6_isSize_186 : decode cX6_isSize 186 = .ok (.ireturn, 1) := by decide +kernel
theorem dX6_operands_0 : decode cX6_operands 0 = .ok (.aload_n 0, 1) := by decide +kernel
theorem dX6_operands_1 : decode cX6_operands 1 = .ok (.getfield 33, 3) := by decide +kernel
theorem dX6_operands_4 : decode cX6_operands 4 = .ok (.iconst 0, 1) := by decide +kernel
theorem dX6_operands_5 : decode cX6_operands 5 = .ok (.iaload, 1) := by decide +kernel
theorem dX6_operands_6 : decode cX6_operands 6 = .ok (.istore_n 1, 1) := by decide +kernel
theorem dX6_operands_7 : decode cX6_operands 7 = .ok (.aload_n 0, 1) := by decide +kernel
theorem dX6_operands_8 : decode cX6_operands 8 = .ok (.getfield 33, 3) := by decide +kernel
theorem dX6_operands_11 : decode cX6_operands 11 = .ok (.iconst 1, 1) := by decide +kernel
theorem dX6_operands_12 : decode cX6_operands 12 = .ok (.iaload, 1) := by decide +kernel
theorem dX6_operands_13 : decode cX6_operands 13 = .ok (.istore_n 2, 1) := by decide +kernel
theorem dX6_operands_14 : decode cX6_operands 14 = .ok (.aload_n 0, 1) := by decide +kernel
theorem dX6_operands_15 : decode cX6_operands 15 = .ok (.getfield 33, 3) := by decide +kernel
theorem dX6_operands_18 : decode cX6_operands 18 = .ok (.iconst 2, 1) := by decide +kernel
theorem dX6_operands_19 : decode cX6_operands 19 = .ok (.iaload, 1) := by decide +kernel
theorem dX6_operands_20 : decode cX6_operands 20 = .ok (.istore_n 3, 1) := by decide +kernel
theorem dX6_operands_21 : decode cX6_operands 21 = .ok (.iload_n 1, 1) := by decide +kernel
theorem dX6_operands_22 : decode cX6_operands 22 = .ok (.iconst 1, 1) := by decide +kernel
theorem dX6_operands_23 : decode cX6_operands 23 = .ok (.if_icmp .eq 8, 3) := by decide +kernel
theorem dX6_operands_26 : decode cX6_operands 26 = .ok (.iload_n 1, 1) := by decide +kernel
theorem dX6_operands_27 : decode cX6_operands 27 = .ok (.iconst 2, 1) := by decide +kernel
theorem dX6_operands_28 : decode cX6_operands 28 = .ok (.if_icmp .ne 7, 3) := by decide +kernel
theorem dX6_operands_31 : decode cX6_operands 31 = .ok (.iconst 1, 1) := by decide +kernel
theorem dX6_operands_32 : decode cX6_operands 32 = .ok (.goto 4, 3) := by decide +kernel
theorem dX6_operands_35 : decode cX6_operands 35 = .ok (.iconst 0, 1) := by decide +kernel
theorem dX6_operands_36 : decode cX6_operands 36 = .ok (.istore 4, 2) := by decide +kernel
theorem dX6_operands_38 : decode cX6_operands 38 = .ok (.iload_n 1, 1) := by decide +kernel
theorem dX6_operands_39 : decode cX6_operands 39 = .ok (.iconst 1, 1) := by decide +kernel
theorem dX6_operands_40 : decode cX6_operands 40 = .ok (.if_icmp .ne 7, 3) := by decide +kernel
theorem dX6_operands_43 : decode cX6_operands 43 = .ok (.iconst 1, 1) := by decide +kernel
theorem dX6_operands_44 : decode cX6_operands 44 = .ok (.goto 4, 3) := by decide +kernel
theorem dX6_operands_47 : decode cX6_operands 47 = .ok (.iconst 0, 1) := by decide +kernel
theorem dX6_operands_48 : decode cX6_operands 48 = .ok (.istore 5, 2) := by decide +kernel
theorem dX6_operands_50 : decode cX6_operands 50 = .ok (.iload_n 2, 1) := by decide +kernel
theorem dX6_operands_51 : decode cX6_operands 51 = .ok (.ifCond .ne 11, 3) := by decide +kernel
theorem dX6_operands_54 : decode cX6_operands 54 = .ok (.iload_n 3, 1) := by decide +kernel
theorem dX6_operands_55 : decode cX6_operands 55 = .ok (.ifCond .ne 7, 3) := by decide +kernel
theorem dX6_operands_58 : decode cX6_operands 58 = .ok (.iconst 1, 1) := by decide +kernel
theorem dX6_operands_59 : decode cX6_operands 59 = .ok (.goto 4, 3) := by decide +kernel
theorem dX6_operands_62 : decode cX6_operands 62 = .ok (.iconst 0, 1) := by decide +kernel
theorem dX6_operands_63 : decode cX6_operands 63 = .ok (.istore 6, 2) := by decide +kernel
theorem dX6_operands_65 : decode cX6_operands 65 = .ok (.iload_n 3, 1) := by decide +kernel
theorem dX6_operands_66 : decode cX6_operands 66 = .ok (.ifCond .ne 7, 3) := by decide +kernel
theorem dX6_operands_69 : decode cX6_operands 69 = .ok (.iconst 1, 1) := by decide +kernel
theorem dX6_operands_70 : decode cX6_operands 70 = .ok (.goto 4, 3) := by decide +kernel
theorem dX6_operands_73 : decode cX6_operands 73 = .ok (.iconst 0, 1) := by decide +kernel
theorem dX6_operands_74 : decode cX6_operands 74 = .ok (.istore 7, 2) := by decide +kernel
theorem dX6_operands_76 : decode cX6_operands 76 = .ok (.aload_n 0, 1) := by decide +kernel
theorem dX6_operands_77 : decode cX6_operands 77 = .ok (.getfield 7, 3) := by decide +kernel
theorem dX6_operands_80 : decode cX6_operands 80 = .ok (.istore 8, 2) := by decide +kernel
theorem dX6_operands_82 : decode cX6_operands 82 = .ok (.iload 8, 2) := by decide +kernel
theorem dX6_operands_84 : decode cX6_operands 84 = .ok (.bipush 9, 2) := by decide +kernel
theorem dX6_operands_86 : decode cX6_operands 86 = .ok (.if_icmp .ge 33, 3) := by decide +kernel
theorem dX6_operands_89 : decode cX6_operands 89 = .ok (.iload 4, 2) := by decide +kernel
theorem dX6_operands_91 : decode cX6_operands 91 = .ok (.ifCond .eq 26, 3) := by decide +kernel
theorem dX6_operands_94 : decode cX6_operands 94 = .ok (.iload 7, 2) := by decide +kernel
theorem dX6_operands_96 : decode cX6_operands 96 = .ok (.ifCond .eq 21, 3) := by decide +kernel
theorem dX6_operands_99 : decode cX6_operands 99 = .ok (.iload_n 2, 1) := by decide +kernel
theorem dX6_operands_100 : decode cX6_operands 100 = .ok (.ifCond .eq 17, 3) := by decide +kernel
theorem dX6_operands_103 : decode cX6_operands 103 = .ok (.iload 5, 2) := by decide +kernel
theorem dX6_operands_105 : decode cX6_operands 105 = .ok (.ifCond .ne 8, 3) := by decide +kernel
theorem dX6_operands_108 : decode cX6_operands 108 = .ok (.iload_n 2, 1) := by decide +kernel
theorem dX6_operands_109 : decode cX6_operands 109 = .ok (.iconst 2, 1) := by decide +kernel
theorem dX6_operands_110 : decode cX6_operands 110 = .ok (.if_icmp .eq 7, 3) := by decide +kernel
theorem dX6_operands_113 : decode cX6_operands 113 = .ok (.iconst 1, 1) := by decide +kernel
theorem dX6_operands_114 : decode cX6_operands 114 = .ok (.goto 4, 3) := by decide +kernel
theorem dX6_operands_117 : decode cX6_operands 117 = .ok (.iconst 0, 1) := by decide +kernel
theorem dX6_operands_118 : decode cX6_operands 118 = .ok (.ireturn, 1) := by decide +kernel
theorem dX6_operands_119 : decode cX6_operands 119 = .ok (.iload 8, 2) := by decide +kernel
theorem dX6_operands_121 : decode cX6_operands 121 = .ok (.bipush 9, 2) := by decide +kernel
theorem dX6_operands_123 : decode cX6_operands 123 = .ok (.if_icmp .ne 29, 3) := by decide +kernel
theorem dX6_operands_126 : decode cX6_operands 126 = .ok (.iload 4, 2) := by decide +kernel
theorem dX6_operands_128 : decode cX6_operands 128 = .ok (.ifCond .eq 22, 3) := by decide +kernel
theorem dX6_operands_131 : decode cX6_operands 131 = .ok (.iload 7, 2) := by decide +kernel
theorem dX6_operands_133 : decode cX6_operands 133 = .ok (.ifCond .eq 17, 3) := by decide +kernel
theorem dX6_operands_136 : decode cX6_operands 136 = .ok (.iload_n 2, 1) := by decide +kernel
theorem dX6_operands_137 : decode cX6_operands 137 = .ok (.iconst 1, 1) := by decide +kernel
theorem dX6_operands_138 : decode cX6_operands 138 = .ok (.if_icmp .eq 8, 3) := by decide +kernel
theorem dX6_operands_141 : decode cX6_operands 141 = .ok (.iload_n 2, 1) := by decide +kernel
theorem dX6_operands_142 : decode cX6_operands 142 = .ok (.iconst 3, 1) := by decide +kernel
theorem dX6_operands_143 : decode cX6_operands 143 = .ok (.if_icmp .ne 7, 3) := by decide +kernel
theorem dX6_operands_146 : decode cX6_operands 146 = .ok (.iconst 1, 1) := by decide +kernel
theorem dX6_operands_147 : decode cX6_operands 147 = .ok (.goto 4, 3) := by decide +kernel
theorem dX6_operands_150 : decode cX6_operands 150 = .ok (.iconst 0, 1) := by decide +kernel
theorem dX6_operands_151 : decode cX6_operands 151 = .ok (.ireturn, 1) := by decide +kernel
theorem dX6_operands_152 : decode cX6_operands 152 = .ok (.iload 8, 2) := by decide +kernel
theorem dX6_operands_154 : decode cX6_operands 154 = .ok (.bipush 10, 2) := by decide +kernel
theorem dX6_operands_156 : decode cX6_operands 156 = .ok (.if_icmp .eq 17, 3) := by decide +kernel
theorem dX6_operands_159 : decode cX6_operands 159 = .ok (.iload 8, 2) := by decide +kernel
theorem dX6_operands_161 : decode cX6_operands 161 = .ok (.bipush 48, 2) := by decide +kernel
theorem dX6_operands_163 : decode cX6_operands 163 = .ok (.if_icmp .eq 10, 3) := by decide +kernel
theorem dX6_operands_166 : decode cX6_operands 166 = .ok (.iload 8, 2) := by decide +kernel
theorem dX6_operands_168 : decode cX6_operands 168 = .ok (.bipush 49, 2) := by decide +kernel
theorem dX6_operands_170 : decode cX6_operands 170 = .ok (.if_icmp .ne 24, 3) := by decide +kernel
theorem dX6_operands_173 : decode cX6_operands 173 = .ok (.iload 4, 2) := by decide +kernel
theorem dX6_operands_175 : decode cX6_operands 175 = .ok (.ifCond .eq 17, 3) := by decide +kernel
theorem dX6_operands_178 : decode cX6_operands 178 = .ok (.iload 7, 2) := by decide +kernel
theorem dX6_operands_180 : decode cX6_operands 180 = .ok (.ifCond .eq 12, 3) := by decide +kernel
theorem dX6_operands_183 : decode cX6_operands 183 = .ok (.iload_n 2, 1) := by decide +kernel
theorem dX6_operands_184 : decode cX6_operands 184 = .ok (.iconst 1, 1) := by decide +kernel
theorem dX6_operands_185 : decode cX6_operands 185 = .ok (.if_icmp .ne 7, 3) := by decide +kernel
theorem dX6_operands_188 : decode cX6_operands 188 = .ok (.iconst 1, 1) := by decide +kernel
theorem dX6_operands_189 : decode cX6_operands 189 = .ok (.goto 4, 3) := by decide +kernel
theorem dX6_operands_192 : decode cX6_operands 192 = .ok (.iconst 0, 1) := by decide +kernel
theorem dX6_operands_193 : decode cX6_operands 193 = .ok (.ireturn, 1) := by decide +kernel
theorem dX6_operands_194 : decode cX6_operands 194 = .ok (.iload 8, 2) := by decide +kernel
theorem dX6_operands_196 : decode cX6_operands 196 = .ok (.bipush 11, 2) := by decide +kernel
theorem dX6_operands_198 : decode cX6_operands 198 = .ok (.if_icmp .ne 24, 3) := by decide +kernel
theorem dX6_operands_201 : decode cX6_operands 201 = .ok (.iload 5, 2) := by decide +kernel
theorem dX6_operands_203 : decode cX6_operands 203 = .ok (.ifCond .eq 17, 3) := by decide +kernel
theorem dX6_operands_206 : decode cX6_operands 206 = .ok (.iload 7, 2) := by decide +kernel
theorem dX6_operands_208 : decode cX6_operands 208 = .ok (.ifCond .eq 12, 3) := by decide +kernel
theorem dX6_operands_211 : decode cX6_operands 211 = .ok (.iload_n 2, 1) := by decide +kernel
theorem dX6_operands_212 : decode cX6_operands 212 = .ok (.iconst 2, 1) := by decide +kernel
theorem dX6_operands_213 : decode cX6_operands 213 = .ok (.if_icmp .ne 7, 3) := by decide +kernel
theorem dX6_operands_216 : decode cX6_operands 216 = .ok (.iconst 1, 1) := by decide +kernel
theorem dX6_operands_217 : decode cX6_operands 217 = .ok (.goto 4, 3) := by decide +kernel
theorem dX6_operands_220 : decode cX6_operands 220 = .ok (.iconst 0, 1) := by decide +kernel
theorem dX6_operands_221 : decode cX6_operands 221 = .ok (.ireturn, 1) := by decide +kernel
theorem dX6_operands_222 : decode cX6_operands 222 = .ok (.iload 8, 2) := by decide +kernel
theorem dX6_operands_224 : decode cX6_operands 224 = .ok (.bipush 15, 2) := by decide +kernel
theorem dX6_operands_226 : decode cX6_operands 226 = .ok (.if_icmp .lt 10, 3) := by decide +kernel
theorem dX6_operands_229 : decode cX6_operands 229 = .ok (.iload 8, 2) := by decide +kernel
theorem dX6_operands_231 : decode cX6_operands 231 = .ok (.bipush 22, 2) := by decide +kernel
theorem dX6_operands_233 : decode cX6_operands 233 = .ok (.if_icmp .le 17, 3) := by decide +kernel
theorem dX6_operands_236 : decode cX6_operands 236 = .ok (.iload 8, 2) := by decide +kernel
theorem dX6_operands_238 : decode cX6_operands 238 = .ok (.bipush 30, 2) := by decide +kernel
theorem dX6_operands_240 : decode cX6_operands 240 = .ok (.if_icmp .eq 10, 3) := by decide +kernel
theorem dX6_operands_243 : decode cX6_operands 243 = .ok (.iload 8, 2) := by decide +kernel
theorem dX6_operands_245 : decode cX6_operands 245 = .ok (.bipush 35, 2) := by decide +kernel
theorem dX6_operands_247 : decode cX6_operands 247 = .ok (.if_icmp .ne 19, 3) := by decide +kernel
theorem dX6_operands_250 : decode cX6_operands 250 = .ok (.iload 4, 2) := by decide +kernel
theorem dX6_operands_252 : decode cX6_operands 252 = .ok (.ifCond .eq 12, 3) := by decide +kernel
theorem dX6_operands_255 : decode cX6_operands 255 = .ok (.iload 6, 2) := by decide +kernel
theorem dX6_operands_257 : decode cX6_operands 257 = .ok (.ifCond .eq 7, 3) := by decide +kernel
theorem dX6_operands_260 : decode cX6_operands 260 = .ok (.iconst 1, 1) := by decide +kernel
theorem dX6_operands_261 : decode cX6_operands 261 = .ok (.goto 4, 3) := by decide +kernel
theorem dX6_operands_264 : decode cX6_operands 264 = .ok (.iconst 0, 1) := by decide +kernel
theorem dX6_operands_265 : decode cX6_operands 265 = .ok (.ireturn, 1) := by decide +kernel
theorem dX6_operands_266 : decode cX6_operands 266 = .ok (.iload 8, 2) := by decide +kernel
theorem dX6_operands_268 : decode cX6_operands 268 = .ok (.bipush 23, 2) := by decide +kernel
theorem dX6_operands_270 : decode cX6_operands 270 = .ok (.if_icmp .ne 34, 3) := by decide +kernel
theorem dX6_operands_273 : decode cX6_operands 273 = .ok (.iload 5, 2) := by decide +kernel
theorem dX6_operands_275 : decode cX6_operands 275 = .ok (.ifCond .eq 27, 3) := by decide +kernel
theorem dX6_operands_278 : decode cX6_operands 278 = .ok (.iload_n 2, 1) := by decide +kernel
theorem dX6_operands_279 : decode cX6_operands 279 = .ok (.iconst 1, 1) := by decide +kernel
theorem dX6_operands_280 : decode cX6_operands 280 = .ok (.if_icmp .eq 8, 3) := by decide +kernel
theorem dX6_operands_283 : decode cX6_operands 283 = .ok (.iload_n 2, 1) := by decide +kernel
theorem dX6_operands_284 : decode cX6_operands 284 = .ok (.iconst 2, 1) := by decide +kernel
theorem dX6_operands_285 : decode cX6_operands 285 = .ok (.if_icmp .ne 17, 3) := by decide +kernel
theorem dX6_operands_288 : decode cX6_operands 288 = .ok (.iload 7, 2) := by decide +kernel
theorem dX6_operands_290 : decode cX6_operands 290 = .ok (.ifCond .ne 8, 3) := by decide +kernel
theorem dX6_operands_293 : decode cX6_operands 293 = .ok (.iload_n 3, 1) := by decide +kernel
theorem dX6_operands_294 : decode cX6_operands 294 = .ok (.iconst 3, 1) := by decide +kernel
theorem dX6_operands_295 : decode cX6_operands 295 = .ok (.if_icmp .ne 7, 3) := by decide +kernel
theorem dX6_operands_298 : decode cX6_operands 298 = .ok (.iconst 1, 1) := by decide +kernel
theorem dX6_operands_299 : decode cX6_operands 299 = .ok (.goto 4, 3) := by decide +kernel
theorem dX6_operands_302 : decode cX6_operands 302 = .ok (.iconst 0, 1) := by decide +kernel
theorem dX6_operands_303 : decode cX6_operands 303 = .ok (.ireturn, 1) := by decide +kernel
theorem dX6_operands_304 : decode cX6_operands 304 = .ok (.iload 8, 2) := by decide +kernel
theorem dX6_operands_306 : decode cX6_operands 306 = .ok (.bipush 24, 2) := by decide +kernel
theorem dX6_operands_308 : decode cX6_operands 308 = .ok (.if_icmp .lt 46, 3) := by decide +kernel
theorem dX6_operands_311 : decode cX6_operands 311 = .ok (.iload 8, 2) := by decide +kernel
theorem dX6_operands_313 : decode cX6_operands 313 = .ok (.bipush 28, 2) := by decide +kernel
theorem dX6_operands_315 : decode cX6_operands 315 = .ok (.if_icmp .gt 39, 3) := by decide +kernel
theorem dX6_operands_318 : decode cX6_operands 318 = .ok (.iload 4, 2) := by decide +kernel
theorem dX6_operands_320 : decode cX6_operands 320 = .ok (.ifCond .eq 32, 3) := by decide +kernel
theorem dX6_operands_323 : decode cX6_operands 323 = .ok (.iload 7, 2) := by decide +kernel
theorem dX6_operands_325 : decode cX6_operands 325 = .ok (.ifCond .eq 27, 3) := by decide +kernel
theorem dX6_operands_328 : decode cX6_operands 328 = .ok (.iload_n 2, 1) := by decide +kernel
theorem dX6_operands_329 : decode cX6_operands 329 = .ok (.iconst 3, 1) := by decide +kernel
theorem dX6_operands_330 : decode cX6_operands 330 = .ok (.if_icmp .eq 18, 3) := by decide +kernel
theorem dX6_operands_333 : decode cX6_operands 333 = .ok (.iload_n 2, 1) := by decide +kernel
theorem dX6_operands_334 : decode cX6_operands 334 = .ok (.iconst 1, 1) := by decide +kernel
theorem dX6_operands_335 : decode cX6_operands 335 = .ok (.if_icmp .ne 17, 3) := by decide +kernel
theorem dX6_operands_338 : decode cX6_operands 338 = .ok (.aload_n 0, 1) := by decide +kernel
theorem dX6_operands_339 : decode cX6_operands 339 = .ok (.getfield 81, 3) := by decide +kernel
theorem dX6_operands_342 : decode cX6_operands 342 = .ok (.iconst 1, 1) := by decide +kernel
theorem dX6_operands_343 : decode cX6_operands 343 = .ok (.iaload, 1) := by decide +kernel
theorem dX6_operands_344 : decode cX6_operands 344 = .ok (.iconst 1, 1) := by decide +kernel
theorem dX6_operands_345 : decode cX6_operands 345 = .ok (.if_icmp .ne 7, 3) := by decide +kernel
theorem dX6_operands_348 : decode cX6_operands 348 = .ok (.iconst 1, 1) := by decide +kernel
theorem dX6_operands_349 : decode cX6_operands 349 = .ok (.goto 4, 3) := by decide +kernel
theorem dX6_operands_352 : decode cX6_operands 352 = .ok (.iconst 0, 1) := by decide +kernel
theorem dX6_operands_353 : decode cX6_operands 353 = .ok (.ireturn, 1) := by decide +kernel
theorem dX6_operands_354 : decode cX6_operands 354 = .ok (.iload 8, 2) := by decide +kernel
theorem dX6_operands_356 : decode cX6_operands 356 = .ok (.bipush 29, 2) := by decide +kernel
theorem dX6_operands_358 : decode cX6_operands 358 = .ok (.if_icmp .eq 17, 3) := by decide +kernel
theorem dX6_operands_361 : decode cX6_operands 361 = .ok (.iload 8, 2) := by decide +kernel
theorem dX6_operands_363 : decode cX6_operands 363 = .ok (.bipush 31, 2) := by decide +kernel
theorem dX6_operands_365 : decode cX6_operands 365 = .ok (.if_icmp .eq 10, 3) := by decide +kernel
theorem dX6_operands_368 : decode cX6_operands 368 = .ok (.iload 8, 2) := by decide +kernel
theorem dX6_operands_370 : decode cX6_operands 370 = .ok (.bipush 32, 2) := by decide +kernel
theorem dX6_operands_372 : decode cX6_operands 372 = .ok (.if_icmp .ne 18, 3) := by decide +kernel
theorem dX6_operands_375 : decode cX6_operands 375 = .ok (.iload_n 1, 1) := by decide +kernel
theorem dX6_operands_376 : decode cX6_operands 376 = .ok (.ifCond .eq 12, 3) := by decide +kernel
theorem dX6_operands_379 : decode cX6_operands 379 = .ok (.iload 6, 2) := by decide +kernel
theorem dX6_operands_381 : decode cX6_operands 381 = .ok (.ifCond .eq 7, 3) := by decide +kernel
theorem dX6_operands_384 : decode cX6_operands 384 = .ok (.iconst 1, 1) := by decide +kernel
theorem dX6_operands_385 : decode cX6_operands 385 = .ok (.goto 4, 3) := by decide +kernel
theorem dX6_operands_388 : decode cX6_operands 388 = .ok (.iconst 0, 1) := by decide +kernel
theorem dX6_operands_389 : decode cX6_operands 389 = .ok (.ireturn, 1) := by decide +kernel
theorem dX6_operands_390 : decode cX6_operands 390 = .ok (.iload 8, 2) := by decide +kernel
theorem dX6_operands_392 : decode cX6_operands 392 = .ok (.bipush 33, 2) := by decide +kernel
theorem dX6_operands_394 : decode cX6_operands 394 = .ok (.if_icmp .ne 23, 3) := by decide +kernel
theorem dX6_operands_397 : decode cX6_operands 397 = .ok (.iload 6, 2) := by decide +kernel
theorem dX6_operands_399 : decode cX6_operands 399 = .ok (.ifCond .eq 16, 3) := by decide +kernel
theorem dX6_operands_402 : decode cX6_operands 402 = .ok (.iload_n 1, 1) := by decide +kernel
theorem dX6_operands_403 : decode cX6_operands 403 = .ok (.ifCond .eq 8, 3) := by decide +kernel
theorem dX6_operands_406 : decode cX6_operands 406 = .ok (.iload_n 1, 1) := by decide +kernel
theorem dX6_operands_407 : decode cX6_operands 407 = .ok (.iconst 3, 1) := by decide +kernel
theorem dX6_operands_408 : decode cX6_operands 408 = .ok (.if_icmp .ne 7, 3) := by decide +kernel
theorem dX6_operands_411 : decode cX6_operands 411 = .ok (.iconst 1, 1) := by decide +kernel
theorem dX6_operands_412 : decode cX6_operands 412 = .ok (.goto 4, 3) := by decide +kernel
theorem dX6_operands_415 : decode cX6_operands 415 = .ok (.iconst 0, 1) := by decide +kernel
theorem dX6_operands_416 : decode cX6_operands 416 = .ok (.ireturn, 1) := by decide +kernel
theorem dX6_operands_417 : decode cX6_operands 417 = .ok (.iload 8, 2) := by decide +kernel
theorem dX6_operands_419 : decode cX6_operands 419 = .ok (.bipush 34, 2) := by decide +kernel
theorem dX6_operands_421 : decode cX6_operands 421 = .ok (.if_icmp .ne 19, 3) := by decide +kernel
theorem dX6_operands_424 : decode cX6_operands 424 = .ok (.iload 6, 2) := by decide +kernel
theorem dX6_operands_426 : decode cX6_operands 426 = .ok (.ifCond .eq 12, 3) := by decide +kernel
theorem dX6_operands_429 : decode cX6_operands 429 = .ok (.iload_n 1, 1) := by decide +kernel
theorem dX6_operands_430 : decode cX6_operands 430 = .ok (.iconst 3, 1) := by decide +kernel
theorem dX6_operands_431 : decode cX6_operands 431 = .ok (.if_icmp .ne 7, 3) := by decide +kernel
theorem dX6_operands_434 : decode cX6_operands 434 = .ok (.iconst 1, 1) := by decide +kernel
theorem dX6_operands_435 : decode cX6_operands 435 = .ok (.goto 4, 3) := by decide +kernel
theorem dX6_operands_438 : decode cX6_operands 438 = .ok (.iconst 0, 1) := by decide +kernel
theorem dX6_operands_439 : decode cX6_operands 439 = .ok (.ireturn, 1) := by decide +kernel
theorem dX6_operands_440 : decode cX6_operands 440 = .ok (.iload 8, 2) := by decide +kernel
theorem dX6_operands_442 : decode cX6_operands 442 = .ok (.bipush 46, 2) := by decide +kernel
theorem dX6_operands_444 : decode cX6_operands 444 = .ok (.if_icmp .ne 19, 3) := by decide +kernel
theorem dX6_operands_447 : decode cX6_operands 447 = .ok (.iload 5, 2) := by decide +kernel
theorem dX6_operands_449 : decode cX6_operands 449 = .ok (.ifCond .eq 12, 3) := by decide +kernel
theorem dX6_operands_452 : decode cX6_operands 452 = .ok (.iload 6, 2) := by decide +kernel
theorem dX6_operands_454 : decode cX6_operands 454 = .ok (.ifCond .eq 7, 3) := by decide +kernel
theorem dX6_operands_457 : decode cX6_operands 457 = .ok (.iconst 1, 1) := by decide +kernel
theorem dX6_operands_458 : decode cX6_operands 458 = .ok (.goto 4, 3) := by decide +kernel
theorem dX6_operands_461 : decode cX6_operands 461 = .ok (.iconst 0, 1) := by decide +kernel
theorem dX6_operands_462 : decode cX6_operands 462 = .ok (.ireturn, 1) := by decide +kernel
theorem dX6_operands_463 : decode cX6_operands 463 = .ok (.iload 8, 2) := by decide +kernel
theorem dX6_operands_465 : decode cX6_operands 465 = .ok (.bipush 47, 2) := by decide +kernel
theorem dX6_operands_467 : decode cX6_operands 467 = .ok (.if_icmp .ne 29, 3) := by decide +kernel
theorem dX6_operands_470 : decode cX6_operands 470 = .ok (.iload 4, 2) := by decide +kernel
theorem dX6_operands_472 : decode cX6_operands 472 = .ok (.ifCond .eq 22, 3) := by decide +kernel
theorem dX6_operands_475 : decode cX6_operands 475 = .ok (.iload 7, 2) := by decide +kernel
theorem dX6_operands_477 : decode cX6_operands 477 = .ok (.ifCond .eq 17, 3) := by decide +kernel
theorem dX6_operands_480 : decode cX6_operands 480 = .ok (.iload_n 2, 1) := by decide +kernel
theorem dX6_operands_481 : decode cX6_operands 481 = .ok (.iconst 1, 1) := by decide +kernel
theorem dX6_operands_482 : decode cX6_operands 482 = .ok (.if_icmp .eq 8, 3) := by decide +kernel
theorem dX6_operands_485 : decode cX6_operands 485 = .ok (.iload_n 2, 1) := by decide +kernel
theorem dX6_operands_486 : decode cX6_operands 486 = .ok (.iconst 3, 1) := by decide +kernel
theorem dX6_operands_487 : decode cX6_operands 487 = .ok (.if_icmp .ne 7, 3) := by decide +kernel
theorem dX6_operands_490 : decode cX6_operands 490 = .ok (.iconst 1, 1) := by decide +kernel
theorem dX6_operands_491 : decode cX6_operands 491 = .ok (.goto 4, 3) := by decide +kernel
theorem dX6_operands_494 : decode cX6_operands 494 = .ok (.iconst 0, 1) := by decide +kernel
theorem dX6_operands_495 : decode cX6_operands 495 = .ok (.ireturn, 1) := by decide +kernel
theorem dX6_operands_496 : decode cX6_operands 496 = .ok (.iload 8, 2) := by decide +kernel
theorem dX6_operands_498 : decode cX6_operands 498 = .ok (.bipush 12, 2) := by decide +kernel
theorem dX6_operands_500 : decode cX6_operands 500 = .ok (.if_icmp .lt 10, 3) := by decide +kernel
theorem dX6_operands_503 : decode cX6_operands 503 = .ok (.iload 8, 2) := by decide +kernel
theorem dX6_operands_505 : decode cX6_operands 505 = .ok (.bipush 14, 2) := by decide +kernel
theorem dX6_operands_507 : decode cX6_operands 507 = .ok (.if_icmp .le 24, 3) := by decide +kernel
theorem dX6_operands_510 : decode cX6_operands 510 = .ok (.iload 8, 2) := by decide +kernel
theorem dX6_operands_512 : decode cX6_operands 512 = .ok (.bipush 36, 2) := by decide +kernel
theorem dX6_operands_514 : decode cX6_operands 514 = .ok (.if_icmp .eq 17, 3) := by decide +kernel
theorem dX6_operands_517 : decode cX6_operands 517 = .ok (.iload 8, 2) := by decide +kernel
theorem dX6_operands_519 : decode cX6_operands 519 = .ok (.bipush 44, 2) := by decide +kernel
theorem dX6_operands_521 : decode cX6_operands 521 = .ok (.if_icmp .eq 10, 3) := by decide +kernel
theorem dX6_operands_524 : decode cX6_operands 524 = .ok (.iload 8, 2) := by decide +kernel
theorem dX6_operands_526 : decode cX6_operands 526 = .ok (.bipush 45, 2) := by decide +kernel
theorem dX6_operands_528 : decode cX6_operands 528 = .ok (.if_icmp .ne 29, 3) := by decide +kernel
theorem dX6_operands_531 : decode cX6_operands 531 = .ok (.iload 5, 2) := by decide +kernel
theorem dX6_operands_533 : decode cX6_operands 533 = .ok (.ifCond .eq 22, 3) := by decide +kernel
theorem dX6_operands_536 : decode cX6_operands 536 = .ok (.iload 7, 2) := by decide +kernel
theorem dX6_operands_538 : decode cX6_operands 538 = .ok (.ifCond .eq 17, 3) := by decide +kernel
theorem dX6_operands_541 : decode cX6_operands 541 = .ok (.iload_n 2, 1) := by decide +kernel
theorem dX6_operands_542 : decode cX6_operands 542 = .ok (.iconst 1, 1) := by decide +kernel
theorem dX6_operands_543 : decode cX6_operands 543 = .ok (.if_icmp .eq 8, 3) := by decide +kernel
theorem dX6_operands_546 : decode cX6_operands 546 = .ok (.iload_n 2, 1) := by decide +kernel
theorem dX6_operands_547 : decode cX6_operands 547 = .ok (.iconst 2, 1) := by decide +kernel
theorem dX6_operands_548 : decode cX6_operands 548 = .ok (.if_icmp .ne 7, 3) := by decide +kernel
theorem dX6_operands_551 : decode cX6_operands 551 = .ok (.iconst 1, 1) := by decide +kernel
theorem dX6_operands_552 : decode cX6_operands 552 = .ok (.goto 4, 3) := by decide +kernel
theorem dX6_operands_555 : decode cX6_operands 555 = .ok (.iconst 0, 1) := by decide +kernel
theorem dX6_operands_556 : decode cX6_operands 556 = .ok (.ireturn, 1) := by decide +kernel
theorem dX6_operands_557 : decode cX6_operands 557 = .ok (.iload_n 1, 1) := by decide +kernel
theorem dX6_operands_558 : decode cX6_operands 558 = .ok (.ifCond .ne 12, 3) := by decide +kernel
theorem dX6_operands_561 : decode cX6_operands 561 = .ok (.iload 6, 2) := by decide +kernel
theorem dX6_operands_563 : decode cX6_operands 563 = .ok (.ifCond .eq 7, 3) := by decide +kernel
theorem dX6_operands_566 : decode cX6_operands 566 = .ok (.iconst 1, 1) := by decide +kernel
theorem dX6_operands_567 : decode cX6_operands 567 = .ok (.goto 4, 3) := by decide +kernel
theorem dX6_operands_570 : decode cX6_operands 570 = .ok (.iconst 0, 1) := by decide +kernel
theorem dX6_operands_571 : decode cX6_operands 571 = .ok (.ireturn, 1) := by decide +kernel
theorem dX6_isMemory_0 : decode cX6_isMemory 0 = .ok (.aload_n 0, 1) := by decide +kernel
theorem dX6_isMemory_1 : decode cX6_isMemory 1 = .ok (.getfield 68, 3) := by decide +kernel
theorem dX6_isMemory_4 : decode cX6_isMemory 4 = .ok (.iconst (-1), 1) := by decide +kernel
theorem dX6_isMemory_5 : decode cX6_isMemory 5 = .ok (.if_icmp .eq 7, 3) := by decide +kernel
theorem dX6_isMemory_8 : decode cX6_isMemory 8 = .ok (.iconst 1, 1) := by decide +kernel
theorem dX6_isMemory_9 : decode cX6_isMemory 9 = .ok (.goto 4, 3) := by decide +kernel
theorem dX6_isMemory_12 : decode cX6_isMemory 12 = .ok (.iconst 0, 1) := by decide +kernel
theorem dX6_isMemory_13 : decode cX6_isMemory 13 = .ok (.istore_n 1, 1) := by decide +kernel
theorem dX6_isMemory_14 : decode cX6_isMemory 14 = .ok (.aload_n 0, 1) := by decide +kernel
theorem dX6_isMemory_15 : decode cX6_isMemory 15 = .ok (.getfield 71, 3) := by decide +kernel
theorem dX6_isMemory_18 : decode cX6_isMemory 18 = .ok (.i2l, 1) := by decide +kernel
theorem dX6_isMemory_19 : decode cX6_isMemory 19 = .ok (.ldc2_w 74, 3) := by decide +kernel
theorem dX6_isMemory_22 : decode cX6_isMemory 22 = .ok (.ldc2_w 76, 3) := by decide +kernel
theorem dX6_isMemory_25 : decode cX6_isMemory 25 = .ok (.invokestatic 15, 3) := by decide +kernel
theorem dX6_isMemory_28 : decode cX6_isMemory 28 = .ok (.ifCond .eq 39, 3) := by decide +kernel
theorem dX6_isMemory_31 : decode cX6_isMemory 31 = .ok (.iload_n 1, 1) := by decide +kernel
theorem dX6_isMemory_32 : decode cX6_isMemory 32 = .ok (.ifCond .eq 37, 3) := by decide +kernel
theorem dX6_isMemory_35 : decode cX6_isMemory 35 = .ok (.aload_n 0, 1) := by decide +kernel
theorem dX6_isMemory_36 : decode cX6_isMemory 36 = .ok (.getfield 68, 3) := by decide +kernel
theorem dX6_isMemory_39 : decode cX6_isMemory 39 = .ok (.i2l, 1) := by decide +kernel
theorem dX6_isMemory_40 : decode cX6_isMemory 40 = .ok (.lconst 0, 1) := by decide +kernel
theorem dX6_isMemory_41 : decode cX6_isMemory 41 = .ok (.ldc2_w 31, 3) := by decide +kernel
theorem dX6_isMemory_44 : decode cX6_isMemory 44 = .ok (.invokestatic 15, 3) := by decide +kernel
theorem dX6_isMemory_47 : decode cX6_isMemory 47 = .ok (.ifCond .eq 20, 3) := by decide +kernel
theorem dX6_isMemory_50 : decode cX6_isMemory 50 = .ok (.aload_n 0, 1) := by decide +kernel
theorem dX6_isMemory_51 : decode cX6_isMemory 51 = .ok (.getfield 68, 3) := by decide +kernel
theorem dX6_isMemory_54 : decode cX6_isMemory 54 = .ok (.iconst 4, 1) := by decide +kernel
theorem dX6_isMemory_55 : decode cX6_isMemory 55 = .ok (.if_icmp .eq 12, 3) := by decide +kernel
theorem dX6_isMemory_58 : decode cX6_isMemory 58 = .ok (.aload_n 0, 1) := by decide +kernel
theorem dX6_isMemory_59 : decode cX6_isMemory 59 = .ok (.getfield 71, 3) := by decide +kernel
theorem dX6_isMemory_62 : decode cX6_isMemory 62 = .ok (.bipush 16, 2) := by decide +kernel
theorem dX6_isMemory_64 : decode cX6_isMemory 64 = .ok (.if_icmp .ne 5, 3) := by decide +kernel
theorem dX6_isMemory_67 : decode cX6_isMemory 67 = .ok (.iconst 0, 1) := by decide +kernel
theorem dX6_isMemory_68 : decode cX6_isMemory 68 = .ok (.ireturn, 1) := by decide +kernel
theorem dX6_isMemory_69 : decode cX6_isMemory 69 = .ok (.iload_n 1, 1) := by decide +kernel
theorem dX6_isMemory_70 : decode cX6_isMemory 70 = .ok (.ifCond .eq 44, 3) := by decide +kernel
theorem dX6_isMemory_73 : decode cX6_isMemory 73 = .ok (.aload_n 0, 1) := by decide +kernel
theorem dX6_isMemory_74 : decode cX6_isMemory 74 = .ok (.getfield 78, 3) := by decide +kernel
theorem dX6_isMemory_77 : decode cX6_isMemory 77 = .ok (.iconst 1, 1) := by decide +kernel
theorem dX6_isMemory_78 : decode cX6_isMemory 78 = .ok (.if_icmp .eq 28, 3) := by decide +kernel
theorem dX6_isMemory_81 : decode cX6_isMemory 81 = .ok (.aload_n 0, 1) := by decide +kernel
theorem dX6_isMemory_82 : decode cX6_isMemory 82 = .ok (.getfield 78, 3) := by decide +kernel
theorem dX6_isMemory_85 : decode cX6_isMemory 85 = .ok (.iconst 2, 1) := by decide +kernel
theorem dX6_isMemory_86 : decode cX6_isMemory 86 = .ok (.if_icmp .eq 20, 3) := by decide +kernel
theorem dX6_isMemory_89 : decode cX6_isMemory 89 = .ok (.aload_n 0, 1) := by decide +kernel
theorem dX6_isMemory_90 : decode cX6_isMemory 90 = .ok (.getfield 78, 3) := by decide +kernel
theorem dX6_isMemory_93 : decode cX6_isMemory 93 = .ok (.iconst 4, 1) := by decide +kernel
theorem dX6_isMemory_94 : decode cX6_isMemory 94 = .ok (.if_icmp .eq 12, 3) := by decide +kernel
theorem dX6_isMemory_97 : decode cX6_isMemory 97 = .ok (.aload_n 0, 1) := by decide +kernel
theorem dX6_isMemory_98 : decode cX6_isMemory 98 = .ok (.getfield 78, 3) := by decide +kernel
theorem dX6_isMemory_101 : decode cX6_isMemory 101 = .ok (.bipush 8, 2) := by decide +kernel
theorem dX6_isMemory_103 : decode cX6_isMemory 103 = .ok (.if_icmp .ne 7, 3) := by decide +kernel
theorem dX6_isMemory_106 : decode cX6_isMemory 106 = .ok (.iconst 1, 1) := by decide +kernel
theorem dX6_isMemory_107 : decode cX6_isMemory 107 = .ok (.goto 20, 3) := by decide +kernel
theorem dX6_isMemory_110 : decode cX6_isMemory 110 = .ok (.iconst 0, 1) := by decide +kernel
theorem dX6_isMemory_111 : decode cX6_isMemory 111 = .ok (.goto 16, 3) := by decide +kernel
theorem dX6_isMemory_114 : decode cX6_isMemory 114 = .ok (.aload_n 0, 1) := by decide +kernel
theorem dX6_isMemory_115 : decode cX6_isMemory 115 = .ok (.getfield 78, 3) := by decide +kernel
theorem dX6_isMemory_118 : decode cX6_isMemory 118 = .ok (.iconst 1, 1) := by decide +kernel
theorem dX6_isMemory_119 : decode cX6_isMemory 119 = .ok (.if_icmp .ne 7, 3) := by decide +kernel
theorem dX6_isMemory_122 : decode cX6_isMemory 122 = .ok (.iconst 1, 1) := by decide +kernel
theorem dX6_isMemory_123 : decode cX6_isMemory 123 = .ok (.goto 4, 3) := by decide +kernel
theorem dX6_isMemory_126 : decode cX6_isMemory 126 = .ok (.iconst 0, 1) := by decide +kernel
theorem dX6_isMemory_127 : decode cX6_isMemory 127 = .ok (.ireturn, 1) := by decide +kernel
theorem dX6_isNumber_0 : decode cX6_isNumber 0 = .ok (.aload_n 0, 1) := by decide +kernel
theorem dX6_isNumber_1 : decode cX6_isNumber 1 = .ok (.getfield 33, 3) := by decide +kernel
theorem dX6_isNumber_4 : decode cX6_isNumber 4 = .ok (.iconst 0, 1) := by decide +kernel
theorem dX6_isNumber_5 : decode cX6_isNumber 5 = .ok (.iaload, 1) := by decide +kernel
theorem dX6_isNumber_6 : decode cX6_isNumber 6 = .ok (.iconst 3, 1) := by decide +kernel
theorem dX6_isNumber_7 : decode cX6_isNumber 7 = .ok (.if_icmp .eq 23, 3) := by decide +kernel
theorem dX6_isNumber_10 : decode cX6_isNumber 10 = .ok (.aload_n 0, 1) := by decide +kernel
theorem dX6_isNumber_11 : decode cX6_isNumber 11 = .ok (.getfield 33, 3) := by decide +kernel
theorem dX6_isNumber_14 : decode cX6_isNumber 14 = .ok (.iconst 1, 1) := by decide +kernel
theorem dX6_isNumber_15 : decode cX6_isNumber 15 = .ok (.iaload, 1) := by decide +kernel
theorem dX6_isNumber_16 : decode cX6_isNumber 16 = .ok (.iconst 3, 1) := by decide +kernel
theorem dX6_isNumber_17 : decode cX6_isNumber 17 = .ok (.if_icmp .eq 13, 3) := by decide +kernel
theorem dX6_isNumber_20 : decode cX6_isNumber 20 = .ok (.aload_n 0, 1) := by decide +kernel
theorem dX6_isNumber_21 : decode cX6_isNumber 21 = .ok (.getfield 33, 3) := by decide +kernel
theorem dX6_isNumber_24 : decode cX6_isNumber 24 = .ok (.iconst 2, 1) := by decide +kernel
theorem dX6_isNumber_25 : decode cX6_isNumber 25 = .ok (.iaload, 1) := by decide +kernel
theorem dX6_isNumber_26 : decode cX6_isNumber 26 = .ok (.iconst 3, 1) := by decide +kernel
theorem dX6_isNumber_27 : decode cX6_isNumber 27 = .ok (.if_icmp .ne 7, 3) := by decide +kernel
theorem dX6_isNumber_30 : decode cX6_isNumber 30 = .ok (.iconst 1, 1) := by decide +kernel
theorem dX6_isNumber_31 : decode cX6_isNumber 31 = .ok (.goto 4, 3) := by decide +kernel
theorem dX6_isNumber_34 : decode cX6_isNumber 34 = .ok (.iconst 0, 1) := by decide +kernel
theorem dX6_isNumber_35 : decode cX6_isNumber 35 = .ok (.ireturn, 1) := by decide +kernel
theorem dX6_fits_0 : decode cX6_fits 0 = .ok (.aload_n 0, 1) := by decide +kernel
theorem dX6_fits_1 : decode cX6_fits 1 = .ok (.getfield 7, 3) := by decide +kernel
theorem dX6_fits_4 : decode cX6_fits 4 = .ok (.bipush 24, 2) := by decide +kernel
theorem dX6_fits_6 : decode cX6_fits 6 = .ok (.if_icmp .lt 12, 3) := by decide +kernel
theorem dX6_fits_9 : decode cX6_fits 9 = .ok (.aload_n 0, 1) := by decide +kernel
theorem dX6_fits_10 : decode cX6_fits 10 = .ok (.getfield 7, 3) := by decide +kernel
theorem dX6_fits_13 : decode cX6_fits 13 = .ok (.bipush 28, 2) := by decide +kernel
theorem dX6_fits_15 : decode cX6_fits 15 = .ok (.if_icmp .le 12, 3) := by decide +kernel
theorem dX6_fits_18 : decode cX6_fits 18 = .ok (.aload_n 0, 1) := by decide +kernel
theorem dX6_fits_19 : decode cX6_fits 19 = .ok (.getfield 7, 3) := by decide +kernel
theorem dX6_fits_22 : decode cX6_fits 22 = .ok (.bipush 47, 2) := by decide +kernel
theorem dX6_fits_24 : decode cX6_fits 24 = .ok (.if_icmp .ne 15, 3) := by decide +kernel
theorem dX6_fits_27 : decode cX6_fits 27 = .ok (.aload_n 0, 1) := by decide +kernel
theorem dX6_fits_28 : decode cX6_fits 28 = .ok (.getfield 50, 3) := by decide +kernel
theorem dX6_fits_31 : decode cX6_fits 31 = .ok (.lconst 0, 1) := by decide +kernel
theorem dX6_fits_32 : decode cX6_fits 32 = .ok (.ldc2_w 54, 3) := by decide +kernel
theorem dX6_fits_35 : decode cX6_fits 35 = .ok (.invokestatic 15, 3) := by decide +kernel
theorem dX6_fits_38 : decode cX6_fits 38 = .ok (.ireturn, 1) := by decide +kernel
theorem dX6_fits_39 : decode cX6_fits 39 = .ok (.aload_n 0, 1) := by decide +kernel
theorem dX6_fits_40 : decode cX6_fits 40 = .ok (.getfield 7, 3) := by decide +kernel
theorem dX6_fits_43 : decode cX6_fits 43 = .ok (.bipush 33, 2) := by decide +kernel
theorem dX6_fits_45 : decode cX6_fits 45 = .ok (.if_icmp .ne 15, 3) := by decide +kernel
theorem dX6_fits_48 : decode cX6_fits 48 = .ok (.aload_n 0, 1) := by decide +kernel
theorem dX6_fits_49 : decode cX6_fits 49 = .ok (.getfield 50, 3) := by decide +kernel
theorem dX6_fits_52 : decode cX6_fits 52 = .ok (.lconst 0, 1) := by decide +kernel
theorem dX6_fits_53 : decode cX6_fits 53 = .ok (.ldc2_w 56, 3) := by decide +kernel
theorem dX6_fits_56 : decode cX6_fits 56 = .ok (.invokestatic 15, 3) := by decide +kernel
theorem dX6_fits_59 : decode cX6_fits 59 = .ok (.ireturn, 1) := by decide +kernel
theorem dX6_fits_60 : decode cX6_fits 60 = .ok (.aload_n 0, 1) := by decide +kernel
theorem dX6_fits_61 : decode cX6_fits 61 = .ok (.getfield 21, 3) := by decide +kernel
theorem dX6_fits_64 : decode cX6_fits 64 = .ok (.iconst 1, 1) := by decide +kernel
theorem dX6_fits_65 : decode cX6_fits 65 = .ok (.if_icmp .ne 17, 3) := by decide +kernel
theorem dX6_fits_68 : decode cX6_fits 68 = .ok (.aload_n 0, 1) := by decide +kernel
theorem dX6_fits_69 : decode cX6_fits 69 = .ok (.getfield 50, 3) := by decide +kernel
theorem dX6_fits_72 : decode cX6_fits 72 = .ok (.ldc2_w 58, 3) := by decide +kernel
theorem dX6_fits_75 : decode cX6_fits 75 = .ok (.ldc2_w 60, 3) := by decide +kernel
theorem dX6_fits_78 : decode cX6_fits 78 = .ok (.invokestatic 15, 3) := by decide +kernel
theorem dX6_fits_81 : decode cX6_fits 81 = .ok (.ireturn, 1) := by decide +kernel
theorem dX6_fits_82 : decode cX6_fits 82 = .ok (.aload_n 0, 1) := by decide +kernel
theorem dX6_fits_83 : decode cX6_fits 83 = .ok (.getfield 7, 3) := by decide +kernel
theorem dX6_fits_86 : decode cX6_fits 86 = .ok (.bipush 8, 2) := by decide +kernel
theorem dX6_fits_88 : decode cX6_fits 88 = .ok (.if_icmp .ne 12, 3) := by decide +kernel
theorem dX6_fits_91 : decode cX6_fits 91 = .ok (.aload_n 0, 1) := by decide +kernel
theorem dX6_fits_92 : decode cX6_fits 92 = .ok (.getfield 21, 3) := by decide +kernel
theorem dX6_fits_95 : decode cX6_fits 95 = .ok (.bipush 8, 2) := by decide +kernel
theorem dX6_fits_97 : decode cX6_fits 97 = .ok (.if_icmp .eq 19, 3) := by decide +kernel
theorem dX6_fits_100 : decode cX6_fits 100 = .ok (.aload_n 0, 1) := by decide +kernel
theorem dX6_fits_101 : decode cX6_fits 101 = .ok (.getfield 50, 3) := by decide +kernel
theorem dX6_fits_104 : decode cX6_fits 104 = .ok (.ldc2_w 64, 3) := by decide +kernel
theorem dX6_fits_107 : decode cX6_fits 107 = .ok (.ldc2_w 66, 3) := by decide +kernel
theorem dX6_fits_110 : decode cX6_fits 110 = .ok (.invokestatic 15, 3) := by decide +kernel
theorem dX6_fits_113 : decode cX6_fits 113 = .ok (.ifCond .eq 7, 3) := by decide +kernel
theorem dX6_fits_116 : decode cX6_fits 116 = .ok (.iconst 1, 1) := by decide +kernel
theorem dX6_fits_117 : decode cX6_fits 117 = .ok (.goto 4, 3) := by decide +kernel
theorem dX6_fits_120 : decode cX6_fits 120 = .ok (.iconst 0, 1) := by decide +kernel
theorem dX6_fits_121 : decode cX6_fits 121 = .ok (.ireturn, 1) := by decide +kernel
