set_option maxRecDepth 100000
theorem dX2_init_0 : decode cX2_init 0 = .ok (.aload_n 0, 1) := by decide +kernel
theorem dX2_init_1 : decode cX2_init 1 = .ok (.invokespecial 1, 3) := by decide +kernel
theorem dX2_init_4 : decode cX2_init 4 = .ok (.aload_n 0, 1) := by decide +kernel
theorem dX2_init_5 : decode cX2_init 5 = .ok (.new 7, 3) := by decide +kernel
theorem dX2_init_8 : decode cX2_init 8 = .ok (.dup, 1) := by decide +kernel
theorem dX2_init_9 : decode cX2_init 9 = .ok (.invokespecial 9, 3) := by decide +kernel
theorem dX2_init_12 : decode cX2_init 12 = .ok (.putfield 10, 3) := by decide +kernel
theorem dX2_init_15 : decode cX2_init 15 = .ok (.aload_n 0, 1) := by decide +kernel
theorem dX2_init_16 : decode cX2_init 16 = .ok (.new 7, 3) := by decide +kernel
theorem dX2_init_19 : decode cX2_init 19 = .ok (.dup, 1) := by decide +kernel
theorem dX2_init_20 : decode cX2_init 20 = .ok (.invokespecial 9, 3) := by decide +kernel
theorem dX2_init_23 : decode cX2_init 23 = .ok (.putfield 16, 3) := by decide +kernel
theorem dX2_init_26 : decode cX2_init 26 = .ok (.aload_n 0, 1) := by decide +kernel
theorem dX2_init_27 : decode cX2_init 27 = .ok (.new 19, 3) := by decide +kernel
theorem dX2_init_30 : decode cX2_init 30 = .ok (.dup, 1) := by decide +kernel
theorem dX2_init_31 : decode cX2_init 31 = .ok (.invokespecial 21, 3) := by decide +kernel
theorem dX2_init_34 : decode cX2_init 34 = .ok (.putfield 22, 3) := by decide +kernel
theorem dX2_init_37 : decode cX2_init 37 = .ok (.aload_n 0, 1) := by decide +kernel
theorem dX2_init_38 : decode cX2_init 38 = .ok (.bipush 16, 2) := by decide +kernel
theorem dX2_init_40 : decode cX2_init 40 = .ok (.newarray .long, 2) := by decide +kernel
theorem dX2_init_42 : decode cX2_init 42 = .ok (.putfield 26, 3) := by decide +kernel
theorem dX2_init_45 : decode cX2_init 45 = .ok (.aload_n 0, 1) := by decide +kernel
theorem dX2_init_46 : decode cX2_init 46 = .ok (.aload_n 1, 1) := by decide +kernel
theorem dX2_init_47 : decode cX2_init 47 = .ok (.putfield 30, 3) := by decide +kernel
theorem dX2_init_50 : decode cX2_init 50 = .ok (.return_, 1) := by decide +kernel
theorem dX2_load_0 : decode cX2_load 0 = .ok (.iconst 0, 1) := by decide +kernel
theorem dX2_load_1 : decode cX2_load 1 = .ok (.istore_n 3, 1) := by decide +kernel
theorem dX2_load_2 : decode cX2_load 2 = .ok (.iload_n 3, 1) := by decide +kernel
theorem dX2_load_3 : decode cX2_load 3 = .ok (.bipush 16, 2) := by decide +kernel
theorem dX2_load_5 : decode cX2_load 5 = .ok (.if_icmp .ge 16, 3) := by decide +kernel
theorem dX2_load_8 : decode cX2_load 8 = .ok (.aload_n 0, 1) := by decide +kernel
theorem dX2_load_9 : decode cX2_load 9 = .ok (.getfield 26, 3) := by decide +kernel
theorem dX2_load_12 : decode cX2_load 12 = .ok (.iload_n 3, 1) := by decide +kernel
theorem dX2_load_13 : decode cX2_load 13 = .ok (.lconst 0, 1) := by decide +kernel
theorem dX2_load_14 : decode cX2_load 14 = .ok (.lastore, 1) := by decide +kernel
theorem dX2_load_15 : decode cX2_load 15 = .ok (.iinc 3 1, 3) := by decide +kernel
theorem dX2_load_18 : decode cX2_load 18 = .ok (.goto (-16), 3) := by decide +kernel
theorem dX2_load_21 : decode cX2_load 21 = .ok (.aload_n 0, 1) := by decide +kernel
theorem dX2_load_22 : decode cX2_load 22 = .ok (.getfield 26, 3) := by decide +kernel
theorem dX2_load_25 : decode cX2_load 25 = .ok (.iconst 4, 1) := by decide +kernel
theorem dX2_load_26 : decode cX2_load 26 = .ok (.ldc2_w 36, 3) := by decide +kernel
theorem dX2_load_29 : decode cX2_load 29 = .ok (.lastore, 1) := by decide +kernel
theorem dX2_load_30 : decode cX2_load 30 = .ok (.aload_n 0, 1) := by decide +kernel
theorem dX2_load_31 : decode cX2_load 31 = .ok (.lload_n 1, 1) := by decide +kernel
theorem dX2_load_32 : decode cX2_load 32 = .ok (.putfield 38, 3) := by decide +kernel
theorem dX2_load_35 : decode cX2_load 35 = .ok (.aload_n 0, 1) := by decide +kernel
theorem dX2_load_36 : decode cX2_load 36 = .ok (.iconst 0, 1) := by decide +kernel
theorem dX2_load_37 : decode cX2_load 37 = .ok (.putfield 42, 3) := by decide +kernel
theorem dX2_load_40 : decode cX2_load 40 = .ok (.aload_n 0, 1) := by decide +kernel
theorem dX2_load_41 : decode cX2_load 41 = .ok (.iconst 0, 1) := by decide +kernel
theorem dX2_load_42 : decode cX2_load 42 = .ok (.putfield 46, 3) := by decide +kernel
theorem dX2_load_45 : decode cX2_load 45 = .ok (.aload_n 0, 1) := by decide +kernel
theorem dX2_load_46 : decode cX2_load 46 = .ok (.lconst 0, 1) := by decide +kernel
theorem dX2_load_47 : decode cX2_load 47 = .ok (.putfield 49, 3) := by decide +kernel
theorem dX2_load_50 : decode cX2_load 50 = .ok (.aload_n 0, 1) := by decide +kernel
theorem dX2_load_51 : decode cX2_load 51 = .ok (.iconst 0, 1) := by decide +kernel
theorem dX2_load_52 : decode cX2_load 52 = .ok (.putfield 52, 3) := by decide +kernel
theorem dX2_load_55 : decode cX2_load 55 = .ok (.aload_n 0, 1) := by decide +kernel
theorem dX2_load_56 : decode cX2_load 56 = .ok (.getfield 10, 3) := by decide +kernel
theorem dX2_load_59 : decode cX2_load 59 = .ok (.iconst 0, 1) := by decide +kernel
theorem dX2_load_60 : decode cX2_load 60 = .ok (.putfield 55, 3) := by decide +kernel
theorem dX2_load_63 : decode cX2_load 63 = .ok (.aload_n 0, 1) := by decide +kernel
theorem dX2_load_64 : decode cX2_load 64 = .ok (.getfield 16, 3) := by decide +kernel
theorem dX2_load_67 : decode cX2_load 67 = .ok (.iconst 0, 1) := by decide +kernel
theorem dX2_load_68 : decode cX2_load 68 = .ok (.putfield 55, 3) := by decide +kernel
theorem dX2_load_71 : decode cX2_load 71 = .ok (.return_, 1) := by decide +kernel
theorem dX2_step_0 : decode cX2_step 0 = .ok (.aload_n 0, 1) := by decide +kernel
theorem dX2_step_1 : decode cX2_step 1 = .ok (.iconst 0, 1) := by decide +kernel
theorem dX2_step_2 : decode cX2_step 2 = .ok (.putfield 46, 3) := by decide +kernel
theorem dX2_step_5 : decode cX2_step 5 = .ok (.aload_n 0, 1) := by decide +kernel
theorem dX2_step_6 : decode cX2_step 6 = .ok (.lconst 0, 1) := by decide +kernel
theorem dX2_step_7 : decode cX2_step 7 = .ok (.putfield 49, 3) := by decide +kernel
theorem dX2_step_10 : decode cX2_step 10 = .ok (.aload_n 0, 1) := by decide +kernel
theorem dX2_step_11 : decode cX2_step 11 = .ok (.getfield 42, 3) := by decide +kernel
theorem dX2_step_14 : decode cX2_step 14 = .ok (.istore_n 2, 1) := by decide +kernel
theorem dX2_step_15 : decode cX2_step 15 = .ok (.aload_n 0, 1) := by decide +kernel
theorem dX2_step_16 : decode cX2_step 16 = .ok (.aload_n 0, 1) := by decide +kernel
theorem dX2_step_17 : decode cX2_step 17 = .ok (.getfield 38, 3) := by decide +kernel
theorem dX2_step_20 : decode cX2_step 20 = .ok (.iload_n 1, 1) := by decide +kernel
theorem dX2_step_21 : decode cX2_step 21 = .ok (.i2l, 1) := by decide +kernel
theorem dX2_step_22 : decode cX2_step 22 = .ok (.ladd, 1) := by decide +kernel
theorem dX2_step_23 : decode cX2_step 23 = .ok (.putfield 68, 3) := by decide +kernel
theorem dX2_step_26 : decode cX2_step 26 = .ok (.aload_n 0, 1) := by decide +kernel
theorem dX2_step_27 : decode cX2_step 27 = .ok (.invokevirtual 146, 3) := by decide +kernel
theorem dX2_step_30 : decode cX2_step 30 = .ok (.aload_n 0, 1) := by decide +kernel
theorem dX2_step_31 : decode cX2_step 31 = .ok (.getfield 46, 3) := by decide +kernel
theorem dX2_step_34 : decode cX2_step 34 = .ok (.ifCond .eq 27, 3) := by decide +kernel
theorem dX2_step_37 : decode cX2_step 37 = .ok (.aload_n 0, 1) := by decide +kernel
theorem dX2_step_38 : decode cX2_step 38 = .ok (.getfield 46, 3) := by decide +kernel
theorem dX2_step_41 : decode cX2_step 41 = .ok (.iconst 1, 1) := by decide +kernel
theorem dX2_step_42 : decode cX2_step 42 = .ok (.if_icmp .eq 19, 3) := by decide +kernel
theorem dX2_step_45 : decode cX2_step 45 = .ok (.aload_n 0, 1) := by decide +kernel
theorem dX2_step_46 : decode cX2_step 46 = .ok (.getfield 46, 3) := by decide +kernel
theorem dX2_step_49 : decode cX2_step 49 = .ok (.bipush 6, 2) := by decide +kernel
theorem dX2_step_51 : decode cX2_step 51 = .ok (.if_icmp .eq 10, 3) := by decide +kernel
theorem dX2_step_54 : decode cX2_step 54 = .ok (.aload_n 0, 1) := by decide +kernel
theorem dX2_step_55 : decode cX2_step 55 = .ok (.iload_n 2, 1) := by decide +kernel
theorem dX2_step_56 : decode cX2_step 56 = .ok (.putfield 42, 3) := by decide +kernel
theorem dX2_step_59 : decode cX2_step 59 = .ok (.iconst 0, 1) := by decide +kernel
theorem dX2_step_60 : decode cX2_step 60 = .ok (.ireturn, 1) := by decide +kernel
theorem dX2_step_61 : decode cX2_step 61 = .ok (.aload_n 0, 1) := by decide +kernel
theorem dX2_step_62 : decode cX2_step 62 = .ok (.aload_n 0, 1) := by decide +kernel
theorem dX2_step_63 : decode cX2_step 63 = .ok (.getfield 68, 3) := by decide +kernel
theorem dX2_step_66 : decode cX2_step 66 = .ok (.putfield 38, 3) := by decide +kernel
theorem dX2_step_69 : decode cX2_step 69 = .ok (.aload_n 0, 1) := by decide +kernel
theorem dX2_step_70 : decode cX2_step 70 = .ok (.dup, 1) := by decide +kernel
theorem dX2_step_71 : decode cX2_step 71 = .ok (.getfield 52, 3) := by decide +kernel
theorem dX2_step_74 : decode cX2_step 74 = .ok (.iconst 1, 1) := by decide +kernel
theorem dX2_step_75 : decode cX2_step 75 = .ok (.iadd, 1) := by decide +kernel
theorem dX2_step_76 : decode cX2_step 76 = .ok (.putfield 52, 3) := by decide +kernel
theorem dX2_step_79 : decode cX2_step 79 = .ok (.iconst 1, 1) := by decide +kernel
theorem dX2_step_80 : decode cX2_step 80 = .ok (.ireturn, 1) := by decide +kernel
theorem dX2_perform_0 : decode cX2_perform 0 = .ok (.aload_n 0, 1) := by decide +kernel
theorem dX2_perform_1 : decode cX2_perform 1 = .ok (.getfield 22, 3) := by decide +kernel
theorem dX2_perform_4 : decode cX2_perform 4 = .ok (.getfield 149, 3) := by decide +kernel
theorem dX2_perform_7 : decode cX2_perform 7 = .ok (.istore_n 1, 1) := by decide +kernel
theorem dX2_perform_8 : decode cX2_perform 8 = .ok (.aload_n 0, 1) := by decide +kernel
theorem dX2_perform_9 : decode cX2_perform 9 = .ok (.getfield 22, 3) := by decide +kernel
theorem dX2_perform_12 : decode cX2_perform 12 = .ok (.getfield 152, 3) := by decide +kernel
theorem dX2_perform_15 : decode cX2_perform 15 = .ok (.istore_n 2, 1) := by decide +kernel
theorem dX2_perform_16 : decode cX2_perform 16 = .ok (.iload_n 1, 1) := by decide +kernel
theorem dX2_perform_17 : decode cX2_perform 17 = .ok (.bipush 8, 2) := by decide +kernel
theorem dX2_perform_19 : decode cX2_perform 19 = .ok (.if_icmp .ge 12, 3) := by decide +kernel
theorem dX2_perform_22 : decode cX2_perform 22 = .ok (.aload_n 0, 1) := by decide +kernel
theorem dX2_perform_23 : decode cX2_perform 23 = .ok (.iload_n 1, 1) := by decide +kernel
theorem dX2_perform_24 : decode cX2_perform 24 = .ok (.iload_n 2, 1) := by decide +kernel
theorem dX2_perform_25 : decode cX2_perform 25 = .ok (.invokevirtual 153, 3) := by decide +kernel
theorem dX2_perform_28 : decode cX2_perform 28 = .ok (.goto 82, 3) := by decide +kernel
theorem dX2_perform_31 : decode cX2_perform 31 = .ok (.iload_n 1, 1) := by decide +kernel
theorem dX2_perform_32 : decode cX2_perform 32 = .ok (.bipush 24, 2) := by decide +kernel
theorem dX2_perform_34 : decode cX2_perform 34 = .ok (.if_icmp .ge 12, 3) := by decide +kernel
theorem dX2_perform_37 : decode cX2_perform 37 = .ok (.aload_n 0, 1) := by decide +kernel
theorem dX2_perform_38 : decode cX2_perform 38 = .ok (.iload_n 1, 1) := by decide +kernel
theorem dX2_perform_39 : decode cX2_perform 39 = .ok (.iload_n 2, 1) := by decide +kernel
theorem dX2_perform_40 : decode cX2_perform 40 = .ok (.invokevirtual 157, 3) := by decide +kernel
theorem dX2_perform_43 : decode cX2_perform 43 = .ok (.goto 67, 3) := by decide +kernel
theorem dX2_perform_46 : decode cX2_perform 46 = .ok (.iload_n 1, 1) := by decide +kernel
theorem dX2_perform_47 : decode cX2_perform 47 = .ok (.bipush 29, 2) := by decide +kernel
theorem dX2_perform_49 : decode cX2_perform 49 = .ok (.if_icmp .ge 25, 3) := by decide +kernel
theorem dX2_perform_52 : decode cX2_perform 52 = .ok (.aload_n 0, 1) := by decide +kernel
theorem dX2_perform_53 : decode cX2_perform 53 = .ok (.iload_n 1, 1) := by decide +kernel
theorem dX2_perform_54 : decode cX2_perform 54 = .ok (.iload_n 2, 1) := by decide +kernel
theorem dX2_perform_55 : decode cX2_perform 55 = .ok (.aload_n 0, 1) := by decide +kernel
theorem dX2_perform_56 : decode cX2_perform 56 = .ok (.iconst 0, 1) := by decide +kernel
theorem dX2_perform_57 : decode cX2_perform 57 = .ok (.iload_n 2, 1) := by decide +kernel
theorem dX2_perform_58 : decode cX2_perform 58 = .ok (.invokevirtual 160, 3) := by decide +kernel
theorem dX2_perform_61 : decode cX2_perform 61 = .ok (.aload_n 0, 1) := by decide +kernel
theorem dX2_perform_62 : decode cX2_perform 62 = .ok (.iconst 1, 1) := by decide +kernel
theorem dX2_perform_63 : decode cX2_perform 63 = .ok (.iconst 1, 1) := by decide +kernel
theorem dX2_perform_64 : decode cX2_perform 64 = .ok (.invokevirtual 160, 3) := by decide +kernel
theorem dX2_perform_67 : decode cX2_perform 67 = .ok (.l2i, 1) := by decide +kernel
theorem dX2_perform_68 : decode cX2_perform 68 = .ok (.invokevirtual 164, 3) := by decide +kernel
theorem dX2_perform_71 : decode cX2_perform 71 = .ok (.goto 39, 3) := by decide +kernel
theorem dX2_perform_74 : decode cX2_perform 74 = .ok (.iload_n 1, 1) := by decide +kernel
theorem dX2_perform_75 : decode cX2_perform 75 = .ok (.bipush 37, 2) := by decide +kernel
theorem dX2_perform_77 : decode cX2_perform 77 = .ok (.if_icmp .ge 12, 3) := by decide +kernel
theorem dX2_perform_80 : decode cX2_perform 80 = .ok (.aload_n 0, 1) := by decide +kernel
theorem dX2_perform_81 : decode cX2_perform 81 = .ok (.iload_n 1, 1) := by decide +kernel
theorem dX2_perform_82 : decode cX2_perform 82 = .ok (.iload_n 2, 1) := by decide +kernel
theorem dX2_perform_83 : decode cX2_perform 83 = .ok (.invokevirtual 168, 3) := by decide +kernel
theorem dX2_perform_86 : decode cX2_perform 86 = .ok (.goto 24, 3) := by decide +kernel
theorem dX2_perform_89 : decode cX2_perform 89 = .ok (.iload_n 1, 1) := by decide +kernel
theorem dX2_perform_90 : decode cX2_perform 90 = .ok (.bipush 50, 2) := by decide +kernel
theorem dX2_perform_92 : decode cX2_perform 92 = .ok (.if_icmp .ge 12, 3) := by decide +kernel
theorem dX2_perform_95 : decode cX2_perform 95 = .ok (.aload_n 0, 1) := by decide +kernel
theorem dX2_perform_96 : decode cX2_perform 96 = .ok (.iload_n 1, 1) := by decide +kernel
theorem dX2_perform_97 : decode cX2_perform 97 = .ok (.iload_n 2, 1) := by decide +kernel
theorem dX2_perform_98 : decode cX2_perform 98 = .ok (.invokevirtual 171, 3) := by decide +kernel
theorem dX2_perform_101 : decode cX2_perform 101 = .ok (.goto 9, 3) := by decide +kernel
theorem dX2_perform_104 : decode cX2_perform 104 = .ok (.aload_n 0, 1) := by decide +kernel
theorem dX2_perform_105 : decode cX2_perform 105 = .ok (.iload_n 1, 1) := by decide +kernel
theorem dX2_perform_106 : decode cX2_perform 106 = .ok (.iload_n 2, 1) := by decide +kernel
theorem dX2_perform_107 : decode cX2_perform 107 = .ok (.invokevirtual 174, 3) := by decide +kernel
theorem dX2_perform_110 : decode cX2_perform 110 = .ok (.return_, 1) := by decide +kernel
theorem dX2_arithmetic_0 : decode cX2_arithmetic 0 = .ok (.aload_n 0, 1) := by decide +kernel
theorem dX2_arithmetic_1 : decode cX2_arithmetic 1 = .ok (.iconst 0, 1) := by decide +kernel
theorem dX2_arithmetic_2 : decode cX2_arithmetic 2 = .ok (.iload_n 2, 1) := by decide +kernel
theorem dX2_arithmetic_3 : decode cX2_arithmetic 3 = .ok (.invokevirtual 160, 3) := by decide +kernel
theorem dX2_arithmetic_6 : decode cX2_arithmetic 6 = .ok (.lstore_n 3, 1) := by decide +kernel
theorem dX2_arithmetic_7 : decode cX2_arithmetic 7 = .ok (.aload_n 0, 1) := by decide +kernel
theorem dX2_arithmetic_8 : decode cX2_arithmetic 8 = .ok (.iconst 1, 1) := by decide +kernel
theorem dX2_arithmetic_9 : decode cX2_arithmetic 9 = .ok (.iload_n 2, 1) := by decide +kernel
theorem dX2_arithmetic_10 : decode cX2_arithmetic 10 = .ok (.invokevirtual 160, 3) := by decide +kernel
theorem dX2_arithmetic_13 : decode cX2_arithmetic 13 = .ok (.lstore 5, 2) := by decide +kernel
theorem dX2_arithmetic_15 : decode cX2_arithmetic 15 = .ok (.aload_n 0, 1) := by decide +kernel
theorem dX2_arithmetic_16 : decode cX2_arithmetic 16 = .ok (.iconst 1, 1) := by decide +kernel
theorem dX2_arithmetic_17 : decode cX2_arithmetic 17 = .ok (.invokevirtual 142, 3) := by decide +kernel
theorem dX2_arithmetic_20 : decode cX2_arithmetic 20 = .ok (.istore 7, 2) := by decide +kernel
theorem dX2_arithmetic_22 : decode cX2_arithmetic 22 = .ok (.iload_n 1, 1) := by decide +kernel
theorem dX2_arithmetic_23 : decode cX2_arithmetic 23 = .ok (.ifCond .eq 8, 3) := by decide +kernel
theorem dX2_arithmetic_26 : decode cX2_arithmetic 26 = .ok (.iload_n 1, 1) := by decide +kernel
theorem dX2_arithmetic_27 : decode cX2_arithmetic 27 = .ok (.iconst 2, 1) := by decide +kernel
theorem dX2_arithmetic_28 : decode cX2_arithmetic 28 = .ok (.if_icmp .ne 29, 3) := by decide +kernel
theorem dX2_arithmetic_31 : decode cX2_arithmetic 31 = .ok (.aload_n 0, 1) := by decide +kernel
theorem dX2_arithmetic_32 : decode cX2_arithmetic 32 = .ok (.lload_n 3, 1) := by decide +kernel
theorem dX2_arithmetic_33 : decode cX2_arithmetic 33 = .ok (.lload 5, 2) := by decide +kernel
theorem dX2_arithmetic_35 : decode cX2_arithmetic 35 = .ok (.iload_n 1, 1) := by decide +kernel
theorem dX2_arithmetic_36 : decode cX2_arithmetic 36 = .ok (.iconst 2, 1) := by decide +kernel
theorem dX2_arithmetic_37 : decode cX2_arithmetic 37 = .ok (.if_icmp .ne 12, 3) := by decide +kernel
theorem dX2_arithmetic_40 : decode cX2_arithmetic 40 = .ok (.iload 7, 2) := by decide +kernel
theorem dX2_arithmetic_42 : decode cX2_arithmetic 42 = .ok (.ifCond .eq 7, 3) := by decide +kernel
theorem dX2_arithmetic_45 : decode cX2_arithmetic 45 = .ok (.iconst 1, 1) := by decide +kernel
theorem dX2_arithmetic_46 : decode cX2_arithmetic 46 = .ok (.goto 4, 3) := by decide +kernel
theorem dX2_arithmetic_49 : decode cX2_arithmetic 49 = .ok (.iconst 0, 1) := by decide +kernel
theorem dX2_arithmetic_50 : decode cX2_arithmetic 50 = .ok (.iload_n 2, 1) := by decide +kernel
theorem dX2_arithmetic_51 : decode cX2_arithmetic 51 = .ok (.invokevirtual 177, 3) := by decide +kernel
theorem dX2_arithmetic_54 : decode cX2_arithmetic 54 = .ok (.goto 54, 3) := by decide +kernel
theorem dX2_arithmetic_57 : decode cX2_arithmetic 57 = .ok (.iload_n 1, 1) := by decide +kernel
theorem dX2_arithmetic_58 : decode cX2_arithmetic 58 = .ok (.iconst 3, 1) := by decide +kernel
theorem dX2_arithmetic_59 : decode cX2_arithmetic 59 = .ok (.if_icmp .eq 14, 3) := by decide +kernel
theorem dX2_arithmetic_62 : decode cX2_arithmetic 62 = .ok (.iload_n 1, 1) := by decide +kernel
theorem dX2_arithmetic_63 : decode cX2_arithmetic 63 = .ok (.iconst 5, 1) := by decide +kernel
theorem dX2_arithmetic_64 : decode cX2_arithmetic 64 = .ok (.if_icmp .eq 9, 3) := by decide +kernel
theorem dX2_arithmetic_67 : decode cX2_arithmetic 67 = .ok (.iload_n 1, 1) := by decide +kernel
theorem dX2_arithmetic_68 : decode cX2_arithmetic 68 = .ok (.bipush 7, 2) := by decide +kernel
theorem dX2_arithmetic_70 : decode cX2_arithmetic 70 = .ok (.if_icmp .ne 29, 3) := by decide +kernel
theorem dX2_arithmetic_73 : decode cX2_arithmetic 73 = .ok (.aload_n 0, 1) := by decide +kernel
theorem dX2_arithmetic_74 : decode cX2_arithmetic 74 = .ok (.lload_n 3, 1) := by decide +kernel
theorem dX2_arithmetic_75 : decode cX2_arithmetic 75 = .ok (.lload 5, 2) := by decide +kernel
theorem dX2_arithmetic_77 : decode cX2_arithmetic 77 = .ok (.iload_n 1, 1) := by decide +kernel
theorem dX2_arithmetic_78 : decode cX2_arithmetic 78 = .ok (.iconst 3, 1) := by decide +kernel
theorem dX2_arithmetic_79 : decode cX2_arithmetic 79 = .ok (.if_icmp .ne 12, 3) := by decide +kernel
theorem dX2_arithmetic_82 : decode cX2_arithmetic 82 = .ok (.iload 7, 2) := by decide +kernel
theorem dX2_arithmetic_84 : decode cX2_arithmetic 84 = .ok (.ifCond .eq 7, 3) := by decide +kernel
theorem dX2_arithmetic_87 : decode cX2_arithmetic 87 = .ok (.iconst 1, 1) := by decide +kernel
theorem dX2_arithmetic_88 : decode cX2_arithmetic 88 = .ok (.goto 4, 3) := by decide +kernel
theorem dX2_arithmetic_91 : decode cX2_arithmetic 91 = .ok (.iconst 0, 1) := by decide +kernel
theorem dX2_arithmetic_92 : decode cX2_arithmetic 92 = .ok (.iload_n 2, 1) := by decide +kernel
theorem dX2_arithmetic_93 : decode cX2_arithmetic 93 = .ok (.invokevirtual 181, 3) := by decide +kernel
theorem dX2_arithmetic_96 : decode cX2_arithmetic 96 = .ok (.goto 12, 3) := by decide +kernel
theorem dX2_arithmetic_99 : decode cX2_arithmetic 99 = .ok (.aload_n 0, 1) := by decide +kernel
theorem dX2_arithmetic_100 : decode cX2_arithmetic 100 = .ok (.iload_n 1, 1) := by decide +kernel
theorem dX2_arithmetic_101 : decode cX2_arithmetic 101 = .ok (.lload_n 3, 1) := by decide +kernel
theorem dX2_arithmetic_102 : decode cX2_arithmetic 102 = .ok (.lload 5, 2) := by decide +kernel
theorem dX2_arithmetic_104 : decode cX2_arithmetic 104 = .ok (.iload_n 2, 1) := by decide +kernel
theorem dX2_arithmetic_105 : decode cX2_arithmetic 105 = .ok (.invokevirtual 184, 3) := by decide +kernel
theorem dX2_arithmetic_108 : decode cX2_arithmetic 108 = .ok (.lstore 8, 2) := by decide +kernel
theorem dX2_arithmetic_110 : decode cX2_arithmetic 110 = .ok (.iload_n 1, 1) := by decide +kernel
theorem dX2_arithmetic_111 : decode cX2_arithmetic 111 = .ok (.bipush 7, 2) := by decide +kernel
theorem dX2_arithmetic_113 : decode cX2_arithmetic 113 = .ok (.if_icmp .eq 11, 3) := by decide +kernel
theorem dX2_arithmetic_116 : decode cX2_arithmetic 116 = .ok (.aload_n 0, 1) := by decide +kernel
theorem dX2_arithmetic_117 : decode cX2_arithmetic 117 = .ok (.iconst 0, 1) := by decide +kernel
theorem dX2_arithmetic_118 : decode cX2_arithmetic 118 = .ok (.iload_n 2, 1) := by decide +kernel
theorem dX2_arithmetic_119 : decode cX2_arithmetic 119 = .ok (.lload 8, 2) := by decide +kernel
theorem dX2_arithmetic_121 : decode cX2_arithmetic 121 = .ok (.invokevirtual 188, 3) := by decide +kernel
theorem dX2_arithmetic_124 : decode cX2_arithmetic 124 = .ok (.return_, 1) := by decide +kernel
theorem dX2_get_0 : decode cX2_get 0 = .ok (.aload_n 0, 1) := by decide +kernel
theorem dX2_get_1 : decode cX2_get 1 = .ok (.getfield 22, 3) := by decide +kernel
theorem dX2_get_4 : decode cX2_get 4 = .ok (.getfield 93, 3) := by decide +kernel
theorem dX2_get_7 : decode cX2_get 7 = .ok (.iload_n 1, 1) := by decide +kernel
theorem dX2_get_8 : decode cX2_get 8 = .ok (.iaload, 1) := by decide +kernel
theorem dX2_get_9 : decode cX2_get 9 = .ok (.iconst 2, 1) := by decide +kernel
theorem dX2_get_10 : decode cX2_get 10 = .ok (.if_icmp .ne 13, 3) := by decide +kernel
theorem dX2_get_13 : decode cX2_get 13 = .ok (.aload_n 0, 1) := by decide +kernel
theorem dX2_get_14 : decode cX2_get 14 = .ok (.aload_n 0, 1) := by decide +kernel
theorem dX2_get_15 : decode cX2_get 15 = .ok (.invokevirtual 97, 3) := by decide +kernel
theorem dX2_get_18 : decode cX2_get 18 = .ok (.iload_n 2, 1) := by decide +kernel
theorem dX2_get_19 : decode cX2_get 19 = .ok (.invokevirtual 101, 3) := by decide +kernel
theorem dX2_get_22 : decode cX2_get 22 = .ok (.lreturn, 1) := by decide +kernel
theorem dX2_get_23 : decode cX2_get 23 = .ok (.aload_n 0, 1) := by decide +kernel
theorem dX2_get_24 : decode cX2_get 24 = .ok (.getfield 22, 3) := by decide +kernel
theorem dX2_get_27 : decode cX2_get 27 = .ok (.getfield 93, 3) := by decide +kernel
theorem dX2_get_30 : decode cX2_get 30 = .ok (.iload_n 1, 1) := by decide +kernel
theorem dX2_get_31 : decode cX2_get 31 = .ok (.iaload, 1) := by decide +kernel
theorem dX2_get_32 : decode cX2_get 32 = .ok (.iconst 1, 1) := by decide +kernel
theorem dX2_get_33 : decode cX2_get 33 = .ok (.if_icmp .ne 20, 3) := by decide +kernel
theorem dX2_get_36 : decode cX2_get 36 = .ok (.aload_n 0, 1) := by decide +kernel
theorem dX2_get_37 : decode cX2_get 37 = .ok (.getfield 26, 3) := by decide +kernel
theorem dX2_get_40 : decode cX2_get 40 = .ok (.aload_n 0, 1) := by decide +kernel
theorem dX2_get_41 : decode cX2_get 41 = .ok (.getfield 22, 3) := by decide +kernel
theorem dX2_get_44 : decode cX2_get 44 = .ok (.getfield 104, 3) := by decide +kernel
theorem dX2_get_47 : decode cX2_get 47 = .ok (.iload_n 1, 1) := by decide +kernel
theorem dX2_get_48 : decode cX2_get 48 = .ok (.iaload, 1) := by decide +kernel
theorem dX2_get_49 : decode cX2_get 49 = .ok (.laload, 1) := by decide +kernel
theorem dX2_get_50 : decode cX2_get 50 = .ok (.goto 10, 3) := by decide +kernel
theorem dX2_get_53 : decode cX2_get 53 = .ok (.aload_n 0, 1) := by decide +kernel
theorem dX2_get_54 : decode cX2_get 54 = .ok (.getfield 22, 3) := by decide +kernel
theorem dX2_get_57 : decode cX2_get 57 = .ok (.getfield 107, 3) := by decide +kernel
theorem dX2_get_60 : decode cX2_get 60 = .ok (.iload_n 2, 1) := by decide +kernel
theorem dX2_get_61 : decode cX2_get 61 = .ok (.invokestatic 110, 3) := by decide +kernel
theorem dX2_get_64 : decode cX2_get 64 = .ok (.lreturn, 1) := by decide +kernel
theorem dX2_address_0 : decode cX2_address 0 = .ok (.aload_n 0, 1) := by decide +kernel
theorem dX2_address_1 : decode cX2_address 1 = .ok (.getfield 22, 3) := by decide +kernel
theorem dX2_address_4 : decode cX2_address 4 = .ok (.getfield 62, 3) := by decide +kernel
theorem dX2_address_7 : decode cX2_address 7 = .ok (.i2l, 1) := by decide +kernel
theorem dX2_address_8 : decode cX2_address 8 = .ok (.lstore_n 1, 1) := by decide +kernel
theorem dX2_address_9 : decode cX2_address 9 = .ok (.aload_n 0, 1) := by decide +kernel
theorem dX2_address_10 : decode cX2_address 10 = .ok (.getfield 22, 3) := by decide +kernel
theorem dX2_address_13 : decode cX2_address 13 = .ok (.getfield 65, 3) := by decide +kernel
theorem dX2_address_16 : decode cX2_address 16 = .ok (.ifCond .lt 37, 3) := by decide +kernel
theorem dX2_address_19 : decode cX2_address 19 = .ok (.lload_n 1, 1) := by decide +kernel
theorem dX2_address_20 : decode cX2_address 20 = .ok (.aload_n 0, 1) := by decide +kernel
theorem dX2_address_21 : decode cX2_address 21 = .ok (.getfield 22, 3) := by decide +kernel
theorem dX2_address_24 : decode cX2_address 24 = .ok (.getfield 65, 3) := by decide +kernel
theorem dX2_address_27 : decode cX2_address 27 = .ok (.bipush 16, 2) := by decide +kernel
theorem dX2_address_29 : decode cX2_address 29 = .ok (.if_icmp .ne 10, 3) := by decide +kernel
theorem dX2_address_32 : decode cX2_address 32 = .ok (.aload_n 0, 1) := by decide +kernel
theorem dX2_address_33 : decode cX2_address 33 = .ok (.getfield 68, 3) := by decide +kernel
theorem dX2_address_36 : decode cX2_address 36 = .ok (.goto 15, 3) := by decide +kernel
theorem dX2_address_39 : decode cX2_address 39 = .ok (.aload_n 0, 1) := by decide +kernel
theorem dX2_address_40 : decode cX2_address 40 = .ok (.getfield 26, 3) := by decide +kernel
theorem dX2_address_43 : decode cX2_address 43 = .ok (.aload_n 0, 1) := by decide +kernel
theorem dX2_address_44 : decode cX2_address 44 = .ok (.getfield 22, 3) := by decide +kernel
theorem dX2_address_47 : decode cX2_address 47 = .ok (.getfield 65, 3) := by decide +kernel
theorem dX2_address_50 : decode cX2_address 50 = .ok (.laload, 1) := by decide +kernel
theorem dX2_address_51 : decode cX2_address 51 = .ok (.ladd, 1) := by decide +kernel
theorem dX2_address_52 : decode cX2_address 52 = .ok (.lstore_n 1, 1) := by decide +kernel
theorem dX2_address_53 : decode cX2_address 53 = .ok (.aload_n 0, 1) := by decide +kernel
theorem dX2_address_54 : decode cX2_address 54 = .ok (.getfield 22, 3) := by decide +kernel
theorem dX2_address_57 : decode cX2_address 57 = .ok (.getfield 71, 3) := by decide +kernel
theorem dX2_address_60 : decode cX2_address 60 = .ok (.ifCond .ge 7, 3) := by decide +kernel
theorem dX2_address_63 : decode cX2_address 63 = .ok (.lload_n 1, 1) := by decide +kernel
theorem dX2_address_64 : decode cX2_address 64 = .ok (.goto 26, 3) := by decide +kernel
theorem dX2_address_67 : decode cX2_address 67 = .ok (.lload_n 1, 1) := by decide +kernel
theorem dX2_address_68 : decode cX2_address 68 = .ok (.aload_n 0, 1) := by decide +kernel
theorem dX2_address_69 : decode cX2_address 69 = .ok (.getfield 26, 3) := by decide +kernel
theorem dX2_address_72 : decode cX2_address 72 = .ok (.aload_n 0, 1) := by decide +kernel
theorem dX2_address_73 : decode cX2_address 73 = .ok (.getfield 22, 3) := by decide +kernel
theorem dX2_address_76 : decode cX2_address 76 = .ok (.getfield 71, 3) := by decide +kernel
theorem dX2_address_79 : decode cX2_address 79 = .ok (.laload, 1) := by decide +kernel
theorem dX2_address_80 : decode cX2_address 80 = .ok (.aload_n 0, 1) := by decide +kernel
theorem dX2_address_81 : decode cX2_address 81 = .ok (.getfield 22, 3) := by decide +kernel
theorem dX2_address_84 : decode cX2_address 84 = .ok (.getfield 74, 3) := by decide +kernel
theorem dX2_address_87 : decode cX2_address 87 = .ok (.i2l, 1) := by decide +kernel
theorem dX2_address_88 : decode cX2_address 88 = .ok (.lmul, 1) := by decide +kernel
theorem dX2_address_89 : decode cX2_address 89 = .ok (.ladd, 1) := by decide +kernel
theorem dX2_address_90 : decode cX2_address 90 = .ok (.lreturn, 1) := by decide +kernel
theorem dX2_fetch_0 : decode cX2_fetch 0 = .ok (.aload_n 0, 1) := by decide +kernel
theorem dX2_fetch_1 : decode cX2_fetch 1 = .ok (.getfield 46, 3) := by decide +kernel
theorem dX2_fetch_4 : decode cX2_fetch 4 = .ok (.ifCond .ne 26, 3) := by decide +kernel
theorem dX2_fetch_7 : decode cX2_fetch 7 = .ok (.aload_n 0, 1) := by decide +kernel
theorem dX2_fetch_8 : decode cX2_fetch 8 = .ok (.getfield 30, 3) := by decide +kernel
theorem dX2_fetch_11 : decode cX2_fetch 11 = .ok (.lload_n 1, 1) := by decide +kernel
theorem dX2_fetch_12 : decode cX2_fetch 12 = .ok (.iload_n 3, 1) := by decide +kernel
theorem dX2_fetch_13 : decode cX2_fetch 13 = .ok (.iconst 0, 1) := by decide +kernel
theorem dX2_fetch_14 : decode cX2_fetch 14 = .ok (.invokevirtual 77, 3) := by decide +kernel
theorem dX2_fetch_17 : decode cX2_fetch 17 = .ok (.ifCond .eq 13, 3) := by decide +kernel
theorem dX2_fetch_20 : decode cX2_fetch 20 = .ok (.aload_n 0, 1) := by decide +kernel
theorem dX2_fetch_21 : decode cX2_fetch 21 = .ok (.getfield 30, 3) := by decide +kernel
theorem dX2_fetch_24 : decode cX2_fetch 24 = .ok (.lload_n 1, 1) := by decide +kernel
theorem dX2_fetch_25 : decode cX2_fetch 25 = .ok (.iload_n 3, 1) := by decide +kernel
theorem dX2_fetch_26 : decode cX2_fetch 26 = .ok (.invokevirtual 81, 3) := by decide +kernel
theorem dX2_fetch_29 : decode cX2_fetch 29 = .ok (.lreturn, 1) := by decide +kernel
theorem dX2_fetch_30 : decode cX2_fetch 30 = .ok (.aload_n 0, 1) := by decide +kernel
theorem dX2_fetch_31 : decode cX2_fetch 31 = .ok (.iconst 3, 1) := by decide +kernel
theorem dX2_fetch_32 : decode cX2_fetch 32 = .ok (.lload_n 1, 1) := by decide +kernel
theorem dX2_fetch_33 : decode cX2_fetch 33 = .ok (.invokevirtual 85, 3) := by decide +kernel
theorem dX2_fetch_36 : decode cX2_fetch 36 = .ok (.lconst 0, 1) := by decide +kernel
theorem dX2_fetch_37 : decode cX2_fetch 37 = .ok (.lreturn, 1) := by decide +kernel
theorem dX2_fail_0 : decode cX2_fail 0 = .ok (.aload_n 0, 1) := by decide +kernel
theorem dX2_fail_1 : decode cX2_fail 1 = .ok (.getfield 46, 3) := by decide +kernel
theorem dX2_fail_4 : decode cX2_fail 4 = .ok (.ifCond .eq 4, 3) := by decide +kernel
theorem dX2_fail_7 : decode cX2_fail 7 = .ok (.return_, 1) := by decide +kernel
theorem dX2_fail_8 : decode cX2_fail 8 = .ok (.aload_n 0, 1) := by decide +kernel
theorem dX2_fail_9 : decode cX2_fail 9 = .ok (.iload_n 1, 1) := by decide +kernel
theorem dX2_fail_10 : decode cX2_fail 10 = .ok (.putfield 46, 3) := by decide +kernel
theorem dX2_fail_13 : decode cX2_fail 13 = .ok (.aload_n 0, 1) := by decide +kernel
theorem dX2_fail_14 : decode cX2_fail 14 = .ok (.lload_n 2, 1) := by decide +kernel
theorem dX2_fail_15 : decode cX2_fail 15 = .ok (.putfield 49, 3) := by decide +kernel
theorem dX2_fail_18 : decode cX2_fail 18 = .ok (.return_, 1) := by decide +kernel
theorem dX2_cut_0 : decode cX2_cut 0 = .ok (.iload_n 2, 1) := by decide +kernel
theorem dX2_cut_1 : decode cX2_cut 1 = .ok (.bipush 8, 2) := by decide +kernel
theorem dX2_cut_3 : decode cX2_cut 3 = .ok (.if_icmp .ne 7, 3) := by decide +kernel
theorem dX2_cut_6 : decode cX2_cut 6 = .ok (.lload_n 0, 1) := by decide +kernel
theorem dX2_cut_7 : decode cX2_cut 7 = .ok (.goto 21, 3) := by decide +kernel
theorem dX2_cut_10 : decode cX2_cut 10 = .ok (.iload_n 2, 1) := by decide +kernel
theorem dX2_cut_11 : decode cX2_cut 11 = .ok (.iconst 4, 1) := by decide +kernel
theorem dX2_cut_12 : decode cX2_cut 12 = .ok (.if_icmp .ne 11, 3) := by decide +kernel
theorem dX2_cut_15 : decode cX2_cut 15 = .ok (.lload_n 0, 1) := by decide +kernel
theorem dX2_cut_16 : decode cX2_cut 16 = .ok (.ldc2_w 58, 3) := by decide +kernel
theorem dX2_cut_19 : decode cX2_cut 19 = .ok (.land, 1) := by decide +kernel
theorem dX2_cut_20 : decode cX2_cut 20 = .ok (.goto 8, 3) := by decide +kernel
theorem dX2_cut_23 : decode cX2_cut 23 = .ok (.lload_n 0, 1) := by decide +kernel
theorem dX2_cut_24 : decode cX2_cut 24 = .ok (.ldc2_w 60, 3) := by decide +kernel
theorem dX2_cut_27 : decode cX2_cut 27 = .ok (.land, 1) := by decide +kernel
theorem dX2_cut_28 : decode cX2_cut 28 = .ok (.lreturn, 1) := by decide +kernel
theorem dX2_is_0 : decode cX2_is 0 = .ok (.aload_n 0, 1) := by decide +kernel
theorem dX2_is_1 : decode cX2_is 1 = .ok (.getfield 42, 3) := by decide +kernel
theorem dX2_is_4 : decode cX2_is 4 = .ok (.iload_n 1, 1) := by decide +kernel
theorem dX2_is_5 : decode cX2_is 5 = .ok (.iand, 1) := by decide +kernel
theorem dX2_is_6 : decode cX2_is 6 = .ok (.ifCond .eq 7, 3) := by decide +kernel
theorem dX2_is_9 : decode cX2_is 9 = .ok (.iconst 1, 1) := by decide +kernel
theorem dX2_is_10 : decode cX2_is 10 = .ok (.goto 4, 3) := by decide +kernel
theorem dX2_is_13 : decode cX2_is 13 = .ok (.iconst 0, 1) := by decide +kernel
theorem dX2_is_14 : decode cX2_is 14 = .ok (.ireturn, 1) := by decide +kernel
theorem dX2_sum_0 : decode cX2_sum 0 = .ok (.lload_n 1, 1) := by decide +kernel
theorem dX2_sum_1 : decode cX2_sum 1 = .ok (.lload_n 3, 1) := by decide +kernel
theorem dX2_sum_2 : decode cX2_sum 2 = .ok (.ladd, 1) := by decide +kernel
theorem dX2_sum_3 : decode cX2_sum 3 = .ok (.iload 5, 2) := by decide +kernel
theorem dX2_sum_5 : decode cX2_sum 5 = .ok (.ifCond .eq 7, 3) := by decide +kernel
theorem dX2_sum_8 : decode cX2_sum 8 = .ok (.lconst 1, 1) := by decide +kernel
theorem dX2_sum_9 : decode cX2_sum 9 = .ok (.goto 4, 3) := by decide +kernel
theorem dX2_sum_12 : decode cX2_sum 12 = .ok (.lconst 0, 1) := by decide +kernel
theorem dX2_sum_13 : decode cX2_sum 13 = .ok (.ladd, 1) := by decide +kernel
theorem dX2_sum_14 : decode cX2_sum 14 = .ok (.lstore 7, 2) := by decide +kernel
theorem dX2_sum_16 : decode cX2_sum 16 = .ok (.aload_n 0, 1) := by decide +kernel
theorem dX2_sum_17 : decode cX2_sum 17 = .ok (.iconst 1, 1) := by decide +kernel
theorem dX2_sum_18 : decode cX2_sum 18 = .ok (.lload_n 1, 1) := by decide +kernel
theorem dX2_sum_19 : decode cX2_sum 19 = .ok (.lload_n 3, 1) := by decide +kernel
theorem dX2_sum_20 : decode cX2_sum 20 = .ok (.land, 1) := by decide +kernel
theorem dX2_sum_21 : decode cX2_sum 21 = .ok (.lload_n 1, 1) := by decide +kernel
theorem dX2_sum_22 : decode cX2_sum 22 = .ok (.lload_n 3, 1) := by decide +kernel
theorem dX2_sum_23 : decode cX2_sum 23 = .ok (.lor, 1) := by decide +kernel
theorem dX2_sum_24 : decode cX2_sum 24 = .ok (.lload 7, 2) := by decide +kernel
theorem dX2_sum_26 : decode cX2_sum 26 = .ok (.ldc2_w 133, 3) := by decide +kernel
theorem dX2_sum_29 : decode cX2_sum 29 = .ok (.lxor, 1) := by decide +kernel
theorem dX2_sum_30 : decode cX2_sum 30 = .ok (.land, 1) := by decide +kernel
theorem dX2_sum_31 : decode cX2_sum 31 = .ok (.lor, 1) := by decide +kernel
theorem dX2_sum_32 : decode cX2_sum 32 = .ok (.bipush 8, 2) := by decide +kernel
theorem dX2_sum_34 : decode cX2_sum 34 = .ok (.iload 6, 2) := by decide +kernel
theorem dX2_sum_36 : decode cX2_sum 36 = .ok (.imul, 1) := by decide +kernel
theorem dX2_sum_37 : decode cX2_sum 37 = .ok (.iconst 1, 1) := by decide +kernel
theorem dX2_sum_38 : decode cX2_sum 38 = .ok (.isub, 1) := by decide +kernel
theorem dX2_sum_39 : decode cX2_sum 39 = .ok (.invokestatic 135, 3) := by decide +kernel
theorem dX2_sum_42 : decode cX2_sum 42 = .ok (.invokevirtual 125, 3) := by decide +kernel
theorem dX2_sum_45 : decode cX2_sum 45 = .ok (.aload_n 0, 1) := by decide +kernel
theorem dX2_sum_46 : decode cX2_sum 46 = .ok (.sipush 2048, 3) := by decide +kernel
theorem dX2_sum_49 : decode cX2_sum 49 = .ok (.lload_n 1, 1) := by decide +kernel
theorem dX2_sum_50 : decode cX2_sum 50 = .ok (.lload 7, 2) := by decide +kernel
theorem dX2_sum_52 : decode cX2_sum 52 = .ok (.lxor, 1) := by decide +kernel
theorem dX2_sum_53 : decode cX2_sum 53 = .ok (.lload_n 3, 1) := by decide +kernel
theorem dX2_sum_54 : decode cX2_sum 54 = .ok (.lload 7, 2) := by decide +kernel
theorem dX2_sum_56 : decode cX2_sum 56 = .ok (.lxor, 1) := by decide +kernel
theorem dX2_sum_57 : decode cX2_sum 57 = .ok (.land, 1) := by decide +kernel
theorem dX2_sum_58 : decode cX2_sum 58 = .ok (.bipush 8, 2) := by decide +kernel
theorem dX2_sum_60 : decode cX2_sum 60 = .ok (.iload 6, 2) := by decide +kernel
theorem dX2_sum_62 : decode cX2_sum 62 = .ok (.imul, 1) := by decide +kernel
theorem dX2_sum_63 : decode cX2_sum 63 = .ok (.iconst 1, 1) := by decide +kernel
theorem dX2_sum_64 : decode cX2_sum 64 = .ok (.isub, 1) := by decide +kernel
theorem dX2_sum_65 : decode cX2_sum 65 = .ok (.invokestatic 135, 3) := by decide +kernel
theorem dX2_sum_68 : decode cX2_sum 68 = .ok (.invokevirtual 125, 3) := by decide +kernel
theorem dX2_sum_71 : decode cX2_sum 71 = .ok (.aload_n 0, 1) := by decide +kernel
theorem dX2_sum_72 : decode cX2_sum 72 = .ok (.lload 7, 2) := by decide +kernel
theorem dX2_sum_74 : decode cX2_sum 74 = .ok (.iload 6, 2) := by decide +kernel
theorem dX2_sum_76 : decode cX2_sum 76 = .ok (.invokevirtual 138, 3) := by decide +kernel
theorem dX2_sum_79 : decode cX2_sum 79 = .ok (.lload 7, 2) := by decide +kernel
theorem dX2_sum_81 : decode cX2_sum 81 = .ok (.lreturn, 1) := by decide +kernel
theorem dX2_bit_0 : decode cX2_bit 0 = .ok (.lload_n 0, 1) := by decide +kernel
theorem dX2_bit_1 : decode cX2_bit 1 = .ok (.iload_n 2, 1) := by decide +kernel
theorem dX2_bit_2 : decode cX2_bit 2 = .ok (.lshr, 1) := by decide +kernel
theorem dX2_bit_3 : decode cX2_bit 3 = .ok (.lconst 1, 1) := by decide +kernel
theorem dX2_bit_4 : decode cX2_bit 4 = .ok (.land, 1) := by decide +kernel
theorem dX2_bit_5 : decode cX2_bit 5 = .ok (.lconst 1, 1) := by decide +kernel
theorem dX2_bit_6 : decode cX2_bit 6 = .ok (.lcmp, 1) := by decide +kernel
theorem dX2_bit_7 : decode cX2_bit 7 = .ok (.ifCond .ne 7, 3) := by decide +kernel
theorem dX2_bit_10 : decode cX2_bit 10 = .ok (.iconst 1, 1) := by decide +kernel
theorem dX2_bit_11 : decode cX2_bit 11 = .ok (.goto 4, 3) := by decide +kernel
theorem dX2_bit_14 : decode cX2_bit 14 = .ok (.iconst 0, 1) := by decide +kernel
theorem dX2_bit_15 : decode cX2_bit 15 = .ok (.ireturn, 1) := by decide +kernel
theorem dX2_mark_0 : decode cX2_mark 0 = .ok (.aload_n 0, 1) := by decide +kernel
theorem dX2_mark_1 : decode cX2_mark 1 = .ok (.iload_n 2, 1) := by decide +kernel
theorem dX2_mark_2 : decode cX2_mark 2 = .ok (.ifCond .eq 12, 3) := by decide +kernel
theorem dX2_mark_5 : decode cX2_mark 5 = .ok (.aload_n 0, 1) := by decide +kernel
theorem dX2_mark_6 : decode cX2_mark 6 = .ok (.getfield 42, 3) := by decide +kernel
theorem dX2_mark_9 : decode cX2_mark 9 = .ok (.iload_n 1, 1) := by decide +kernel
theorem dX2_mark_10 : decode cX2_mark 10 = .ok (.ior, 1) := by decide +kernel
theorem dX2_mark_11 : decode cX2_mark 11 = .ok (.goto 11, 3) := by decide +kernel
theorem dX2_mark_14 : decode cX2_mark 14 = .ok (.aload_n 0, 1) := by decide +kernel
theorem dX2_mark_15 : decode cX2_mark 15 = .ok (.getfield 42, 3) := by decide +kernel
theorem dX2_mark_18 : decode cX2_mark 18 = .ok (.iload_n 1, 1) := by decide +kernel
theorem dX2_mark_19 : decode cX2_mark 19 = .ok (.iconst (-1), 1) := by decide +kernel
theorem dX2_mark_20 : decode cX2_mark 20 = .ok (.ixor, 1) := by decide +kernel
theorem dX2_mark_21 : decode cX2_mark 21 = .ok (.iand, 1) := by decide +kernel
theorem dX2_mark_22 : decode cX2_mark 22 = .ok (.putfield 42, 3) := by decide +kernel
theorem dX2_mark_25 : decode cX2_mark 25 = .ok (.return_, 1) := by decide +kernel
theorem dX2_follow_0 : decode cX2_follow 0 = .ok (.aload_n 0, 1) := by decide +kernel
theorem dX2_follow_1 : decode cX2_follow 1 = .ok (.bipush 64, 2) := by decide +kernel
theorem dX2_follow_3 : decode cX2_follow 3 = .ok (.lload_n 1, 1) := by decide +kernel
theorem dX2_follow_4 : decode cX2_follow 4 = .ok (.iload_n 3, 1) := by decide +kernel
theorem dX2_follow_5 : decode cX2_follow 5 = .ok (.invokestatic 110, 3) := by decide +kernel
theorem dX2_follow_8 : decode cX2_follow 8 = .ok (.lconst 0, 1) := by decide +kernel
theorem dX2_follow_9 : decode cX2_follow 9 = .ok (.lcmp, 1) := by decide +kernel
theorem dX2_follow_10 : decode cX2_follow 10 = .ok (.ifCond .ne 7, 3) := by decide +kernel
theorem dX2_follow_13 : decode cX2_follow 13 = .ok (.iconst 1, 1) := by decide +kernel
theorem dX2_follow_14 : decode cX2_follow 14 = .ok (.goto 4, 3) := by decide +kernel
theorem dX2_follow_17 : decode cX2_follow 17 = .ok (.iconst 0, 1) := by decide +kernel
theorem dX2_follow_18 : decode cX2_follow 18 = .ok (.invokevirtual 125, 3) := by decide +kernel
theorem dX2_follow_21 : decode cX2_follow 21 = .ok (.aload_n 0, 1) := by decide +kernel
theorem dX2_follow_22 : decode cX2_follow 22 = .ok (.sipush 128, 3) := by decide +kernel
theorem dX2_follow_25 : decode cX2_follow 25 = .ok (.lload_n 1, 1) := by decide +kernel
theorem dX2_follow_26 : decode cX2_follow 26 = .ok (.iload_n 3, 1) := by decide +kernel
theorem dX2_follow_27 : decode cX2_follow 27 = .ok (.invokestatic 129, 3) := by decide +kernel
theorem dX2_follow_30 : decode cX2_follow 30 = .ok (.invokevirtual 125, 3) := by decide +kernel
theorem dX2_follow_33 : decode cX2_follow 33 = .ok (.lload_n 1, 1) := by decide +kernel
theorem dX2_follow_34 : decode cX2_follow 34 = .ok (.l2i, 1) := by decide +kernel
theorem dX2_follow_35 : decode cX2_follow 35 = .ok (.sipush 255, 3) := by decide +kernel
theorem dX2_follow_38 : decode cX2_follow 38 = .ok (.iand, 1) := by decide +kernel
theorem dX2_follow_39 : decode cX2_follow 39 = .ok (.istore 4, 2) := by decide +kernel
theorem dX2_follow_41 : decode cX2_follow 41 = .ok (.iload 4, 2) := by decide +kernel
theorem dX2_follow_43 : decode cX2_follow 43 = .ok (.iload 4, 2) := by decide +kernel
theorem dX2_follow_45 : decode cX2_follow 45 = .ok (.iconst 4, 1) := by decide +kernel
theorem dX2_follow_46 : decode cX2_follow 46 = .ok (.ishr, 1) := by decide +kernel
theorem dX2_follow_47 : decode cX2_follow 47 = .ok (.ixor, 1) := by decide +kernel
theorem dX2_follow_48 : decode cX2_follow 48 = .ok (.istore 4, 2) := by decide +kernel
theorem dX2_follow_50 : decode cX2_follow 50 = .ok (.iload 4, 2) := by decide +kernel
theorem dX2_follow_52 : decode cX2_follow 52 = .ok (.iload 4, 2) := by decide +kernel
theorem dX2_follow_54 : decode cX2_follow 54 = .ok (.iconst 2, 1) := by decide +kernel
theorem dX2_follow_55 : decode cX2_follow 55 = .ok (.ishr, 1) := by decide +kernel
theorem dX2_follow_56 : decode cX2_follow 56 = .ok (.ixor, 1) := by decide +kernel
theorem dX2_follow_57 : decode cX2_follow 57 = .ok (.istore 4, 2) := by decide +kernel
theorem dX2_follow_59 : decode cX2_follow 59 = .ok (.iload 4, 2) := by decide +kernel
theorem dX2_follow_61 : decode cX2_follow 61 = .ok (.iload 4, 2) := by decide +kernel
theorem dX2_follow_63 : decode cX2_follow 63 = .ok (.iconst 1, 1) := by decide +kernel
theorem dX2_follow_64 : decode cX2_follow 64 = .ok (.ishr, 1) := by decide +kernel
theorem dX2_follow_65 : decode cX2_follow 65 = .ok (.ixor, 1) := by decide +kernel
theorem dX2_follow_66 : decode cX2_follow 66 = .ok (.istore 4, 2) := by decide +kernel
theorem dX2_follow_68 : decode cX2_follow 68 = .ok (.aload_n 0, 1) := by decide +kernel
theorem dX2_follow_69 : decode cX2_follow 69 = .ok (.iconst 4, 1) := by decide +kernel
theorem dX2_follow_70 : decode cX2_follow 70 = .ok (.iload 4, 2) := by decide +kernel
theorem dX2_follow_72 : decode cX2_follow 72 = .ok (.iconst 1, 1) := by decide +kernel
theorem dX2_follow_73 : decode cX2_follow 73 = .ok (.iand, 1) := by decide +kernel
theorem dX2_follow_74 : decode cX2_follow 74 = .ok (.ifCond .ne 7, 3) := by decide +kernel
theorem dX2_follow_77 : decode cX2_follow 77 = .ok (.iconst 1, 1) := by decide +kernel
theorem dX2_follow_78 : decode cX2_follow 78 = .ok (.goto 4, 3) := by decide +kernel
theorem dX2_follow_81 : decode cX2_follow 81 = .ok (.iconst 0, 1) := by decide +kernel
theorem dX2_follow_82 : decode cX2_follow 82 = .ok (.invokevirtual 125, 3) := by decide +kernel
theorem dX2_follow_85 : decode cX2_follow 85 = .ok (.return_, 1) := by decide +kernel
theorem dX2_isNegative_0 : decode cX2_isNegative 0 = .ok (.lload_n 0, 1) := by decide +kernel
theorem dX2_isNegative_1 : decode cX2_isNegative 1 = .ok (.iload_n 2, 1) := by decide +kernel
theorem dX2_isNegative_2 : decode cX2_isNegative 2 = .ok (.invokestatic 122, 3) := by decide +kernel
theorem dX2_isNegative_5 : decode cX2_isNegative 5 = .ok (.lconst 0, 1) := by decide +kernel
theorem dX2_isNegative_6 : decode cX2_isNegative 6 = .ok (.lcmp, 1) := by decide +kernel
theorem dX2_isNegative_7 : decode cX2_isNegative 7 = .ok (.ifCond .ge 7, 3) := by decide +kernel
theorem dX2_isNegative_10 : decode cX2_isNegative 10 = .ok (.iconst 1, 1) := by decide +kernel
theorem dX2_isNegative_11 : decode cX2_isNegative 11 = .ok (.goto 4, 3) := by decide +kernel
theorem dX2_isNegative_14 : decode cX2_isNegative 14 = .ok (.iconst 0, 1) := by decide +kernel
theorem dX2_isNegative_15 : decode cX2_isNegative 15 = .ok (.ireturn, 1) := by decide +kernel
theorem dX2_signed_0 : decode cX2_signed 0 = .ok (.iload_n 2, 1) := by decide +kernel
theorem dX2_signed_1 : decode cX2_signed 1 = .ok (.bipush 8, 2) := by decide +kernel
theorem dX2_signed_3 : decode cX2_signed 3 = .ok (.if_icmp .ne 7, 3) := by decide +kernel
theorem dX2_signed_6 : decode cX2_signed 6 = .ok (.lload_n 0, 1) := by decide +kernel
theorem dX2_signed_7 : decode cX2_signed 7 = .ok (.goto 18, 3) := by decide +kernel
theorem dX2_signed_10 : decode cX2_signed 10 = .ok (.iload_n 2, 1) := by decide +kernel
theorem dX2_signed_11 : decode cX2_signed 11 = .ok (.iconst 4, 1) := by decide +kernel
theorem dX2_signed_12 : decode cX2_signed 12 = .ok (.if_icmp .ne 9, 3) := by decide +kernel
theorem dX2_signed_15 : decode cX2_signed 15 = .ok (.lload_n 0, 1) := by decide +kernel
theorem dX2_signed_16 : decode cX2_signed 16 = .ok (.l2i, 1) := by decide +kernel
theorem dX2_signed_17 : decode cX2_signed 17 = .ok (.i2l, 1) := by decide +kernel
theorem dX2_signed_18 : decode cX2_signed 18 = .ok (.goto 7, 3) := by decide +kernel
theorem dX2_signed_21 : decode cX2_signed 21 = .ok (.lload_n 0, 1) := by decide +kernel
theorem dX2_signed_22 : decode cX2_signed 22 = .ok (.l2i, 1) := by decide +kernel
theorem dX2_signed_23 : decode cX2_signed 23 = .ok (.i2b, 1) := by decide +kernel
theorem dX2_signed_24 : decode cX2_signed 24 = .ok (.i2l, 1) := by decide +kernel
theorem dX2_signed_25 : decode cX2_signed 25 = .ok (.lreturn, 1) := by decide +kernel
theorem dX2_difference_0 : decode cX2_difference 0 = .ok (.lload_n 1, 1) := by decide +kernel
theorem dX2_difference_1 : decode cX2_difference 1 = .ok (.lload_n 3, 1) := by decide +kernel
theorem dX2_difference_2 : decode cX2_difference 2 = .ok (.lsub, 1) := by decide +kernel
theorem dX2_difference_3 : decode cX2_difference 3 = .ok (.iload 5, 2) := by decide +kernel
theorem dX2_difference_5 : decode cX2_difference 5 = .ok (.ifCond .eq 7, 3) := by decide +kernel
theorem dX2_difference_8 : decode cX2_difference 8 = .ok (.lconst 1, 1) := by decide +kernel
theorem dX2_difference_9 : decode cX2_difference 9 = .ok (.goto 4, 3) := by decide +kernel
theorem dX2_difference_12 : decode cX2_difference 12 = .ok (.lconst 0, 1) := by decide +kernel
theorem dX2_difference_13 : decode cX2_difference 13 = .ok (.lsub, 1) := by decide +kernel
theorem dX2_difference_14 : decode cX2_difference 14 = .ok (.lstore 7, 2) := by decide +kernel
theorem dX2_difference_16 : decode cX2_difference 16 = .ok (.aload_n 0, 1) := by decide +kernel
theorem dX2_difference_17 : decode cX2_difference 17 = .ok (.iconst 1, 1) := by decide +kernel
theorem dX2_difference_18 : decode cX2_difference 18 = .ok (.lload_n 1, 1) := by decide +kernel
theorem dX2_difference_19 : decode cX2_difference 19 = .ok (.ldc2_w 133, 3) := by decide +kernel
theorem dX2_difference_22 : decode cX2_difference 22 = .ok (.lxor, 1) := by decide +kernel
theorem dX2_difference_23 : decode cX2_difference 23 = .ok (.lload_n 3, 1) := by decide +kernel
theorem dX2_difference_24 : decode cX2_difference 24 = .ok (.land, 1) := by decide +kernel
theorem dX2_difference_25 : decode cX2_difference 25 = .ok (.lload_n 1, 1) := by decide +kernel
theorem dX2_difference_26 : decode cX2_difference 26 = .ok (.ldc2_w 133, 3) := by decide +kernel
theorem dX2_difference_29 : decode cX2_difference 29 = .ok (.lxor, 1) := by decide +kernel
theorem dX2_difference_30 : decode cX2_difference 30 = .ok (.lload_n 3, 1) := by decide +kernel
theorem dX2_difference_31 : decode cX2_difference 31 = .ok (.lor, 1) := by decide +kernel
theorem dX2_difference_32 : decode cX2_difference 32 = .ok (.lload 7, 2) := by decide +kernel
theorem dX2_difference_34 : decode cX2_difference 34 = .ok (.land, 1) := by decide +kernel
theorem dX2_difference_35 : decode cX2_difference 35 = .ok (.lor, 1) := by decide +kernel
theorem dX2_difference_36 : decode cX2_difference 36 = .ok (.bipush 8, 2) := by decide +kernel
theorem dX2_difference_38 : decode cX2_difference 38 = .ok (.iload 6, 2) := by decide +kernel
theorem dX2_difference_40 : decode cX2_difference 40 = .ok (.imul, 1) := by decide +kernel
theorem dX2_difference_41 : decode cX2_difference 41 = .ok (.iconst 1, 1) := by decide +kernel
theorem dX2_difference_42 : decode cX2_difference 42 = .ok (.isub, 1) := by decide +kernel
theorem dX2_difference_43 : decode cX2_difference 43 = .ok (.invokestatic 135, 3) := by decide +kernel
theorem dX2_difference_46 : decode cX2_difference 46 = .ok (.invokevirtual 125, 3) := by decide +kernel
theorem dX2_difference_49 : decode cX2_difference 49 = .ok (.aload_n 0, 1) := by decide +kernel
theorem dX2_difference_50 : decode cX2_difference 50 = .ok (.sipush 2048, 3) := by decide +kernel
theorem dX2_difference_53 : decode cX2_difference 53 = .ok (.lload_n 1, 1) := by decide +kernel
theorem dX2_difference_54 : decode cX2_difference 54 = .ok (.lload_n 3, 1) := by decide +kernel
theorem dX2_difference_55 : decode cX2_difference 55 = .ok (.lxor, 1) := by decide +kernel
theorem dX2_difference_56 : decode cX2_difference 56 = .ok (.lload_n 1, 1) := by decide +kernel
theorem dX2_difference_57 : decode cX2_difference 57 = .ok (.lload 7, 2) := by decide +kernel
theorem dX2_difference_59 : decode cX2_difference 59 = .ok (.lxor, 1) := by decide +kernel
theorem dX2_difference_60 : decode cX2_difference 60 = .ok (.land, 1) := by decide +kernel
theorem dX2_difference_61 : decode cX2_difference 61 = .ok (.bipush 8, 2) := by decide +kernel
theorem dX2_difference_63 : decode cX2_difference 63 = .ok (.iload 6, 2) := by decide +kernel
theorem dX2_difference_65 : decode cX2_difference 65 = .ok (.imul, 1) := by decide +kernel
theorem dX2_difference_66 : decode cX2_difference 66 = .ok (.iconst 1, 1) := by decide +kernel
theorem dX2_difference_67 : decode cX2_difference 67 = .ok (.isub, 1) := by decide +kernel
theorem dX2_difference_68 : decode cX2_difference 68 = .ok (.invokestatic 135, 3) := by decide +kernel
theorem dX2_difference_71 : decode cX2_difference 71 = .ok (.invokevirtual 125, 3) := by decide +kernel
theorem dX2_difference_74 : decode cX2_difference 74 = .ok (.aload_n 0, 1) := by decide +kernel
theorem dX2_difference_75 : decode cX2_difference 75 = .ok (.lload 7, 2) := by decide +kernel
theorem dX2_difference_77 : decode cX2_difference 77 = .ok (.iload 6, 2) := by decide +kernel
theorem dX2_difference_79 : decode cX2_difference 79 = .ok (.invokevirtual 138, 3) := by decide +kernel
theorem dX2_difference_82 : decode cX2_difference 82 = .ok (.lload 7, 2) := by decide +kernel
theorem dX2_difference_84 : decode cX2_difference 84 = .ok (.lreturn, 1) := by decide +kernel
theorem dX2_logic_0 : decode cX2_logic 0 = .ok (.iload_n 1, 1) := by decide +kernel
theorem dX2_logic_1 : decode cX2_logic 1 = .ok (.iconst 1, 1) := by decide +kernel
theorem dX2_logic_2 : decode cX2_logic 2 = .ok (.if_icmp .ne 10, 3) := by decide +kernel
theorem dX2_logic_5 : decode cX2_logic 5 = .ok (.lload_n 2, 1) := by decide +kernel
theorem dX2_logic_6 : decode cX2_logic 6 = .ok (.lload 4, 2) := by decide +kernel
theorem dX2_logic_8 : decode cX2_logic 8 = .ok (.lor, 1) := by decide +kernel
theorem dX2_logic_9 : decode cX2_logic 9 = .ok (.goto 20, 3) := by decide +kernel
theorem dX2_logic_12 : decode cX2_logic 12 = .ok (.iload_n 1, 1) := by decide +kernel
theorem dX2_logic_13 : decode cX2_logic 13 = .ok (.bipush 6, 2) := by decide +kernel
theorem dX2_logic_15 : decode cX2_logic 15 = .ok (.if_icmp .ne 10, 3) := by decide +kernel
theorem dX2_logic_18 : decode cX2_logic 18 = .ok (.lload_n 2, 1) := by decide +kernel
theorem dX2_logic_19 : decode cX2_logic 19 = .ok (.lload 4, 2) := by decide +kernel
theorem dX2_logic_21 : decode cX2_logic 21 = .ok (.lxor, 1) := by decide +kernel
theorem dX2_logic_22 : decode cX2_logic 22 = .ok (.goto 7, 3) := by decide +kernel
theorem dX2_logic_25 : decode cX2_logic 25 = .ok (.lload_n 2, 1) := by decide +kernel
theorem dX2_logic_26 : decode cX2_logic 26 = .ok (.lload 4, 2) := by decide +kernel
theorem dX2_logic_28 : decode cX2_logic 28 = .ok (.land, 1) := by decide +kernel
theorem dX2_logic_29 : decode cX2_logic 29 = .ok (.lstore 7, 2) := by decide +kernel
theorem dX2_logic_31 : decode cX2_logic 31 = .ok (.aload_n 0, 1) := by decide +kernel
theorem dX2_logic_32 : decode cX2_logic 32 = .ok (.sipush 2049, 3) := by decide +kernel
theorem dX2_logic_35 : decode cX2_logic 35 = .ok (.iconst 0, 1) := by decide +kernel
theorem dX2_logic_36 : decode cX2_logic 36 = .ok (.invokevirtual 125, 3) := by decide +kernel
theorem dX2_logic_39 : decode cX2_logic 39 = .ok (.aload_n 0, 1) := by decide +kernel
theorem dX2_logic_40 : decode cX2_logic 40 = .ok (.lload 7, 2) := by decide +kernel
theorem dX2_logic_42 : decode cX2_logic 42 = .ok (.iload 6, 2) := by decide +kernel
theorem dX2_logic_44 : decode cX2_logic 44 = .ok (.invokevirtual 138, 3) := by decide +kernel
theorem dX2_logic_47 : decode cX2_logic 47 = .ok (.lload 7, 2) := by decide +kernel
theorem dX2_logic_49 : decode cX2_logic 49 = .ok (.lreturn, 1) := by decide +kernel
theorem dX2_put_0 : decode cX2_put 0 = .ok (.aload_n 0, 1) := by decide +kernel
theorem dX2_put_1 : decode cX2_put 1 = .ok (.getfield 22, 3) := by decide +kernel
theorem dX2_put_4 : decode cX2_put 4 = .ok (.getfield 93, 3) := by decide +kernel
theorem dX2_put_7 : decode cX2_put 7 = .ok (.iload_n 1, 1) := by decide +kernel
theorem dX2_put_8 : decode cX2_put 8 = .ok (.iaload, 1) := by decide +kernel
theorem dX2_put_9 : decode cX2_put 9 = .ok (.iconst 2, 1) := by decide +kernel
theorem dX2_put_10 : decode cX2_put 10 = .ok (.if_icmp .ne 16, 3) := by decide +kernel
theorem dX2_put_13 : decode cX2_put 13 = .ok (.aload_n 0, 1) := by decide +kernel
theorem dX2_put_14 : decode cX2_put 14 = .ok (.aload_n 0, 1) := by decide +kernel
theorem dX2_put_15 : decode cX2_put 15 = .ok (.invokevirtual 97, 3) := by decide +kernel
theorem dX2_put_18 : decode cX2_put 18 = .ok (.iload_n 2, 1) := by decide +kernel
theorem dX2_put_19 : decode cX2_put 19 = .ok (.lload_n 3, 1) := by decide +kernel
theorem dX2_put_20 : decode cX2_put 20 = .ok (.invokevirtual 115, 3) := by decide +kernel
theorem dX2_put_23 : decode cX2_put 23 = .ok (.goto 25, 3) := by decide +kernel
theorem dX2_put_26 : decode cX2_put 26 = .ok (.aload_n 0, 1) := by decide +kernel
theorem dX2_put_27 : decode cX2_put 27 = .ok (.getfield 46, 3) := by decide +kernel
theorem dX2_put_30 : decode cX2_put 30 = .ok (.ifCond .ne 18, 3) := by decide +kernel
theorem dX2_put_33 : decode cX2_put 33 = .ok (.aload_n 0, 1) := by decide +kernel
theorem dX2_put_34 : decode cX2_put 34 = .ok (.aload_n 0, 1) := by decide +kernel
theorem dX2_put_35 : decode cX2_put 35 = .ok (.getfield 22, 3) := by decide +kernel
theorem dX2_put_38 : decode cX2_put 38 = .ok (.getfield 104, 3) := by decide +kernel
theorem dX2_put_41 : decode cX2_put 41 = .ok (.iload_n 1, 1) := by decide +kernel
theorem dX2_put_42 : decode cX2_put 42 = .ok (.iaload, 1) := by decide +kernel
theorem dX2_put_43 : decode cX2_put 43 = .ok (.iload_n 2, 1) := by decide +kernel
theorem dX2_put_44 : decode cX2_put 44 = .ok (.lload_n 3, 1) := by decide +kernel
theorem dX2_put_45 : decode cX2_put 45 = .ok (.invokevirtual 118, 3) := by decide +kernel
theorem dX2_put_48 : decode cX2_put 48 = .ok (.return_, 1) := by decide +kernel
theorem dX2_store_0 : decode cX2_store 0 = .ok (.aload_n 0, 1) := by decide +kernel
theorem dX2_store_1 : decode cX2_store 1 = .ok (.getfield 46, 3) := by decide +kernel
theorem dX2_store_4 : decode cX2_store 4 = .ok (.ifCond .ne 30, 3) := by decide +kernel
theorem dX2_store_7 : decode cX2_store 7 = .ok (.aload_n 0, 1) := by decide +kernel
theorem dX2_store_8 : decode cX2_store 8 = .ok (.getfield 30, 3) := by decide +kernel
theorem dX2_store_11 : decode cX2_store 11 = .ok (.lload_n 1, 1) := by decide +kernel
theorem dX2_store_12 : decode cX2_store 12 = .ok (.iload_n 3, 1) := by decide +kernel
theorem dX2_store_13 : decode cX2_store 13 = .ok (.iconst 1, 1) := by decide +kernel
theorem dX2_store_14 : decode cX2_store 14 = .ok (.invokevirtual 77, 3) := by decide +kernel
theorem dX2_store_17 : decode cX2_store 17 = .ok (.ifCond .eq 17, 3) := by decide +kernel
theorem dX2_store_20 : decode cX2_store 20 = .ok (.aload_n 0, 1) := by decide +kernel
theorem dX2_store_21 : decode cX2_store 21 = .ok (.getfield 30, 3) := by decide +kernel
theorem dX2_store_24 : decode cX2_store 24 = .ok (.lload_n 1, 1) := by decide +kernel
theorem dX2_store_25 : decode cX2_store 25 = .ok (.iload_n 3, 1) := by decide +kernel
theorem dX2_store_26 : decode cX2_store 26 = .ok (.lload 4, 2) := by decide +kernel
theorem dX2_store_28 : decode cX2_store 28 = .ok (.invokevirtual 89, 3) := by decide +kernel
theorem dX2_store_31 : decode cX2_store 31 = .ok (.goto 9, 3) := by decide +kernel
theorem dX2_store_34 : decode cX2_store 34 = .ok (.aload_n 0, 1) := by decide +kernel
theorem dX2_store_35 : decode cX2_store 35 = .ok (.iconst 3, 1) := by decide +kernel
theorem dX2_store_36 : decode cX2_store 36 = .ok (.lload_n 1, 1) := by decide +kernel
theorem dX2_store_37 : decode cX2_store 37 = .ok (.invokevirtual 85, 3) := by decide +kernel
theorem dX2_store_40 : decode cX2_store 40 = .ok (.return_, 1) := by decide +kernel
theorem dX2_setRegister_0 : decode cX2_setRegister 0 = .ok (.aload_n 0, 1) := by decide +kernel
theorem dX2_setRegister_1 : decode cX2_setRegister 1 = .ok (.getfield 26, 3) := by decide +kernel
theorem dX2_setRegister_4 : decode cX2_setRegister 4 = .ok (.iload_n 1, 1) := by decide +kernel
theorem dX2_setRegister_5 : decode cX2_setRegister 5 = .ok (.iload_n 2, 1) := by decide +kernel
theorem dX2_setRegister_6 : decode cX2_setRegister 6 = .ok (.iconst 1, 1) := by decide +kernel
theorem dX2_setRegister_7 : decode cX2_setRegister 7 = .ok (.if_icmp .ne 22, 3) := by decide +kernel
theorem dX2_setRegister_10 : decode cX2_setRegister 10 = .ok (.aload_n 0, 1) := by decide +kernel
theorem dX2_setRegister_11 : decode cX2_setRegister 11 = .ok (.getfield 26, 3) := by decide +kernel
theorem dX2_setRegister_14 : decode cX2_setRegister 14 = .ok (.iload_n 1, 1) := by decide +kernel
theorem dX2_setRegister_15 : decode cX2_setRegister 15 = .ok (.laload, 1) := by decide +kernel
theorem dX2_setRegister_16 : decode cX2_setRegister 16 = .ok (.ldc2_w 113, 3) := by decide +kernel
theorem dX2_setRegister_19 : decode cX2_setRegister 19 = .ok (.land, 1) := by decide +kernel
theorem dX2_setRegister_20 : decode cX2_setRegister 20 = .ok (.lload_n 3, 1) := by decide +kernel
theorem dX2_setRegister_21 : decode cX2_setRegister 21 = .ok (.ldc2_w 60, 3) := by decide +kernel
theorem dX2_setRegister_24 : decode cX2_setRegister 24 = .ok (.land, 1) := by decide +kernel
theorem dX2_setRegister_25 : decode cX2_setRegister 25 = .ok (.lor, 1) := by decide +kernel
theorem dX2_setRegister_26 : decode cX2_setRegister 26 = .ok (.goto 8, 3) := by decide +kernel
theorem dX2_setRegister_29 : decode cX2_setRegister 29 = .ok (.lload_n 3, 1) := by decide +kernel
theorem dX2_setRegister_30 : decode cX2_setRegister 30 = .ok (.iload_n 2, 1) := by decide +kernel
theorem dX2_setRegister_31 : decode cX2_setRegister 31 = .ok (.invokestatic 110, 3) := by decide +kernel
theorem dX2_setRegister_34 : decode cX2_setRegister 34 = .ok (.lastore, 1) := by decide +kernel
theorem dX2_setRegister_35 : decode cX2_setRegister 35 = .ok (.return_, 1) := by decide +kernel
theorem dX2_middle_0 : decode cX2_middle 0 = .ok (.iload_n 1, 1) := by decide +kernel
theorem dX2_middle_1 : decode cX2_middle 1 = .ok (.tableswitch 364 8 22 #[75, 90, 112, 145, 158, 173, 192, 211, 230, 252, 252, 277, 277, 302, 302], 75) := by decide +kernel
theorem dX2_middle_76 : decode cX2_middle 76 = .ok (.aload_n 0, 1) := by decide +kernel
theorem dX2_middle_77 : decode cX2_middle 77 = .ok (.iconst 0, 1) := by decide +kernel
theorem dX2_middle_78 : decode cX2_middle 78 = .ok (.iload_n 2, 1) := by decide +kernel
theorem dX2_middle_79 : decode cX2_middle 79 = .ok (.aload_n 0, 1) := by decide +kernel
theorem dX2_middle_80 : decode cX2_middle 80 = .ok (.iconst 1, 1) := by decide +kernel
theorem dX2_middle_81 : decode cX2_middle 81 = .ok (.iload_n 2, 1) := by decide +kernel
theorem dX2_middle_82 : decode cX2_middle 82 = .ok (.invokevirtual 160, 3) := by decide +kernel
theorem dX2_middle_85 : decode cX2_middle 85 = .ok (.invokevirtual 188, 3) := by decide +kernel
theorem dX2_middle_88 : decode cX2_middle 88 = .ok (.goto 282, 3) := by decide +kernel
theorem dX2_middle_91 : decode cX2_middle 91 = .ok (.aload_n 0, 1) := by decide +kernel
theorem dX2_middle_92 : decode cX2_middle 92 = .ok (.iconst 4, 1) := by decide +kernel
theorem dX2_middle_93 : decode cX2_middle 93 = .ok (.aload_n 0, 1) := by decide +kernel
theorem dX2_middle_94 : decode cX2_middle 94 = .ok (.iconst 0, 1) := by decide +kernel
theorem dX2_middle_95 : decode cX2_middle 95 = .ok (.iload_n 2, 1) := by decide +kernel
theorem dX2_middle_96 : decode cX2_middle 96 = .ok (.invokevirtual 160, 3) := by decide +kernel
theorem dX2_middle_99 : decode cX2_middle 99 = .ok (.aload_n 0, 1) := by decide +kernel
theorem dX2_middle_100 : decode cX2_middle 100 = .ok (.iconst 1, 1) := by decide +kernel
theorem dX2_middle_101 : decode cX2_middle 101 = .ok (.iload_n 2, 1) := by decide +kernel
theorem dX2_middle_102 : decode cX2_middle 102 = .ok (.invokevirtual 160, 3) := by decide +kernel
theorem dX2_middle_105 : decode cX2_middle 105 = .ok (.iload_n 2, 1) := by decide +kernel
theorem dX2_middle_106 : decode cX2_middle 106 = .ok (.invokevirtual 184, 3) := by decide +kernel
theorem dX2_middle_109 : decode cX2_middle 109 = .ok (.pop2, 1) := by decide +kernel
theorem dX2_middle_110 : decode cX2_middle 110 = .ok (.goto 260, 3) := by decide +kernel
theorem dX2_middle_113 : decode cX2_middle 113 = .ok (.aload_n 0, 1) := by decide +kernel
theorem dX2_middle_114 : decode cX2_middle 114 = .ok (.iconst 0, 1) := by decide +kernel
theorem dX2_middle_115 : decode cX2_middle 115 = .ok (.iload_n 2, 1) := by decide +kernel
theorem dX2_middle_116 : decode cX2_middle 116 = .ok (.invokevirtual 160, 3) := by decide +kernel
theorem dX2_middle_119 : decode cX2_middle 119 = .ok (.lstore_n 3, 1) := by decide +kernel
theorem dX2_middle_120 : decode cX2_middle 120 = .ok (.aload_n 0, 1) := by decide +kernel
theorem dX2_middle_121 : decode cX2_middle 121 = .ok (.iconst 1, 1) := by decide +kernel
theorem dX2_middle_122 : decode cX2_middle 122 = .ok (.iload_n 2, 1) := by decide +kernel
theorem dX2_middle_123 : decode cX2_middle 123 = .ok (.invokevirtual 160, 3) := by decide +kernel
theorem dX2_middle_126 : decode cX2_middle 126 = .ok (.lstore 5, 2) := by decide +kernel
theorem dX2_middle_128 : decode cX2_middle 128 = .ok (.aload_n 0, 1) := by decide +kernel
theorem dX2_middle_129 : decode cX2_middle 129 = .ok (.iconst 0, 1) := by decide +kernel
theorem dX2_middle_130 : decode cX2_middle 130 = .ok (.iload_n 2, 1) := by decide +kernel
theorem dX2_middle_131 : decode cX2_middle 131 = .ok (.lload 5, 2) := by decide +kernel
theorem dX2_middle_133 : decode cX2_middle 133 = .ok (.invokevirtual 188, 3) := by decide +kernel
theorem dX2_middle_136 : decode cX2_middle 136 = .ok (.aload_n 0, 1) := by decide +kernel
theorem dX2_middle_137 : decode cX2_middle 137 = .ok (.iconst 1, 1) := by decide +kernel
theorem dX2_middle_138 : decode cX2_middle 138 = .ok (.iload_n 2, 1) := by decide +kernel
theorem dX2_middle_139 : decode cX2_middle 139 = .ok (.lload_n 3, 1) := by decide +kernel
theorem dX2_middle_140 : decode cX2_middle 140 = .ok (.invokevirtual 188, 3) := by decide +kernel
theorem dX2_middle_143 : decode cX2_middle 143 = .ok (.goto 227, 3) := by decide +kernel
theorem dX2_middle_146 : decode cX2_middle 146 = .ok (.aload_n 0, 1) := by decide +kernel
theorem dX2_middle_147 : decode cX2_middle 147 = .ok (.iconst 0, 1) := by decide +kernel
theorem dX2_middle_148 : decode cX2_middle 148 = .ok (.iload_n 2, 1) := by decide +kernel
theorem dX2_middle_149 : decode cX2_middle 149 = .ok (.aload_n 0, 1) := by decide +kernel
theorem dX2_middle_150 : decode cX2_middle 150 = .ok (.invokevirtual 97, 3) := by decide +kernel
theorem dX2_middle_153 : decode cX2_middle 153 = .ok (.invokevirtual 188, 3) := by decide +kernel
theorem dX2_middle_156 : decode cX2_middle 156 = .ok (.goto 214, 3) := by decide +kernel
theorem dX2_middle_159 : decode cX2_middle 159 = .ok (.aload_n 0, 1) := by decide +kernel
theorem dX2_middle_160 : decode cX2_middle 160 = .ok (.iconst 0, 1) := by decide +kernel
theorem dX2_middle_161 : decode cX2_middle 161 = .ok (.iload_n 2, 1) := by decide +kernel
theorem dX2_middle_162 : decode cX2_middle 162 = .ok (.aload_n 0, 1) := by decide +kernel
theorem dX2_middle_163 : decode cX2_middle 163 = .ok (.iconst 1, 1) := by decide +kernel
theorem dX2_middle_164 : decode cX2_middle 164 = .ok (.iconst 1, 1) := by decide +kernel
theorem dX2_middle_165 : decode cX2_middle 165 = .ok (.invokevirtual 160, 3) := by decide +kernel
theorem dX2_middle_168 : decode cX2_middle 168 = .ok (.invokevirtual 188, 3) := by decide +kernel
theorem dX2_middle_171 : decode cX2_middle 171 = .ok (.goto 199, 3) := by decide +kernel
theorem dX2_middle_174 : decode cX2_middle 174 = .ok (.aload_n 0, 1) := by decide +kernel
theorem dX2_middle_175 : decode cX2_middle 175 = .ok (.iconst 0, 1) := by decide +kernel
theorem dX2_middle_176 : decode cX2_middle 176 = .ok (.iload_n 2, 1) := by decide +kernel
theorem dX2_middle_177 : decode cX2_middle 177 = .ok (.aload_n 0, 1) := by decide +kernel
theorem dX2_middle_178 : decode cX2_middle 178 = .ok (.iconst 1, 1) := by decide +kernel
theorem dX2_middle_179 : decode cX2_middle 179 = .ok (.iconst 1, 1) := by decide +kernel
theorem dX2_middle_180 : decode cX2_middle 180 = .ok (.invokevirtual 160, 3) := by decide +kernel
theorem dX2_middle_183 : decode cX2_middle 183 = .ok (.iconst 1, 1) := by decide +kernel
theorem dX2_middle_184 : decode cX2_middle 184 = .ok (.invokestatic 122, 3) := by decide +kernel
theorem dX2_middle_187 : decode cX2_middle 187 = .ok (.invokevirtual 188, 3) := by decide +kernel
theorem dX2_middle_190 : decode cX2_middle 190 = .ok (.goto 180, 3) := by decide +kernel
theorem dX2_middle_193 : decode cX2_middle 193 = .ok (.aload_n 0, 1) := by decide +kernel
theorem dX2_middle_194 : decode cX2_middle 194 = .ok (.iconst 0, 1) := by decide +kernel
theorem dX2_middle_195 : decode cX2_middle 195 = .ok (.iload_n 2, 1) := by decide +kernel
theorem dX2_middle_196 : decode cX2_middle 196 = .ok (.aload_n 0, 1) := by decide +kernel
theorem dX2_middle_197 : decode cX2_middle 197 = .ok (.iconst 1, 1) := by decide +kernel
theorem dX2_middle_198 : decode cX2_middle 198 = .ok (.iconst 4, 1) := by decide +kernel
theorem dX2_middle_199 : decode cX2_middle 199 = .ok (.invokevirtual 160, 3) := by decide +kernel
theorem dX2_middle_202 : decode cX2_middle 202 = .ok (.iconst 4, 1) := by decide +kernel
theorem dX2_middle_203 : decode cX2_middle 203 = .ok (.invokestatic 122, 3) := by decide +kernel
theorem dX2_middle_206 : decode cX2_middle 206 = .ok (.invokevirtual 188, 3) := by decide +kernel
theorem dX2_middle_209 : decode cX2_middle 209 = .ok (.goto 161, 3) := by decide +kernel
theorem dX2_middle_212 : decode cX2_middle 212 = .ok (.aload_n 0, 1) := by decide +kernel
theorem dX2_middle_213 : decode cX2_middle 213 = .ok (.iconst 0, 1) := by decide +kernel
theorem dX2_middle_214 : decode cX2_middle 214 = .ok (.iload_n 2, 1) := by decide +kernel
theorem dX2_middle_215 : decode cX2_middle 215 = .ok (.aload_n 0, 1) := by decide +kernel
theorem dX2_middle_216 : decode cX2_middle 216 = .ok (.iconst 0, 1) := by decide +kernel
theorem dX2_middle_217 : decode cX2_middle 217 = .ok (.iload_n 2, 1) := by decide +kernel
theorem dX2_middle_218 : decode cX2_middle 218 = .ok (.invokevirtual 160, 3) := by decide +kernel
theorem dX2_middle_221 : decode cX2_middle 221 = .ok (.ldc2_w 133, 3) := by decide +kernel
theorem dX2_middle_224 : decode cX2_middle 224 = .ok (.lxor, 1) := by decide +kernel
theorem dX2_middle_225 : decode cX2_middle 225 = .ok (.invokevirtual 188, 3) := by decide +kernel
theorem dX2_middle_228 : decode cX2_middle 228 = .ok (.goto 142, 3) := by decide +kernel
theorem dX2_middle_231 : decode cX2_middle 231 = .ok (.aload_n 0, 1) := by decide +kernel
theorem dX2_middle_232 : decode cX2_middle 232 = .ok (.iconst 0, 1) := by decide +kernel
theorem dX2_middle_233 : decode cX2_middle 233 = .ok (.iload_n 2, 1) := by decide +kernel
theorem dX2_middle_234 : decode cX2_middle 234 = .ok (.aload_n 0, 1) := by decide +kernel
theorem dX2_middle_235 : decode cX2_middle 235 = .ok (.lconst 0, 1) := by decide +kernel
theorem dX2_middle_236 : decode cX2_middle 236 = .ok (.aload_n 0, 1) := by decide +kernel
theorem dX2_middle_237 : decode cX2_middle 237 = .ok (.iconst 0, 1) := by decide +kernel
theorem dX2_middle_238 : decode cX2_middle 238 = .ok (.iload_n 2, 1) := by decide +kernel
theorem dX2_middle_239 : decode cX2_middle 239 = .ok (.invokevirtual 160, 3) := by decide +kernel
theorem dX2_middle_242 : decode cX2_middle 242 = .ok (.iconst 0, 1) := by decide +kernel
theorem dX2_middle_243 : decode cX2_middle 243 = .ok (.iload_n 2, 1) := by decide +kernel
theorem dX2_middle_244 : decode cX2_middle 244 = .ok (.invokevirtual 181, 3) := by decide +kernel
theorem dX2_middle_247 : decode cX2_middle 247 = .ok (.invokevirtual 188, 3) := by decide +kernel
theorem dX2_middle_250 : decode cX2_middle 250 = .ok (.goto 120, 3) := by decide +kernel
theorem dX2_middle_253 : decode cX2_middle 253 = .ok (.aload_n 0, 1) := by decide +kernel
theorem dX2_middle_254 : decode cX2_middle 254 = .ok (.iload_n 1, 1) := by decide +kernel
theorem dX2_middle_255 : decode cX2_middle 255 = .ok (.bipush 18, 2) := by decide +kernel
theorem dX2_middle_257 : decode cX2_middle 257 = .ok (.if_icmp .ne 7, 3) := by decide +kernel
theorem dX2_middle_260 : decode cX2_middle 260 = .ok (.iconst 1, 1) := by decide +kernel
theorem dX2_middle_261 : decode cX2_middle 261 = .ok (.goto 4, 3) := by decide +kernel
theorem dX2_middle_264 : decode cX2_middle 264 = .ok (.iconst 0, 1) := by decide +kernel
theorem dX2_middle_265 : decode cX2_middle 265 = .ok (.iload_n 2, 1) := by decide +kernel
theorem dX2_middle_266 : decode cX2_middle 266 = .ok (.aload_n 0, 1) := by decide +kernel
theorem dX2_middle_267 : decode cX2_middle 267 = .ok (.iconst 0, 1) := by decide +kernel
theorem dX2_middle_268 : decode cX2_middle 268 = .ok (.iload_n 2, 1) := by decide +kernel
theorem dX2_middle_269 : decode cX2_middle 269 = .ok (.invokevirtual 160, 3) := by decide +kernel
theorem dX2_middle_272 : decode cX2_middle 272 = .ok (.invokevirtual 191, 3) := by decide +kernel
theorem dX2_middle_275 : decode cX2_middle 275 = .ok (.goto 95, 3) := by decide +kernel
theorem dX2_middle_278 : decode cX2_middle 278 = .ok (.aload_n 0, 1) := by decide +kernel
theorem dX2_middle_279 : decode cX2_middle 279 = .ok (.iload_n 1, 1) := by decide +kernel
theorem dX2_middle_280 : decode cX2_middle 280 = .ok (.bipush 20, 2) := by decide +kernel
theorem dX2_middle_282 : decode cX2_middle 282 = .ok (.if_icmp .ne 7, 3) := by decide +kernel
theorem dX2_middle_285 : decode cX2_middle 285 = .ok (.iconst 1, 1) := by decide +kernel
theorem dX2_middle_286 : decode cX2_middle 286 = .ok (.goto 4, 3) := by decide +kernel
theorem dX2_middle_289 : decode cX2_middle 289 = .ok (.iconst 0, 1) := by decide +kernel
theorem dX2_middle_290 : decode cX2_middle 290 = .ok (.iload_n 2, 1) := by decide +kernel
theorem dX2_middle_291 : decode cX2_middle 291 = .ok (.aload_n 0, 1) := by decide +kernel
theorem dX2_middle_292 : decode cX2_middle 292 = .ok (.iconst 0, 1) := by decide +kernel
theorem dX2_middle_293 : decode cX2_middle 293 = .ok (.iload_n 2, 1) := by decide +kernel
theorem dX2_middle_294 : decode cX2_middle 294 = .ok (.invokevirtual 160, 3) := by decide +kernel
theorem dX2_middle_297 : decode cX2_middle 297 = .ok (.invokevirtual 195, 3) := by decide +kernel
theorem dX2_middle_300 : decode cX2_middle 300 = .ok (.goto 70, 3) := by decide +kernel
theorem dX2_middle_303 : decode cX2_middle 303 = .ok (.aload_n 0, 1) := by decide +kernel
theorem dX2_middle_304 : decode cX2_middle 304 = .ok (.iconst 1, 1) := by decide +kernel
theorem dX2_middle_305 : decode cX2_middle 305 = .ok (.invokevirtual 142, 3) := by decide +kernel
theorem dX2_middle_308 : decode cX2_middle 308 = .ok (.istore 7, 2) := by decide +kernel
theorem dX2_middle_310 : decode cX2_middle 310 = .ok (.iload_n 1, 1) := by decide +kernel
theorem dX2_middle_311 : decode cX2_middle 311 = .ok (.bipush 21, 2) := by decide +kernel
theorem dX2_middle_313 : decode cX2_middle 313 = .ok (.if_icmp .ne 19, 3) := by decide +kernel
theorem dX2_middle_316 : decode cX2_middle 316 = .ok (.aload_n 0, 1) := by decide +kernel
theorem dX2_middle_317 : decode cX2_middle 317 = .ok (.aload_n 0, 1) := by decide +kernel
theorem dX2_middle_318 : decode cX2_middle 318 = .ok (.iconst 0, 1) := by decide +kernel
theorem dX2_middle_319 : decode cX2_middle 319 = .ok (.iload_n 2, 1) := by decide +kernel
theorem dX2_middle_320 : decode cX2_middle 320 = .ok (.invokevirtual 160, 3) := by decide +kernel
theorem dX2_middle_323 : decode cX2_middle 323 = .ok (.lconst 1, 1) := by decide +kernel
theorem dX2_middle_324 : decode cX2_middle 324 = .ok (.iconst 0, 1) := by decide +kernel
theorem dX2_middle_325 : decode cX2_middle 325 = .ok (.iload_n 2, 1) := by decide +kernel
theorem dX2_middle_326 : decode cX2_middle 326 = .ok (.invokevirtual 177, 3) := by decide +kernel
theorem dX2_middle_329 : decode cX2_middle 329 = .ok (.goto 16, 3) := by decide +kernel
theorem dX2_middle_332 : decode cX2_middle 332 = .ok (.aload_n 0, 1) := by decide +kernel
theorem dX2_middle_333 : decode cX2_middle 333 = .ok (.aload_n 0, 1) := by decide +kernel
theorem dX2_middle_334 : decode cX2_middle 334 = .ok (.iconst 0, 1) := by decide +kernel
theorem dX2_middle_335 : decode cX2_middle 335 = .ok (.iload_n 2, 1) := by decide +kernel
theorem dX2_middle_336 : decode cX2_middle 336 = .ok (.invokevirtual 160, 3) := by decide +kernel
theorem dX2_middle_339 : decode cX2_middle 339 = .ok (.lconst 1, 1) := by decide +kernel
theorem dX2_middle_340 : decode cX2_middle 340 = .ok (.iconst 0, 1) := by decide +kernel
theorem dX2_middle_341 : decode cX2_middle 341 = .ok (.iload_n 2, 1) := by decide +kernel
theorem dX2_middle_342 : decode cX2_middle 342 = .ok (.invokevirtual 181, 3) := by decide +kernel
theorem dX2_middle_345 : decode cX2_middle 345 = .ok (.lstore 8, 2) := by decide +kernel
theorem dX2_middle_347 : decode cX2_middle 347 = .ok (.aload_n 0, 1) := by decide +kernel
theorem dX2_middle_348 : decode cX2_middle 348 = .ok (.iconst 1, 1) := by decide +kernel
theorem dX2_middle_349 : decode cX2_middle 349 = .ok (.iload 7, 2) := by decide +kernel
theorem dX2_middle_351 : decode cX2_middle 351 = .ok (.invokevirtual 125, 3) := by decide +kernel
theorem dX2_middle_354 : decode cX2_middle 354 = .ok (.aload_n 0, 1) := by decide +kernel
theorem dX2_middle_355 : decode cX2_middle 355 = .ok (.iconst 0, 1) := by decide +kernel
theorem dX2_middle_356 : decode cX2_middle 356 = .ok (.iload_n 2, 1) := by decide +kernel
theorem dX2_middle_357 : decode cX2_middle 357 = .ok (.lload 8, 2) := by decide +kernel
theorem dX2_middle_359 : decode cX2_middle 359 = .ok (.invokevirtual 188, 3) := by decide +kernel
theorem dX2_middle_362 : decode cX2_middle 362 = .ok (.goto 8, 3) := by decide +kernel
theorem dX2_middle_365 : decode cX2_middle 365 = .ok (.aload_n 0, 1) := by decide +kernel
theorem dX2_middle_366 : decode cX2_middle 366 = .ok (.iload_n 2, 1) := by decide +kernel
theorem dX2_middle_367 : decode cX2_middle 367 = .ok (.invokevirtual 198, 3) := by decide +kernel
theorem dX2_middle_370 : decode cX2_middle 370 = .ok (.return_, 1) := by decide +kernel
theorem dX2_product_0 : decode cX2_product 0 = .ok (.aload_n 0, 1) := by decide +kernel
theorem dX2_product_1 : decode cX2_product 1 = .ok (.getfield 46, 3) := by decide +kernel
theorem dX2_product_4 : decode cX2_product 4 = .ok (.ifCond .eq 4, 3) := by decide +kernel
theorem dX2_product_7 : decode cX2_product 7 = .ok (.return_, 1) := by decide +kernel
theorem dX2_product_8 : decode cX2_product 8 = .ok (.aload_n 0, 1) := by decide +kernel
theorem dX2_product_9 : decode cX2_product 9 = .ok (.getfield 26, 3) := by decide +kernel
theorem dX2_product_12 : decode cX2_product 12 = .ok (.iconst 0, 1) := by decide +kernel
theorem dX2_product_13 : decode cX2_product 13 = .ok (.laload, 1) := by decide +kernel
theorem dX2_product_14 : decode cX2_product 14 = .ok (.iload_n 2, 1) := by decide +kernel
theorem dX2_product_15 : decode cX2_product 15 = .ok (.invokestatic 110, 3) := by decide +kernel
theorem dX2_product_18 : decode cX2_product 18 = .ok (.lstore 5, 2) := by decide +kernel
theorem dX2_product_20 : decode cX2_product 20 = .ok (.iload_n 2, 1) := by decide +kernel
theorem dX2_product_21 : decode cX2_product 21 = .ok (.bipush 8, 2) := by decide +kernel
theorem dX2_product_23 : decode cX2_product 23 = .ok (.if_icmp .ne 89, 3) := by decide +kernel
theorem dX2_product_26 : decode cX2_product 26 = .ok (.lload 5, 2) := by decide +kernel
theorem dX2_product_28 : decode cX2_product 28 = .ok (.lload_n 3, 1) := by decide +kernel
theorem dX2_product_29 : decode cX2_product 29 = .ok (.lmul, 1) := by decide +kernel
theorem dX2_product_30 : decode cX2_product 30 = .ok (.lstore 7, 2) := by decide +kernel
theorem dX2_product_32 : decode cX2_product 32 = .ok (.iload_n 1, 1) := by decide +kernel
theorem dX2_product_33 : decode cX2_product 33 = .ok (.ifCond .eq 12, 3) := by decide +kernel
theorem dX2_product_36 : decode cX2_product 36 = .ok (.lload 5, 2) := by decide +kernel
theorem dX2_product_38 : decode cX2_product 38 = .ok (.lload_n 3, 1) := by decide +kernel
theorem dX2_product_39 : decode cX2_product 39 = .ok (.invokestatic 206, 3) := by decide +kernel
theorem dX2_product_42 : decode cX2_product 42 = .ok (.goto 9, 3) := by decide +kernel
theorem dX2_product_45 : decode cX2_product 45 = .ok (.lload 5, 2) := by decide +kernel
