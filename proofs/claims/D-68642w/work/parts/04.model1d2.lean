set_option maxRecDepth 100000
theorem dX5_below_4 : decode cX5_below 4 = .ok (.lxor, 1) := by decide +kernel
theorem dX5_below_5 : decode cX5_below 5 = .ok (.lload_n 2, 1) := by decide +kernel
theorem dX5_below_6 : decode cX5_below 6 = .ok (.ldc2_w 279, 3) := by decide +kernel
theorem dX5_below_9 : decode cX5_below 9 = .ok (.lxor, 1) := by decide +kernel
theorem dX5_below_10 : decode cX5_below 10 = .ok (.lcmp, 1) := by decide +kernel
theorem dX5_below_11 : decode cX5_below 11 = .ok (.ifCond .ge 7, 3) := by decide +kernel
theorem dX5_below_14 : decode cX5_below 14 = .ok (.iconst 1, 1) := by decide +kernel
theorem dX5_below_15 : decode cX5_below 15 = .ok (.goto 4, 3) := by decide +kernel
theorem dX5_below_18 : decode cX5_below 18 = .ok (.iconst 0, 1) := by decide +kernel
theorem dX5_below_19 : decode cX5_below 19 = .ok (.ireturn, 1) := by decide +kernel
theorem dX5_upper_0 : decode cX5_upper 0 = .ok (.lload_n 0, 1) := by decide +kernel
theorem dX5_upper_1 : decode cX5_upper 1 = .ok (.bipush 8, 2) := by decide +kernel
theorem dX5_upper_3 : decode cX5_upper 3 = .ok (.iload_n 2, 1) := by decide +kernel
theorem dX5_upper_4 : decode cX5_upper 4 = .ok (.imul, 1) := by decide +kernel
theorem dX5_upper_5 : decode cX5_upper 5 = .ok (.iconst 1, 1) := by decide +kernel
theorem dX5_upper_6 : decode cX5_upper 6 = .ok (.isub, 1) := by decide +kernel
theorem dX5_upper_7 : decode cX5_upper 7 = .ok (.lushr, 1) := by decide +kernel
theorem dX5_upper_8 : decode cX5_upper 8 = .ok (.lconst 1, 1) := by decide +kernel
theorem dX5_upper_9 : decode cX5_upper 9 = .ok (.land, 1) := by decide +kernel
theorem dX5_upper_10 : decode cX5_upper 10 = .ok (.lreturn, 1) := by decide +kernel
theorem dX5_zsp_0 : decode cX5_zsp 0 = .ok (.aload_n 0, 1) := by decide +kernel
theorem dX5_zsp_1 : decode cX5_zsp 1 = .ok (.lload_n 1, 1) := by decide +kernel
theorem dX5_zsp_2 : decode cX5_zsp 2 = .ok (.iload_n 3, 1) := by decide +kernel
theorem dX5_zsp_3 : decode cX5_zsp 3 = .ok (.invokestatic 200, 3) := by decide +kernel
theorem dX5_zsp_6 : decode cX5_zsp 6 = .ok (.lconst 0, 1) := by decide +kernel
theorem dX5_zsp_7 : decode cX5_zsp 7 = .ok (.lcmp, 1) := by decide +kernel
theorem dX5_zsp_8 : decode cX5_zsp 8 = .ok (.ifCond .ne 7, 3) := by decide +kernel
theorem dX5_zsp_11 : decode cX5_zsp 11 = .ok (.iconst 1, 1) := by decide +kernel
theorem dX5_zsp_12 : decode cX5_zsp 12 = .ok (.goto 4, 3) := by decide +kernel
theorem dX5_zsp_15 : decode cX5_zsp 15 = .ok (.iconst 0, 1) := by decide +kernel
theorem dX5_zsp_16 : decode cX5_zsp 16 = .ok (.putfield 220, 3) := by decide +kernel
theorem dX5_zsp_19 : decode cX5_zsp 19 = .ok (.aload_n 0, 1) := by decide +kernel
theorem dX5_zsp_20 : decode cX5_zsp 20 = .ok (.lload_n 1, 1) := by decide +kernel
theorem dX5_zsp_21 : decode cX5_zsp 21 = .ok (.iload_n 3, 1) := by decide +kernel
theorem dX5_zsp_22 : decode cX5_zsp 22 = .ok (.invokestatic 224, 3) := by decide +kernel
theorem dX5_zsp_25 : decode cX5_zsp 25 = .ok (.lconst 1, 1) := by decide +kernel
theorem dX5_zsp_26 : decode cX5_zsp 26 = .ok (.lcmp, 1) := by decide +kernel
theorem dX5_zsp_27 : decode cX5_zsp 27 = .ok (.ifCond .ne 7, 3) := by decide +kernel
theorem dX5_zsp_30 : decode cX5_zsp 30 = .ok (.iconst 1, 1) := by decide +kernel
theorem dX5_zsp_31 : decode cX5_zsp 31 = .ok (.goto 4, 3) := by decide +kernel
theorem dX5_zsp_34 : decode cX5_zsp 34 = .ok (.iconst 0, 1) := by decide +kernel
theorem dX5_zsp_35 : decode cX5_zsp 35 = .ok (.putfield 227, 3) := by decide +kernel
theorem dX5_zsp_38 : decode cX5_zsp 38 = .ok (.iconst 0, 1) := by decide +kernel
theorem dX5_zsp_39 : decode cX5_zsp 39 = .ok (.istore 4, 2) := by decide +kernel
theorem dX5_zsp_41 : decode cX5_zsp 41 = .ok (.iconst 0, 1) := by decide +kernel
theorem dX5_zsp_42 : decode cX5_zsp 42 = .ok (.istore 5, 2) := by decide +kernel
theorem dX5_zsp_44 : decode cX5_zsp 44 = .ok (.iload 5, 2) := by decide +kernel
theorem dX5_zsp_46 : decode cX5_zsp 46 = .ok (.bipush 8, 2) := by decide +kernel
theorem dX5_zsp_48 : decode cX5_zsp 48 = .ok (.if_icmp .ge 21, 3) := by decide +kernel
theorem dX5_zsp_51 : decode cX5_zsp 51 = .ok (.iload 4, 2) := by decide +kernel
theorem dX5_zsp_53 : decode cX5_zsp 53 = .ok (.lload_n 1, 1) := by decide +kernel
theorem dX5_zsp_54 : decode cX5_zsp 54 = .ok (.iload 5, 2) := by decide +kernel
theorem dX5_zsp_56 : decode cX5_zsp 56 = .ok (.lshr, 1) := by decide +kernel
theorem dX5_zsp_57 : decode cX5_zsp 57 = .ok (.lconst 1, 1) := by decide +kernel
theorem dX5_zsp_58 : decode cX5_zsp 58 = .ok (.land, 1) := by decide +kernel
theorem dX5_zsp_59 : decode cX5_zsp 59 = .ok (.l2i, 1) := by decide +kernel
theorem dX5_zsp_60 : decode cX5_zsp 60 = .ok (.iadd, 1) := by decide +kernel
theorem dX5_zsp_61 : decode cX5_zsp 61 = .ok (.istore 4, 2) := by decide +kernel
theorem dX5_zsp_63 : decode cX5_zsp 63 = .ok (.iinc 5 1, 3) := by decide +kernel
theorem dX5_zsp_66 : decode cX5_zsp 66 = .ok (.goto (-22), 3) := by decide +kernel
theorem dX5_zsp_69 : decode cX5_zsp 69 = .ok (.aload_n 0, 1) := by decide +kernel
theorem dX5_zsp_70 : decode cX5_zsp 70 = .ok (.iload 4, 2) := by decide +kernel
theorem dX5_zsp_72 : decode cX5_zsp 72 = .ok (.iconst 2, 1) := by decide +kernel
theorem dX5_zsp_73 : decode cX5_zsp 73 = .ok (.irem, 1) := by decide +kernel
theorem dX5_zsp_74 : decode cX5_zsp 74 = .ok (.ifCond .ne 7, 3) := by decide +kernel
theorem dX5_zsp_77 : decode cX5_zsp 77 = .ok (.iconst 1, 1) := by decide +kernel
theorem dX5_zsp_78 : decode cX5_zsp 78 = .ok (.goto 4, 3) := by decide +kernel
theorem dX5_zsp_81 : decode cX5_zsp 81 = .ok (.iconst 0, 1) := by decide +kernel
theorem dX5_zsp_82 : decode cX5_zsp 82 = .ok (.putfield 230, 3) := by decide +kernel
theorem dX5_zsp_85 : decode cX5_zsp 85 = .ok (.return_, 1) := by decide +kernel
theorem dX5_subtract_0 : decode cX5_subtract 0 = .ok (.lload_n 1, 1) := by decide +kernel
theorem dX5_subtract_1 : decode cX5_subtract 1 = .ok (.lload_n 3, 1) := by decide +kernel
theorem dX5_subtract_2 : decode cX5_subtract 2 = .ok (.lsub, 1) := by decide +kernel
theorem dX5_subtract_3 : decode cX5_subtract 3 = .ok (.iload 5, 2) := by decide +kernel
theorem dX5_subtract_5 : decode cX5_subtract 5 = .ok (.ifCond .eq 7, 3) := by decide +kernel
theorem dX5_subtract_8 : decode cX5_subtract 8 = .ok (.lconst 1, 1) := by decide +kernel
theorem dX5_subtract_9 : decode cX5_subtract 9 = .ok (.goto 4, 3) := by decide +kernel
theorem dX5_subtract_12 : decode cX5_subtract 12 = .ok (.lconst 0, 1) := by decide +kernel
theorem dX5_subtract_13 : decode cX5_subtract 13 = .ok (.lsub, 1) := by decide +kernel
theorem dX5_subtract_14 : decode cX5_subtract 14 = .ok (.iload 6, 2) := by decide +kernel
theorem dX5_subtract_16 : decode cX5_subtract 16 = .ok (.invokestatic 200, 3) := by decide +kernel
theorem dX5_subtract_19 : decode cX5_subtract 19 = .ok (.lstore 7, 2) := by decide +kernel
theorem dX5_subtract_21 : decode cX5_subtract 21 = .ok (.aload_n 0, 1) := by decide +kernel
theorem dX5_subtract_22 : decode cX5_subtract 22 = .ok (.lload_n 1, 1) := by decide +kernel
theorem dX5_subtract_23 : decode cX5_subtract 23 = .ok (.lload_n 3, 1) := by decide +kernel
theorem dX5_subtract_24 : decode cX5_subtract 24 = .ok (.invokestatic 233, 3) := by decide +kernel
theorem dX5_subtract_27 : decode cX5_subtract 27 = .ok (.ifCond .ne 14, 3) := by decide +kernel
theorem dX5_subtract_30 : decode cX5_subtract 30 = .ok (.iload 5, 2) := by decide +kernel
theorem dX5_subtract_32 : decode cX5_subtract 32 = .ok (.ifCond .eq 13, 3) := by decide +kernel
theorem dX5_subtract_35 : decode cX5_subtract 35 = .ok (.lload_n 1, 1) := by decide +kernel
theorem dX5_subtract_36 : decode cX5_subtract 36 = .ok (.lload_n 3, 1) := by decide +kernel
theorem dX5_subtract_37 : decode cX5_subtract 37 = .ok (.lcmp, 1) := by decide +kernel
theorem dX5_subtract_38 : decode cX5_subtract 38 = .ok (.ifCond .ne 7, 3) := by decide +kernel
theorem dX5_subtract_41 : decode cX5_subtract 41 = .ok (.iconst 1, 1) := by decide +kernel
theorem dX5_subtract_42 : decode cX5_subtract 42 = .ok (.goto 4, 3) := by decide +kernel
theorem dX5_subtract_45 : decode cX5_subtract 45 = .ok (.iconst 0, 1) := by decide +kernel
theorem dX5_subtract_46 : decode cX5_subtract 46 = .ok (.putfield 237, 3) := by decide +kernel
theorem dX5_subtract_49 : decode cX5_subtract 49 = .ok (.aload_n 0, 1) := by decide +kernel
theorem dX5_subtract_50 : decode cX5_subtract 50 = .ok (.lload_n 1, 1) := by decide +kernel
theorem dX5_subtract_51 : decode cX5_subtract 51 = .ok (.lload_n 3, 1) := by decide +kernel
theorem dX5_subtract_52 : decode cX5_subtract 52 = .ok (.lxor, 1) := by decide +kernel
theorem dX5_subtract_53 : decode cX5_subtract 53 = .ok (.lload_n 1, 1) := by decide +kernel
theorem dX5_subtract_54 : decode cX5_subtract 54 = .ok (.lload 7, 2) := by decide +kernel
theorem dX5_subtract_56 : decode cX5_subtract 56 = .ok (.lxor, 1) := by decide +kernel
theorem dX5_subtract_57 : decode cX5_subtract 57 = .ok (.land, 1) := by decide +kernel
theorem dX5_subtract_58 : decode cX5_subtract 58 = .ok (.iload 6, 2) := by decide +kernel
theorem dX5_subtract_60 : decode cX5_subtract 60 = .ok (.invokestatic 224, 3) := by decide +kernel
theorem dX5_subtract_63 : decode cX5_subtract 63 = .ok (.lconst 1, 1) := by decide +kernel
theorem dX5_subtract_64 : decode cX5_subtract 64 = .ok (.lcmp, 1) := by decide +kernel
theorem dX5_subtract_65 : decode cX5_subtract 65 = .ok (.ifCond .ne 7, 3) := by decide +kernel
theorem dX5_subtract_68 : decode cX5_subtract 68 = .ok (.iconst 1, 1) := by decide +kernel
theorem dX5_subtract_69 : decode cX5_subtract 69 = .ok (.goto 4, 3) := by decide +kernel
theorem dX5_subtract_72 : decode cX5_subtract 72 = .ok (.iconst 0, 1) := by decide +kernel
theorem dX5_subtract_73 : decode cX5_subtract 73 = .ok (.putfield 240, 3) := by decide +kernel
theorem dX5_subtract_76 : decode cX5_subtract 76 = .ok (.aload_n 0, 1) := by decide +kernel
theorem dX5_subtract_77 : decode cX5_subtract 77 = .ok (.lload 7, 2) := by decide +kernel
theorem dX5_subtract_79 : decode cX5_subtract 79 = .ok (.iload 6, 2) := by decide +kernel
theorem dX5_subtract_81 : decode cX5_subtract 81 = .ok (.invokevirtual 243, 3) := by decide +kernel
theorem dX5_subtract_84 : decode cX5_subtract 84 = .ok (.lload 7, 2) := by decide +kernel
theorem dX5_subtract_86 : decode cX5_subtract 86 = .ok (.lreturn, 1) := by decide +kernel
theorem dX5_put_0 : decode cX5_put 0 = .ok (.aload_n 0, 1) := by decide +kernel
theorem dX5_put_1 : decode cX5_put 1 = .ok (.iload_n 1, 1) := by decide +kernel
theorem dX5_put_2 : decode cX5_put 2 = .ok (.invokevirtual 194, 3) := by decide +kernel
theorem dX5_put_5 : decode cX5_put 5 = .ok (.iconst 1, 1) := by decide +kernel
theorem dX5_put_6 : decode cX5_put 6 = .ok (.if_icmp .ne 17, 3) := by decide +kernel
theorem dX5_put_9 : decode cX5_put 9 = .ok (.aload_n 0, 1) := by decide +kernel
theorem dX5_put_10 : decode cX5_put 10 = .ok (.aload_n 0, 1) := by decide +kernel
theorem dX5_put_11 : decode cX5_put 11 = .ok (.iload_n 1, 1) := by decide +kernel
theorem dX5_put_12 : decode cX5_put 12 = .ok (.invokevirtual 197, 3) := by decide +kernel
theorem dX5_put_15 : decode cX5_put 15 = .ok (.iload_n 2, 1) := by decide +kernel
theorem dX5_put_16 : decode cX5_put 16 = .ok (.lload_n 3, 1) := by decide +kernel
theorem dX5_put_17 : decode cX5_put 17 = .ok (.invokevirtual 212, 3) := by decide +kernel
theorem dX5_put_20 : decode cX5_put 20 = .ok (.goto 13, 3) := by decide +kernel
theorem dX5_put_23 : decode cX5_put 23 = .ok (.aload_n 0, 1) := by decide +kernel
theorem dX5_put_24 : decode cX5_put 24 = .ok (.aload_n 0, 1) := by decide +kernel
theorem dX5_put_25 : decode cX5_put 25 = .ok (.getfield 204, 3) := by decide +kernel
theorem dX5_put_28 : decode cX5_put 28 = .ok (.iload_n 2, 1) := by decide +kernel
theorem dX5_put_29 : decode cX5_put 29 = .ok (.lload_n 3, 1) := by decide +kernel
theorem dX5_put_30 : decode cX5_put 30 = .ok (.invokevirtual 216, 3) := by decide +kernel
theorem dX5_put_33 : decode cX5_put 33 = .ok (.return_, 1) := by decide +kernel
theorem dX5_setRegister_0 : decode cX5_setRegister 0 = .ok (.aload_n 0, 1) := by decide +kernel
theorem dX5_setRegister_1 : decode cX5_setRegister 1 = .ok (.getfield 30, 3) := by decide +kernel
theorem dX5_setRegister_4 : decode cX5_setRegister 4 = .ok (.iload_n 1, 1) := by decide +kernel
theorem dX5_setRegister_5 : decode cX5_setRegister 5 = .ok (.iload_n 2, 1) := by decide +kernel
theorem dX5_setRegister_6 : decode cX5_setRegister 6 = .ok (.bipush 8, 2) := by decide +kernel
theorem dX5_setRegister_8 : decode cX5_setRegister 8 = .ok (.if_icmp .ne 7, 3) := by decide +kernel
theorem dX5_setRegister_11 : decode cX5_setRegister 11 = .ok (.lload_n 3, 1) := by decide +kernel
theorem dX5_setRegister_12 : decode cX5_setRegister 12 = .ok (.goto 32, 3) := by decide +kernel
theorem dX5_setRegister_15 : decode cX5_setRegister 15 = .ok (.iload_n 2, 1) := by decide +kernel
theorem dX5_setRegister_16 : decode cX5_setRegister 16 = .ok (.iconst 4, 1) := by decide +kernel
theorem dX5_setRegister_17 : decode cX5_setRegister 17 = .ok (.if_icmp .ne 11, 3) := by decide +kernel
theorem dX5_setRegister_20 : decode cX5_setRegister 20 = .ok (.lload_n 3, 1) := by decide +kernel
theorem dX5_setRegister_21 : decode cX5_setRegister 21 = .ok (.ldc2_w 192, 3) := by decide +kernel
theorem dX5_setRegister_24 : decode cX5_setRegister 24 = .ok (.land, 1) := by decide +kernel
theorem dX5_setRegister_25 : decode cX5_setRegister 25 = .ok (.goto 19, 3) := by decide +kernel
theorem dX5_setRegister_28 : decode cX5_setRegister 28 = .ok (.aload_n 0, 1) := by decide +kernel
theorem dX5_setRegister_29 : decode cX5_setRegister 29 = .ok (.getfield 30, 3) := by decide +kernel
theorem dX5_setRegister_32 : decode cX5_setRegister 32 = .ok (.iload_n 1, 1) := by decide +kernel
theorem dX5_setRegister_33 : decode cX5_setRegister 33 = .ok (.laload, 1) := by decide +kernel
theorem dX5_setRegister_34 : decode cX5_setRegister 34 = .ok (.ldc2_w 210, 3) := by decide +kernel
theorem dX5_setRegister_37 : decode cX5_setRegister 37 = .ok (.land, 1) := by decide +kernel
theorem dX5_setRegister_38 : decode cX5_setRegister 38 = .ok (.lload_n 3, 1) := by decide +kernel
theorem dX5_setRegister_39 : decode cX5_setRegister 39 = .ok (.ldc2_w 145, 3) := by decide +kernel
theorem dX5_setRegister_42 : decode cX5_setRegister 42 = .ok (.land, 1) := by decide +kernel
theorem dX5_setRegister_43 : decode cX5_setRegister 43 = .ok (.lor, 1) := by decide +kernel
theorem dX5_setRegister_44 : decode cX5_setRegister 44 = .ok (.lastore, 1) := by decide +kernel
theorem dX5_setRegister_45 : decode cX5_setRegister 45 = .ok (.return_, 1) := by decide +kernel
theorem dX5_store_0 : decode cX5_store 0 = .ok (.iconst 0, 1) := by decide +kernel
theorem dX5_store_1 : decode cX5_store 1 = .ok (.istore 6, 2) := by decide +kernel
theorem dX5_store_3 : decode cX5_store 3 = .ok (.iload 6, 2) := by decide +kernel
theorem dX5_store_5 : decode cX5_store 5 = .ok (.iload_n 3, 1) := by decide +kernel
theorem dX5_store_6 : decode cX5_store 6 = .ok (.if_icmp .ge 28, 3) := by decide +kernel
theorem dX5_store_9 : decode cX5_store 9 = .ok (.aload_n 0, 1) := by decide +kernel
theorem dX5_store_10 : decode cX5_store 10 = .ok (.lload_n 1, 1) := by decide +kernel
theorem dX5_store_11 : decode cX5_store 11 = .ok (.iload 6, 2) := by decide +kernel
theorem dX5_store_13 : decode cX5_store 13 = .ok (.i2l, 1) := by decide +kernel
theorem dX5_store_14 : decode cX5_store 14 = .ok (.ladd, 1) := by decide +kernel
theorem dX5_store_15 : decode cX5_store 15 = .ok (.iconst 1, 1) := by decide +kernel
theorem dX5_store_16 : decode cX5_store 16 = .ok (.invokevirtual 176, 3) := by decide +kernel
theorem dX5_store_19 : decode cX5_store 19 = .ok (.ifCond .ge 9, 3) := by decide +kernel
theorem dX5_store_22 : decode cX5_store 22 = .ok (.aload_n 0, 1) := by decide +kernel
theorem dX5_store_23 : decode cX5_store 23 = .ok (.iconst 3, 1) := by decide +kernel
theorem dX5_store_24 : decode cX5_store 24 = .ok (.lload_n 1, 1) := by decide +kernel
theorem dX5_store_25 : decode cX5_store 25 = .ok (.invokevirtual 180, 3) := by decide +kernel
theorem dX5_store_28 : decode cX5_store 28 = .ok (.iinc 6 1, 3) := by decide +kernel
theorem dX5_store_31 : decode cX5_store 31 = .ok (.goto (-28), 3) := by decide +kernel
theorem dX5_store_34 : decode cX5_store 34 = .ok (.iconst 0, 1) := by decide +kernel
theorem dX5_store_35 : decode cX5_store 35 = .ok (.istore 6, 2) := by decide +kernel
theorem dX5_store_37 : decode cX5_store 37 = .ok (.iload 6, 2) := by decide +kernel
theorem dX5_store_39 : decode cX5_store 39 = .ok (.iload_n 3, 1) := by decide +kernel
theorem dX5_store_40 : decode cX5_store 40 = .ok (.if_icmp .ge 39, 3) := by decide +kernel
theorem dX5_store_43 : decode cX5_store 43 = .ok (.aload_n 0, 1) := by decide +kernel
theorem dX5_store_44 : decode cX5_store 44 = .ok (.getfield 170, 3) := by decide +kernel
theorem dX5_store_47 : decode cX5_store 47 = .ok (.ifCond .ne 32, 3) := by decide +kernel
theorem dX5_store_50 : decode cX5_store 50 = .ok (.aload_n 0, 1) := by decide +kernel
theorem dX5_store_51 : decode cX5_store 51 = .ok (.aload_n 0, 1) := by decide +kernel
theorem dX5_store_52 : decode cX5_store 52 = .ok (.lload_n 1, 1) := by decide +kernel
theorem dX5_store_53 : decode cX5_store 53 = .ok (.iload 6, 2) := by decide +kernel
theorem dX5_store_55 : decode cX5_store 55 = .ok (.i2l, 1) := by decide +kernel
theorem dX5_store_56 : decode cX5_store 56 = .ok (.ladd, 1) := by decide +kernel
theorem dX5_store_57 : decode cX5_store 57 = .ok (.iconst 1, 1) := by decide +kernel
theorem dX5_store_58 : decode cX5_store 58 = .ok (.invokevirtual 176, 3) := by decide +kernel
theorem dX5_store_61 : decode cX5_store 61 = .ok (.lload 4, 2) := by decide +kernel
theorem dX5_store_63 : decode cX5_store 63 = .ok (.bipush 8, 2) := by decide +kernel
theorem dX5_store_65 : decode cX5_store 65 = .ok (.iload 6, 2) := by decide +kernel
theorem dX5_store_67 : decode cX5_store 67 = .ok (.imul, 1) := by decide +kernel
theorem dX5_store_68 : decode cX5_store 68 = .ok (.lshr, 1) := by decide +kernel
theorem dX5_store_69 : decode cX5_store 69 = .ok (.l2i, 1) := by decide +kernel
theorem dX5_store_70 : decode cX5_store 70 = .ok (.invokevirtual 188, 3) := by decide +kernel
theorem dX5_store_73 : decode cX5_store 73 = .ok (.iinc 6 1, 3) := by decide +kernel
theorem dX5_store_76 : decode cX5_store 76 = .ok (.goto (-39), 3) := by decide +kernel
theorem dX5_store_79 : decode cX5_store 79 = .ok (.return_, 1) := by decide +kernel
theorem dX5_setPlace_0 : decode cX5_setPlace 0 = .ok (.iload_n 1, 1) := by decide +kernel
theorem dX5_setPlace_1 : decode cX5_setPlace 1 = .ok (.ldc 163, 2) := by decide +kernel
theorem dX5_setPlace_3 : decode cX5_setPlace 3 = .ok (.if_icmp .ge 14, 3) := by decide +kernel
theorem dX5_setPlace_6 : decode cX5_setPlace 6 = .ok (.aload_n 0, 1) := by decide +kernel
theorem dX5_setPlace_7 : decode cX5_setPlace 7 = .ok (.getfield 14, 3) := by decide +kernel
theorem dX5_setPlace_10 : decode cX5_setPlace 10 = .ok (.iload_n 1, 1) := by decide +kernel
theorem dX5_setPlace_11 : decode cX5_setPlace 11 = .ok (.iload_n 2, 1) := by decide +kernel
theorem dX5_setPlace_12 : decode cX5_setPlace 12 = .ok (.i2b, 1) := by decide +kernel
theorem dX5_setPlace_13 : decode cX5_setPlace 13 = .ok (.bastore, 1) := by decide +kernel
theorem dX5_setPlace_14 : decode cX5_setPlace 14 = .ok (.goto 34, 3) := by decide +kernel
theorem dX5_setPlace_17 : decode cX5_setPlace 17 = .ok (.iload_n 1, 1) := by decide +kernel
theorem dX5_setPlace_18 : decode cX5_setPlace 18 = .ok (.ldc 168, 2) := by decide +kernel
theorem dX5_setPlace_20 : decode cX5_setPlace 20 = .ok (.if_icmp .ge 17, 3) := by decide +kernel
theorem dX5_setPlace_23 : decode cX5_setPlace 23 = .ok (.aload_n 0, 1) := by decide +kernel
theorem dX5_setPlace_24 : decode cX5_setPlace 24 = .ok (.getfield 18, 3) := by decide +kernel
theorem dX5_setPlace_27 : decode cX5_setPlace 27 = .ok (.iload_n 1, 1) := by decide +kernel
theorem dX5_setPlace_28 : decode cX5_setPlace 28 = .ok (.ldc 169, 2) := by decide +kernel
theorem dX5_setPlace_30 : decode cX5_setPlace 30 = .ok (.iand, 1) := by decide +kernel
theorem dX5_setPlace_31 : decode cX5_setPlace 31 = .ok (.iload_n 2, 1) := by decide +kernel
theorem dX5_setPlace_32 : decode cX5_setPlace 32 = .ok (.i2b, 1) := by decide +kernel
theorem dX5_setPlace_33 : decode cX5_setPlace 33 = .ok (.bastore, 1) := by decide +kernel
theorem dX5_setPlace_34 : decode cX5_setPlace 34 = .ok (.goto 14, 3) := by decide +kernel
theorem dX5_setPlace_37 : decode cX5_setPlace 37 = .ok (.aload_n 0, 1) := by decide +kernel
theorem dX5_setPlace_38 : decode cX5_setPlace 38 = .ok (.getfield 21, 3) := by decide +kernel
theorem dX5_setPlace_41 : decode cX5_setPlace 41 = .ok (.iload_n 1, 1) := by decide +kernel
theorem dX5_setPlace_42 : decode cX5_setPlace 42 = .ok (.ldc 169, 2) := by decide +kernel
theorem dX5_setPlace_44 : decode cX5_setPlace 44 = .ok (.iand, 1) := by decide +kernel
theorem dX5_setPlace_45 : decode cX5_setPlace 45 = .ok (.iload_n 2, 1) := by decide +kernel
theorem dX5_setPlace_46 : decode cX5_setPlace 46 = .ok (.i2b, 1) := by decide +kernel
theorem dX5_setPlace_47 : decode cX5_setPlace 47 = .ok (.bastore, 1) := by decide +kernel
theorem dX5_setPlace_48 : decode cX5_setPlace 48 = .ok (.return_, 1) := by decide +kernel
theorem dX5_moves_0 : decode cX5_moves 0 = .ok (.iload_n 1, 1) := by decide +kernel
theorem dX5_moves_1 : decode cX5_moves 1 = .ok (.bipush 8, 2) := by decide +kernel
theorem dX5_moves_3 : decode cX5_moves 3 = .ok (.if_icmp .ne 18, 3) := by decide +kernel
theorem dX5_moves_6 : decode cX5_moves 6 = .ok (.aload_n 0, 1) := by decide +kernel
theorem dX5_moves_7 : decode cX5_moves 7 = .ok (.iconst 0, 1) := by decide +kernel
theorem dX5_moves_8 : decode cX5_moves 8 = .ok (.iload_n 2, 1) := by decide +kernel
theorem dX5_moves_9 : decode cX5_moves 9 = .ok (.aload_n 0, 1) := by decide +kernel
theorem dX5_moves_10 : decode cX5_moves 10 = .ok (.iconst 1, 1) := by decide +kernel
theorem dX5_moves_11 : decode cX5_moves 11 = .ok (.iload_n 2, 1) := by decide +kernel
theorem dX5_moves_12 : decode cX5_moves 12 = .ok (.invokevirtual 257, 3) := by decide +kernel
theorem dX5_moves_15 : decode cX5_moves 15 = .ok (.invokevirtual 268, 3) := by decide +kernel
theorem dX5_moves_18 : decode cX5_moves 18 = .ok (.goto 126, 3) := by decide +kernel
theorem dX5_moves_21 : decode cX5_moves 21 = .ok (.iload_n 1, 1) := by decide +kernel
theorem dX5_moves_22 : decode cX5_moves 22 = .ok (.bipush 10, 2) := by decide +kernel
theorem dX5_moves_24 : decode cX5_moves 24 = .ok (.if_icmp .ne 36, 3) := by decide +kernel
theorem dX5_moves_27 : decode cX5_moves 27 = .ok (.aload_n 0, 1) := by decide +kernel
theorem dX5_moves_28 : decode cX5_moves 28 = .ok (.iconst 0, 1) := by decide +kernel
theorem dX5_moves_29 : decode cX5_moves 29 = .ok (.iload_n 2, 1) := by decide +kernel
theorem dX5_moves_30 : decode cX5_moves 30 = .ok (.invokevirtual 257, 3) := by decide +kernel
theorem dX5_moves_33 : decode cX5_moves 33 = .ok (.lstore_n 3, 1) := by decide +kernel
theorem dX5_moves_34 : decode cX5_moves 34 = .ok (.aload_n 0, 1) := by decide +kernel
theorem dX5_moves_35 : decode cX5_moves 35 = .ok (.iconst 1, 1) := by decide +kernel
theorem dX5_moves_36 : decode cX5_moves 36 = .ok (.iload_n 2, 1) := by decide +kernel
theorem dX5_moves_37 : decode cX5_moves 37 = .ok (.invokevirtual 257, 3) := by decide +kernel
theorem dX5_moves_40 : decode cX5_moves 40 = .ok (.lstore 5, 2) := by decide +kernel
theorem dX5_moves_42 : decode cX5_moves 42 = .ok (.aload_n 0, 1) := by decide +kernel
theorem dX5_moves_43 : decode cX5_moves 43 = .ok (.iconst 0, 1) := by decide +kernel
theorem dX5_moves_44 : decode cX5_moves 44 = .ok (.iload_n 2, 1) := by decide +kernel
theorem dX5_moves_45 : decode cX5_moves 45 = .ok (.lload 5, 2) := by decide +kernel
theorem dX5_moves_47 : decode cX5_moves 47 = .ok (.invokevirtual 268, 3) := by decide +kernel
theorem dX5_moves_50 : decode cX5_moves 50 = .ok (.aload_n 0, 1) := by decide +kernel
theorem dX5_moves_51 : decode cX5_moves 51 = .ok (.iconst 1, 1) := by decide +kernel
theorem dX5_moves_52 : decode cX5_moves 52 = .ok (.iload_n 2, 1) := by decide +kernel
theorem dX5_moves_53 : decode cX5_moves 53 = .ok (.lload_n 3, 1) := by decide +kernel
theorem dX5_moves_54 : decode cX5_moves 54 = .ok (.invokevirtual 268, 3) := by decide +kernel
theorem dX5_moves_57 : decode cX5_moves 57 = .ok (.goto 87, 3) := by decide +kernel
theorem dX5_moves_60 : decode cX5_moves 60 = .ok (.iload_n 1, 1) := by decide +kernel
theorem dX5_moves_61 : decode cX5_moves 61 = .ok (.bipush 11, 2) := by decide +kernel
theorem dX5_moves_63 : decode cX5_moves 63 = .ok (.if_icmp .ne 20, 3) := by decide +kernel
theorem dX5_moves_66 : decode cX5_moves 66 = .ok (.aload_n 0, 1) := by decide +kernel
theorem dX5_moves_67 : decode cX5_moves 67 = .ok (.iconst 0, 1) := by decide +kernel
theorem dX5_moves_68 : decode cX5_moves 68 = .ok (.iload_n 2, 1) := by decide +kernel
theorem dX5_moves_69 : decode cX5_moves 69 = .ok (.aload_n 0, 1) := by decide +kernel
theorem dX5_moves_70 : decode cX5_moves 70 = .ok (.invokevirtual 271, 3) := by decide +kernel
theorem dX5_moves_73 : decode cX5_moves 73 = .ok (.iload_n 2, 1) := by decide +kernel
theorem dX5_moves_74 : decode cX5_moves 74 = .ok (.invokestatic 200, 3) := by decide +kernel
theorem dX5_moves_77 : decode cX5_moves 77 = .ok (.invokevirtual 268, 3) := by decide +kernel
theorem dX5_moves_80 : decode cX5_moves 80 = .ok (.goto 64, 3) := by decide +kernel
theorem dX5_moves_83 : decode cX5_moves 83 = .ok (.iload_n 1, 1) := by decide +kernel
theorem dX5_moves_84 : decode cX5_moves 84 = .ok (.bipush 12, 2) := by decide +kernel
theorem dX5_moves_86 : decode cX5_moves 86 = .ok (.if_icmp .ne 18, 3) := by decide +kernel
theorem dX5_moves_89 : decode cX5_moves 89 = .ok (.aload_n 0, 1) := by decide +kernel
theorem dX5_moves_90 : decode cX5_moves 90 = .ok (.iconst 0, 1) := by decide +kernel
theorem dX5_moves_91 : decode cX5_moves 91 = .ok (.iload_n 2, 1) := by decide +kernel
theorem dX5_moves_92 : decode cX5_moves 92 = .ok (.aload_n 0, 1) := by decide +kernel
theorem dX5_moves_93 : decode cX5_moves 93 = .ok (.iconst 1, 1) := by decide +kernel
theorem dX5_moves_94 : decode cX5_moves 94 = .ok (.iconst 1, 1) := by decide +kernel
theorem dX5_moves_95 : decode cX5_moves 95 = .ok (.invokevirtual 257, 3) := by decide +kernel
theorem dX5_moves_98 : decode cX5_moves 98 = .ok (.invokevirtual 268, 3) := by decide +kernel
theorem dX5_moves_101 : decode cX5_moves 101 = .ok (.goto 43, 3) := by decide +kernel
theorem dX5_moves_104 : decode cX5_moves 104 = .ok (.aload_n 0, 1) := by decide +kernel
theorem dX5_moves_105 : decode cX5_moves 105 = .ok (.iconst 0, 1) := by decide +kernel
theorem dX5_moves_106 : decode cX5_moves 106 = .ok (.iload_n 2, 1) := by decide +kernel
theorem dX5_moves_107 : decode cX5_moves 107 = .ok (.aload_n 0, 1) := by decide +kernel
theorem dX5_moves_108 : decode cX5_moves 108 = .ok (.iconst 1, 1) := by decide +kernel
theorem dX5_moves_109 : decode cX5_moves 109 = .ok (.iload_n 1, 1) := by decide +kernel
theorem dX5_moves_110 : decode cX5_moves 110 = .ok (.bipush 13, 2) := by decide +kernel
theorem dX5_moves_112 : decode cX5_moves 112 = .ok (.if_icmp .ne 7, 3) := by decide +kernel
theorem dX5_moves_115 : decode cX5_moves 115 = .ok (.iconst 1, 1) := by decide +kernel
theorem dX5_moves_116 : decode cX5_moves 116 = .ok (.goto 4, 3) := by decide +kernel
theorem dX5_moves_119 : decode cX5_moves 119 = .ok (.iconst 4, 1) := by decide +kernel
theorem dX5_moves_120 : decode cX5_moves 120 = .ok (.invokevirtual 257, 3) := by decide +kernel
theorem dX5_moves_123 : decode cX5_moves 123 = .ok (.iload_n 1, 1) := by decide +kernel
theorem dX5_moves_124 : decode cX5_moves 124 = .ok (.bipush 13, 2) := by decide +kernel
theorem dX5_moves_126 : decode cX5_moves 126 = .ok (.if_icmp .ne 7, 3) := by decide +kernel
theorem dX5_moves_129 : decode cX5_moves 129 = .ok (.iconst 1, 1) := by decide +kernel
theorem dX5_moves_130 : decode cX5_moves 130 = .ok (.goto 4, 3) := by decide +kernel
theorem dX5_moves_133 : decode cX5_moves 133 = .ok (.iconst 4, 1) := by decide +kernel
theorem dX5_moves_134 : decode cX5_moves 134 = .ok (.invokestatic 274, 3) := by decide +kernel
theorem dX5_moves_137 : decode cX5_moves 137 = .ok (.iload_n 2, 1) := by decide +kernel
theorem dX5_moves_138 : decode cX5_moves 138 = .ok (.invokestatic 200, 3) := by decide +kernel
theorem dX5_moves_141 : decode cX5_moves 141 = .ok (.invokevirtual 268, 3) := by decide +kernel
theorem dX5_moves_144 : decode cX5_moves 144 = .ok (.return_, 1) := by decide +kernel
theorem dX5_signed_0 : decode cX5_signed 0 = .ok (.iload_n 2, 1) := by decide +kernel
theorem dX5_signed_1 : decode cX5_signed 1 = .ok (.bipush 8, 2) := by decide +kernel
theorem dX5_signed_3 : decode cX5_signed 3 = .ok (.if_icmp .ne 7, 3) := by decide +kernel
theorem dX5_signed_6 : decode cX5_signed 6 = .ok (.lload_n 0, 1) := by decide +kernel
theorem dX5_signed_7 : decode cX5_signed 7 = .ok (.goto 18, 3) := by decide +kernel
theorem dX5_signed_10 : decode cX5_signed 10 = .ok (.iload_n 2, 1) := by decide +kernel
theorem dX5_signed_11 : decode cX5_signed 11 = .ok (.iconst 4, 1) := by decide +kernel
theorem dX5_signed_12 : decode cX5_signed 12 = .ok (.if_icmp .ne 9, 3) := by decide +kernel
theorem dX5_signed_15 : decode cX5_signed 15 = .ok (.lload_n 0, 1) := by decide +kernel
theorem dX5_signed_16 : decode cX5_signed 16 = .ok (.l2i, 1) := by decide +kernel
theorem dX5_signed_17 : decode cX5_signed 17 = .ok (.i2l, 1) := by decide +kernel
theorem dX5_signed_18 : decode cX5_signed 18 = .ok (.goto 7, 3) := by decide +kernel
theorem dX5_signed_21 : decode cX5_signed 21 = .ok (.lload_n 0, 1) := by decide +kernel
theorem dX5_signed_22 : decode cX5_signed 22 = .ok (.l2i, 1) := by decide +kernel
theorem dX5_signed_23 : decode cX5_signed 23 = .ok (.i2b, 1) := by decide +kernel
theorem dX5_signed_24 : decode cX5_signed 24 = .ok (.i2l, 1) := by decide +kernel
theorem dX5_signed_25 : decode cX5_signed 25 = .ok (.lreturn, 1) := by decide +kernel
theorem dX5_single_0 : decode cX5_single 0 = .ok (.aload_n 0, 1) := by decide +kernel
theorem dX5_single_1 : decode cX5_single 1 = .ok (.iconst 0, 1) := by decide +kernel
theorem dX5_single_2 : decode cX5_single 2 = .ok (.iload_n 2, 1) := by decide +kernel
theorem dX5_single_3 : decode cX5_single 3 = .ok (.invokevirtual 257, 3) := by decide +kernel
theorem dX5_single_6 : decode cX5_single 6 = .ok (.lstore_n 3, 1) := by decide +kernel
theorem dX5_single_7 : decode cX5_single 7 = .ok (.aload_n 0, 1) := by decide +kernel
theorem dX5_single_8 : decode cX5_single 8 = .ok (.getfield 237, 3) := by decide +kernel
theorem dX5_single_11 : decode cX5_single 11 = .ok (.istore 5, 2) := by decide +kernel
theorem dX5_single_13 : decode cX5_single 13 = .ok (.iload_n 1, 1) := by decide +kernel
theorem dX5_single_14 : decode cX5_single 14 = .ok (.bipush 15, 2) := by decide +kernel
theorem dX5_single_16 : decode cX5_single 16 = .ok (.if_icmp .ne 15, 3) := by decide +kernel
theorem dX5_single_19 : decode cX5_single 19 = .ok (.lload_n 3, 1) := by decide +kernel
theorem dX5_single_20 : decode cX5_single 20 = .ok (.ldc2_w 277, 3) := by decide +kernel
theorem dX5_single_23 : decode cX5_single 23 = .ok (.lxor, 1) := by decide +kernel
theorem dX5_single_24 : decode cX5_single 24 = .ok (.iload_n 2, 1) := by decide +kernel
theorem dX5_single_25 : decode cX5_single 25 = .ok (.invokestatic 200, 3) := by decide +kernel
theorem dX5_single_28 : decode cX5_single 28 = .ok (.goto 4, 3) := by decide +kernel
theorem dX5_single_31 : decode cX5_single 31 = .ok (.lconst 0, 1) := by decide +kernel
theorem dX5_single_32 : decode cX5_single 32 = .ok (.lstore 6, 2) := by decide +kernel
theorem dX5_single_34 : decode cX5_single 34 = .ok (.iload_n 1, 1) := by decide +kernel
theorem dX5_single_35 : decode cX5_single 35 = .ok (.bipush 16, 2) := by decide +kernel
theorem dX5_single_37 : decode cX5_single 37 = .ok (.if_icmp .ne 13, 3) := by decide +kernel
theorem dX5_single_40 : decode cX5_single 40 = .ok (.aload_n 0, 1) := by decide +kernel
theorem dX5_single_41 : decode cX5_single 41 = .ok (.lconst 0, 1) := by decide +kernel
theorem dX5_single_42 : decode cX5_single 42 = .ok (.lload_n 3, 1) := by decide +kernel
theorem dX5_single_43 : decode cX5_single 43 = .ok (.iconst 0, 1) := by decide +kernel
theorem dX5_single_44 : decode cX5_single 44 = .ok (.iload_n 2, 1) := by decide +kernel
theorem dX5_single_45 : decode cX5_single 45 = .ok (.invokevirtual 265, 3) := by decide +kernel
theorem dX5_single_48 : decode cX5_single 48 = .ok (.lstore 6, 2) := by decide +kernel
theorem dX5_single_50 : decode cX5_single 50 = .ok (.iload_n 1, 1) := by decide +kernel
theorem dX5_single_51 : decode cX5_single 51 = .ok (.bipush 21, 2) := by decide +kernel
theorem dX5_single_53 : decode cX5_single 53 = .ok (.if_icmp .ne 13, 3) := by decide +kernel
theorem dX5_single_56 : decode cX5_single 56 = .ok (.aload_n 0, 1) := by decide +kernel
theorem dX5_single_57 : decode cX5_single 57 = .ok (.lload_n 3, 1) := by decide +kernel
theorem dX5_single_58 : decode cX5_single 58 = .ok (.lconst 1, 1) := by decide +kernel
theorem dX5_single_59 : decode cX5_single 59 = .ok (.iconst 0, 1) := by decide +kernel
theorem dX5_single_60 : decode cX5_single 60 = .ok (.iload_n 2, 1) := by decide +kernel
theorem dX5_single_61 : decode cX5_single 61 = .ok (.invokevirtual 261, 3) := by decide +kernel
theorem dX5_single_64 : decode cX5_single 64 = .ok (.lstore 6, 2) := by decide +kernel
theorem dX5_single_66 : decode cX5_single 66 = .ok (.iload_n 1, 1) := by decide +kernel
theorem dX5_single_67 : decode cX5_single 67 = .ok (.bipush 22, 2) := by decide +kernel
theorem dX5_single_69 : decode cX5_single 69 = .ok (.if_icmp .ne 13, 3) := by decide +kernel
theorem dX5_single_72 : decode cX5_single 72 = .ok (.aload_n 0, 1) := by decide +kernel
theorem dX5_single_73 : decode cX5_single 73 = .ok (.lload_n 3, 1) := by decide +kernel
theorem dX5_single_74 : decode cX5_single 74 = .ok (.lconst 1, 1) := by decide +kernel
theorem dX5_single_75 : decode cX5_single 75 = .ok (.iconst 0, 1) := by decide +kernel
theorem dX5_single_76 : decode cX5_single 76 = .ok (.iload_n 2, 1) := by decide +kernel
theorem dX5_single_77 : decode cX5_single 77 = .ok (.invokevirtual 265, 3) := by decide +kernel
theorem dX5_single_80 : decode cX5_single 80 = .ok (.lstore 6, 2) := by decide +kernel
theorem dX5_single_82 : decode cX5_single 82 = .ok (.iload_n 1, 1) := by decide +kernel
theorem dX5_single_83 : decode cX5_single 83 = .ok (.bipush 20, 2) := by decide +kernel
theorem dX5_single_85 : decode cX5_single 85 = .ok (.if_icmp .le 9, 3) := by decide +kernel
theorem dX5_single_88 : decode cX5_single 88 = .ok (.aload_n 0, 1) := by decide +kernel
theorem dX5_single_89 : decode cX5_single 89 = .ok (.iload 5, 2) := by decide +kernel
theorem dX5_single_91 : decode cX5_single 91 = .ok (.putfield 237, 3) := by decide +kernel
theorem dX5_single_94 : decode cX5_single 94 = .ok (.aload_n 0, 1) := by decide +kernel
theorem dX5_single_95 : decode cX5_single 95 = .ok (.iconst 0, 1) := by decide +kernel
theorem dX5_single_96 : decode cX5_single 96 = .ok (.iload_n 2, 1) := by decide +kernel
theorem dX5_single_97 : decode cX5_single 97 = .ok (.lload 6, 2) := by decide +kernel
theorem dX5_single_99 : decode cX5_single 99 = .ok (.invokevirtual 268, 3) := by decide +kernel
theorem dX5_single_102 : decode cX5_single 102 = .ok (.return_, 1) := by decide +kernel
theorem dX5_multiply_0 : decode cX5_multiply 0 = .ok (.aload_n 0, 1) := by decide +kernel
theorem dX5_multiply_1 : decode cX5_multiply 1 = .ok (.iconst 0, 1) := by decide +kernel
theorem dX5_multiply_2 : decode cX5_multiply 2 = .ok (.iload_n 2, 1) := by decide +kernel
theorem dX5_multiply_3 : decode cX5_multiply 3 = .ok (.invokevirtual 257, 3) := by decide +kernel
theorem dX5_multiply_6 : decode cX5_multiply 6 = .ok (.lstore_n 3, 1) := by decide +kernel
theorem dX5_multiply_7 : decode cX5_multiply 7 = .ok (.aload_n 0, 1) := by decide +kernel
theorem dX5_multiply_8 : decode cX5_multiply 8 = .ok (.getfield 30, 3) := by decide +kernel
theorem dX5_multiply_11 : decode cX5_multiply 11 = .ok (.iconst 0, 1) := by decide +kernel
theorem dX5_multiply_12 : decode cX5_multiply 12 = .ok (.laload, 1) := by decide +kernel
theorem dX5_multiply_13 : decode cX5_multiply 13 = .ok (.iload_n 2, 1) := by decide +kernel
theorem dX5_multiply_14 : decode cX5_multiply 14 = .ok (.invokestatic 200, 3) := by decide +kernel
theorem dX5_multiply_17 : decode cX5_multiply 17 = .ok (.lstore 5, 2) := by decide +kernel
theorem dX5_multiply_19 : decode cX5_multiply 19 = .ok (.iload_n 1, 1) := by decide +kernel
theorem dX5_multiply_20 : decode cX5_multiply 20 = .ok (.ifCond .eq 18, 3) := by decide +kernel
theorem dX5_multiply_23 : decode cX5_multiply 23 = .ok (.lload 5, 2) := by decide +kernel
theorem dX5_multiply_25 : decode cX5_multiply 25 = .ok (.iload_n 2, 1) := by decide +kernel
theorem dX5_multiply_26 : decode cX5_multiply 26 = .ok (.invokestatic 274, 3) := by decide +kernel
theorem dX5_multiply_29 : decode cX5_multiply 29 = .ok (.lload_n 3, 1) := by decide +kernel
theorem dX5_multiply_30 : decode cX5_multiply 30 = .ok (.iload_n 2, 1) := by decide +kernel
theorem dX5_multiply_31 : decode cX5_multiply 31 = .ok (.invokestatic 274, 3) := by decide +kernel
theorem dX5_multiply_34 : decode cX5_multiply 34 = .ok (.lmul, 1) := by decide +kernel
theorem dX5_multiply_35 : decode cX5_multiply 35 = .ok (.goto 7, 3) := by decide +kernel
theorem dX5_multiply_38 : decode cX5_multiply 38 = .ok (.lload 5, 2) := by decide +kernel
theorem dX5_multiply_40 : decode cX5_multiply 40 = .ok (.lload_n 3, 1) := by decide +kernel
theorem dX5_multiply_41 : decode cX5_multiply 41 = .ok (.lmul, 1) := by decide +kernel
theorem dX5_multiply_42 : decode cX5_multiply 42 = .ok (.lstore 7, 2) := by decide +kernel
theorem dX5_multiply_44 : decode cX5_multiply 44 = .ok (.iload_n 2, 1) := by decide +kernel
theorem dX5_multiply_45 : decode cX5_multiply 45 = .ok (.iconst 1, 1) := by decide +kernel
theorem dX5_multiply_46 : decode cX5_multiply 46 = .ok (.if_icmp .ne 70, 3) := by decide +kernel
theorem dX5_multiply_49 : decode cX5_multiply 49 = .ok (.aload_n 0, 1) := by decide +kernel
theorem dX5_multiply_50 : decode cX5_multiply 50 = .ok (.getfield 30, 3) := by decide +kernel
theorem dX5_multiply_53 : decode cX5_multiply 53 = .ok (.iconst 0, 1) := by decide +kernel
theorem dX5_multiply_54 : decode cX5_multiply 54 = .ok (.aload_n 0, 1) := by decide +kernel
theorem dX5_multiply_55 : decode cX5_multiply 55 = .ok (.getfield 30, 3) := by decide +kernel
theorem dX5_multiply_58 : decode cX5_multiply 58 = .ok (.iconst 0, 1) := by decide +kernel
theorem dX5_multiply_59 : decode cX5_multiply 59 = .ok (.laload, 1) := by decide +kernel
theorem dX5_multiply_60 : decode cX5_multiply 60 = .ok (.ldc2_w 285, 3) := by decide +kernel
theorem dX5_multiply_63 : decode cX5_multiply 63 = .ok (.land, 1) := by decide +kernel
theorem dX5_multiply_64 : decode cX5_multiply 64 = .ok (.lload 7, 2) := by decide +kernel
theorem dX5_multiply_66 : decode cX5_multiply 66 = .ok (.ldc2_w 147, 3) := by decide +kernel
theorem dX5_multiply_69 : decode cX5_multiply 69 = .ok (.land, 1) := by decide +kernel
theorem dX5_multiply_70 : decode cX5_multiply 70 = .ok (.lor, 1) := by decide +kernel
theorem dX5_multiply_71 : decode cX5_multiply 71 = .ok (.lastore, 1) := by decide +kernel
theorem dX5_multiply_72 : decode cX5_multiply 72 = .ok (.aload_n 0, 1) := by decide +kernel
theorem dX5_multiply_73 : decode cX5_multiply 73 = .ok (.iload_n 1, 1) := by decide +kernel
theorem dX5_multiply_74 : decode cX5_multiply 74 = .ok (.ifCond .eq 22, 3) := by decide +kernel
theorem dX5_multiply_77 : decode cX5_multiply 77 = .ok (.lload 7, 2) := by decide +kernel
theorem dX5_multiply_79 : decode cX5_multiply 79 = .ok (.lload 7, 2) := by decide +kernel
theorem dX5_multiply_81 : decode cX5_multiply 81 = .ok (.l2i, 1) := by decide +kernel
theorem dX5_multiply_82 : decode cX5_multiply 82 = .ok (.i2b, 1) := by decide +kernel
theorem dX5_multiply_83 : decode cX5_multiply 83 = .ok (.i2l, 1) := by decide +kernel
theorem dX5_multiply_84 : decode cX5_multiply 84 = .ok (.lcmp, 1) := by decide +kernel
theorem dX5_multiply_85 : decode cX5_multiply 85 = .ok (.ifCond .eq 7, 3) := by decide +kernel
theorem dX5_multiply_88 : decode cX5_multiply 88 = .ok (.iconst 1, 1) := by decide +kernel
theorem dX5_multiply_89 : decode cX5_multiply 89 = .ok (.goto 21, 3) := by decide +kernel
theorem dX5_multiply_92 : decode cX5_multiply 92 = .ok (.iconst 0, 1) := by decide +kernel
theorem dX5_multiply_93 : decode cX5_multiply 93 = .ok (.goto 17, 3) := by decide +kernel
theorem dX5_multiply_96 : decode cX5_multiply 96 = .ok (.lload 7, 2) := by decide +kernel
theorem dX5_multiply_98 : decode cX5_multiply 98 = .ok (.ldc2_w 145, 3) := by decide +kernel
theorem dX5_multiply_101 : decode cX5_multiply 101 = .ok (.lcmp, 1) := by decide +kernel
theorem dX5_multiply_102 : decode cX5_multiply 102 = .ok (.ifCond .le 7, 3) := by decide +kernel
theorem dX5_multiply_105 : decode cX5_multiply 105 = .ok (.iconst 1, 1) := by decide +kernel
theorem dX5_multiply_106 : decode cX5_multiply 106 = .ok (.goto 4, 3) := by decide +kernel
theorem dX5_multiply_109 : decode cX5_multiply 109 = .ok (.iconst 0, 1) := by decide +kernel
theorem dX5_multiply_110 : decode cX5_multiply 110 = .ok (.putfield 237, 3) := by decide +kernel
theorem dX5_multiply_113 : decode cX5_multiply 113 = .ok (.goto 147, 3) := by decide +kernel
theorem dX5_multiply_116 : decode cX5_multiply 116 = .ok (.iload_n 2, 1) := by decide +kernel
theorem dX5_multiply_117 : decode cX5_multiply 117 = .ok (.iconst 4, 1) := by decide +kernel
theorem dX5_multiply_118 : decode cX5_multiply 118 = .ok (.if_icmp .ne 66, 3) := by decide +kernel
theorem dX5_multiply_121 : decode cX5_multiply 121 = .ok (.aload_n 0, 1) := by decide +kernel
theorem dX5_multiply_122 : decode cX5_multiply 122 = .ok (.iconst 0, 1) := by decide +kernel
theorem dX5_multiply_123 : decode cX5_multiply 123 = .ok (.iconst 4, 1) := by decide +kernel
theorem dX5_multiply_124 : decode cX5_multiply 124 = .ok (.lload 7, 2) := by decide +kernel
theorem dX5_multiply_126 : decode cX5_multiply 126 = .ok (.invokevirtual 212, 3) := by decide +kernel
theorem dX5_multiply_129 : decode cX5_multiply 129 = .ok (.aload_n 0, 1) := by decide +kernel
theorem dX5_multiply_130 : decode cX5_multiply 130 = .ok (.iconst 2, 1) := by decide +kernel
theorem dX5_multiply_131 : decode cX5_multiply 131 = .ok (.iconst 4, 1) := by decide +kernel
theorem dX5_multiply_132 : decode cX5_multiply 132 = .ok (.lload 7, 2) := by decide +kernel
theorem dX5_multiply_134 : decode cX5_multiply 134 = .ok (.bipush 32, 2) := by decide +kernel
theorem dX5_multiply_136 : decode cX5_multiply 136 = .ok (.lushr, 1) := by decide +kernel
theorem dX5_multiply_137 : decode cX5_multiply 137 = .ok (.invokevirtual 212, 3) := by decide +kernel
theorem dX5_multiply_140 : decode cX5_multiply 140 = .ok (.aload_n 0, 1) := by decide +kernel
theorem dX5_multiply_141 : decode cX5_multiply 141 = .ok (.iload_n 1, 1) := by decide +kernel
theorem dX5_multiply_142 : decode cX5_multiply 142 = .ok (.ifCond .eq 21, 3) := by decide +kernel
theorem dX5_multiply_145 : decode cX5_multiply 145 = .ok (.lload 7, 2) := by decide +kernel
theorem dX5_multiply_147 : decode cX5_multiply 147 = .ok (.lload 7, 2) := by decide +kernel
theorem dX5_multiply_149 : decode cX5_multiply 149 = .ok (.l2i, 1) := by decide +kernel
theorem dX5_multiply_150 : decode cX5_multiply 150 = .ok (.i2l, 1) := by decide +kernel
theorem dX5_multiply_151 : decode cX5_multiply 151 = .ok (.lcmp, 1) := by decide +kernel
theorem dX5_multiply_152 : decode cX5_multiply 152 = .ok (.ifCond .eq 7, 3) := by decide +kernel
theorem dX5_multiply_155 : decode cX5_multiply 155 = .ok (.iconst 1, 1) := by decide +kernel
theorem dX5_multiply_156 : decode cX5_multiply 156 = .ok (.goto 22, 3) := by decide +kernel
theorem dX5_multiply_159 : decode cX5_multiply 159 = .ok (.iconst 0, 1) := by decide +kernel
theorem dX5_multiply_160 : decode cX5_multiply 160 = .ok (.goto 18, 3) := by decide +kernel
theorem dX5_multiply_163 : decode cX5_multiply 163 = .ok (.lload 7, 2) := by decide +kernel
theorem dX5_multiply_165 : decode cX5_multiply 165 = .ok (.bipush 32, 2) := by decide +kernel
theorem dX5_multiply_167 : decode cX5_multiply 167 = .ok (.lushr, 1) := by decide +kernel
theorem dX5_multiply_168 : decode cX5_multiply 168 = .ok (.lconst 0, 1) := by decide +kernel
theorem dX5_multiply_169 : decode cX5_multiply 169 = .ok (.lcmp, 1) := by decide +kernel
theorem dX5_multiply_170 : decode cX5_multiply 170 = .ok (.ifCond .eq 7, 3) := by decide +kernel
theorem dX5_multiply_173 : decode cX5_multiply 173 = .ok (.iconst 1, 1) := by decide +kernel
theorem dX5_multiply_174 : decode cX5_multiply 174 = .ok (.goto 4, 3) := by decide +kernel
theorem dX5_multiply_177 : decode cX5_multiply 177 = .ok (.iconst 0, 1) := by decide +kernel
theorem dX5_multiply_178 : decode cX5_multiply 178 = .ok (.putfield 237, 3) := by decide +kernel
theorem dX5_multiply_181 : decode cX5_multiply 181 = .ok (.goto 79, 3) := by decide +kernel
theorem dX5_multiply_184 : decode cX5_multiply 184 = .ok (.iload_n 1, 1) := by decide +kernel
theorem dX5_multiply_185 : decode cX5_multiply 185 = .ok (.ifCond .eq 12, 3) := by decide +kernel
theorem dX5_multiply_188 : decode cX5_multiply 188 = .ok (.lload 5, 2) := by decide +kernel
theorem dX5_multiply_190 : decode cX5_multiply 190 = .ok (.lload_n 3, 1) := by decide +kernel
theorem dX5_multiply_191 : decode cX5_multiply 191 = .ok (.invokestatic 287, 3) := by decide +kernel
theorem dX5_multiply_194 : decode cX5_multiply 194 = .ok (.goto 9, 3) := by decide +kernel
theorem dX5_multiply_197 : decode cX5_multiply 197 = .ok (.lload 5, 2) := by decide +kernel
theorem dX5_multiply_199 : decode cX5_multiply 199 = .ok (.lload_n 3, 1) := by decide +kernel
theorem dX5_multiply_200 : decode cX5_multiply 200 = .ok (.invokestatic 281, 3) := by decide +kernel
theorem dX5_multiply_203 : decode cX5_multiply 203 = .ok (.lstore 9, 2) := by decide +kernel
theorem dX5_multiply_205 : decode cX5_multiply 205 = .ok (.aload_n 0, 1) := by decide +kernel
theorem dX5_multiply_206 : decode cX5_multiply 206 = .ok (.getfield 30, 3) := by decide +kernel
theorem dX5_multiply_209 : decode cX5_multiply 209 = .ok (.iconst 0, 1) := by decide +kernel
theorem dX5_multiply_210 : decode cX5_multiply 210 = .ok (.lload 7, 2) := by decide +kernel
theorem dX5_multiply_212 : decode cX5_multiply 212 = .ok (.lastore, 1) := by decide +kernel
theorem dX5_multiply_213 : decode cX5_multiply 213 = .ok (.aload_n 0, 1) := by decide +kernel
theorem dX5_multiply_214 : decode cX5_multiply 214 = .ok (.getfield 30, 3) := by decide +kernel
theorem dX5_multiply_217 : decode cX5_multiply 217 = .ok (.iconst 2, 1) := by decide +kernel
theorem dX5_multiply_218 : decode cX5_multiply 218 = .ok (.lload 9, 2) := by decide +kernel
theorem dX5_multiply_220 : decode cX5_multiply 220 = .ok (.lastore, 1) := by decide +kernel
theorem dX5_multiply_221 : decode cX5_multiply 221 = .ok (.aload_n 0, 1) := by decide +kernel
theorem dX5_multiply_222 : decode cX5_multiply 222 = .ok (.iload_n 1, 1) := by decide +kernel
theorem dX5_multiply_223 : decode cX5_multiply 223 = .ok (.ifCond .eq 22, 3) := by decide +kernel
theorem dX5_multiply_226 : decode cX5_multiply 226 = .ok (.lload 9, 2) := by decide +kernel
theorem dX5_multiply_228 : decode cX5_multiply 228 = .ok (.lload 7, 2) := by decide +kernel
theorem dX5_multiply_230 : decode cX5_multiply 230 = .ok (.bipush 63, 2) := by decide +kernel
theorem dX5_multiply_232 : decode cX5_multiply 232 = .ok (.lshr, 1) := by decide +kernel
theorem dX5_multiply_233 : decode cX5_multiply 233 = .ok (.lcmp, 1) := by decide +kernel
theorem dX5_multiply_234 : decode cX5_multiply 234 = .ok (.ifCond .eq 7, 3) := by decide +kernel
theorem dX5_multiply_237 : decode cX5_multiply 237 = .ok (.iconst 1, 1) := by decide +kernel
theorem dX5_multiply_238 : decode cX5_multiply 238 = .ok (.goto 19, 3) := by decide +kernel
theorem dX5_multiply_241 : decode cX5_multiply 241 = .ok (.iconst 0, 1) := by decide +kernel
theorem dX5_multiply_242 : decode cX5_multiply 242 = .ok (.goto 15, 3) := by decide +kernel
theorem dX5_multiply_245 : decode cX5_multiply 245 = .ok (.lload 9, 2) := by decide +kernel
theorem dX5_multiply_247 : decode cX5_multiply 247 = .ok (.lconst 0, 1) := by decide +kernel
theorem dX5_multiply_248 : decode cX5_multiply 248 = .ok (.lcmp, 1) := by decide +kernel
theorem dX5_multiply_249 : decode cX5_multiply 249 = .ok (.ifCond .eq 7, 3) := by decide +kernel
theorem dX5_multiply_252 : decode cX5_multiply 252 = .ok (.iconst 1, 1) := by decide +kernel
theorem dX5_multiply_253 : decode cX5_multiply 253 = .ok (.goto 4, 3) := by decide +kernel
theorem dX5_multiply_256 : decode cX5_multiply 256 = .ok (.iconst 0, 1) := by decide +kernel
theorem dX5_multiply_257 : decode cX5_multiply 257 = .ok (.putfield 237, 3) := by decide +kernel
theorem dX5_multiply_260 : decode cX5_multiply 260 = .ok (.aload_n 0, 1) := by decide +kernel
theorem dX5_multiply_261 : decode cX5_multiply 261 = .ok (.aload_n 0, 1) := by decide +kernel
theorem dX5_multiply_262 : decode cX5_multiply 262 = .ok (.getfield 237, 3) := by decide +kernel
theorem dX5_multiply_265 : decode cX5_multiply 265 = .ok (.putfield 240, 3) := by decide +kernel
theorem dX5_multiply_268 : decode cX5_multiply 268 = .ok (.return_, 1) := by decide +kernel
theorem dX5_highSigned_0 : decode cX5_highSigned 0 = .ok (.lload_n 0, 1) := by decide +kernel
theorem dX5_highSigned_1 : decode cX5_highSigned 1 = .ok (.lload_n 2, 1) := by decide +kernel
theorem dX5_highSigned_2 : decode cX5_highSigned 2 = .ok (.invokestatic 281, 3) := by decide +kernel
theorem dX5_highSigned_5 : decode cX5_highSigned 5 = .ok (.lload_n 0, 1) := by decide +kernel
theorem dX5_highSigned_6 : decode cX5_highSigned 6 = .ok (.lconst 0, 1) := by decide +kernel
theorem dX5_highSigned_7 : decode cX5_highSigned 7 = .ok (.lcmp, 1) := by decide +kernel
theorem dX5_highSigned_8 : decode cX5_highSigned 8 = .ok (.ifCond .ge 7, 3) := by decide +kernel
theorem dX5_highSigned_11 : decode cX5_highSigned 11 = .ok (.lload_n 2, 1) := by decide +kernel
theorem dX5_highSigned_12 : decode cX5_highSigned 12 = .ok (.goto 4, 3) := by decide +kernel
theorem dX5_highSigned_15 : decode cX5_highSigned 15 = .ok (.lconst 0, 1) := by decide +kernel
theorem dX5_highSigned_16 : decode cX5_highSigned 16 = .ok (.lsub, 1) := by decide +kernel
theorem dX5_highSigned_17 : decode cX5_highSigned 17 = .ok (.lload_n 2, 1) := by decide +kernel
theorem dX5_highSigned_18 : decode cX5_highSigned 18 = .ok (.lconst 0, 1) := by decide +kernel
theorem dX5_highSigned_19 : decode cX5_highSigned 19 = .ok (.lcmp, 1) := by decide +kernel
theorem dX5_highSigned_20 : decode cX5_highSigned 20 = .ok (.ifCond .ge 7, 3) := by decide +kernel
theorem dX5_highSigned_23 : decode cX5_highSigned 23 = .ok (.lload_n 0, 1) := by decide +kernel
theorem dX5_highSigned_24 : decode cX5_highSigned 24 = .ok (.goto 4, 3) := by decide +kernel
theorem dX5_highSigned_27 : decode cX5_highSigned 27 = .ok (.lconst 0, 1) := by decide +kernel
theorem dX5_highSigned_28 : decode cX5_highSigned 28 = .ok (.lsub, 1) := by decide +kernel
theorem dX5_highSigned_29 : decode cX5_highSigned 29 = .ok (.lreturn, 1) := by decide +kernel
theorem dX5_highUnsigned_0 : decode cX5_highUnsigned 0 = .ok (.lload_n 0, 1) := by decide +kernel
theorem dX5_highUnsigned_1 : decode cX5_highUnsigned 1 = .ok (.ldc2_w 192, 3) := by decide +kernel
theorem dX5_highUnsigned_4 : decode cX5_highUnsigned 4 = .ok (.land, 1) := by decide +kernel
theorem dX5_highUnsigned_5 : decode cX5_highUnsigned 5 = .ok (.lstore 4, 2) := by decide +kernel
theorem dX5_highUnsigned_7 : decode cX5_highUnsigned 7 = .ok (.lload_n 0, 1) := by decide +kernel
theorem dX5_highUnsigned_8 : decode cX5_highUnsigned 8 = .ok (.bipush 32, 2) := by decide +kernel
theorem dX5_highUnsigned_10 : decode cX5_highUnsigned 10 = .ok (.lushr, 1) := by decide +kernel
theorem dX5_highUnsigned_11 : decode cX5_highUnsigned 11 = .ok (.lstore 6, 2) := by decide +kernel
theorem dX5_highUnsigned_13 : decode cX5_highUnsigned 13 = .ok (.lload_n 2, 1) := by decide +kernel
theorem dX5_highUnsigned_14 : decode cX5_highUnsigned 14 = .ok (.ldc2_w 192, 3) := by decide +kernel
theorem dX5_highUnsigned_17 : decode cX5_highUnsigned 17 = .ok (.land, 1) := by decide +kernel
theorem dX5_highUnsigned_18 : decode cX5_highUnsigned 18 = .ok (.lstore 8, 2) := by decide +kernel
theorem dX5_highUnsigned_20 : decode cX5_highUnsigned 20 = .ok (.lload_n 2, 1) := by decide +kernel
theorem dX5_highUnsigned_21 : decode cX5_highUnsigned 21 = .ok (.bipush 32, 2) := by decide +kernel
theorem dX5_highUnsigned_23 : decode cX5_highUnsigned 23 = .ok (.lushr, 1) := by decide +kernel
theorem dX5_highUnsigned_24 : decode cX5_highUnsigned 24 = .ok (.lstore 10, 2) := by decide +kernel
theorem dX5_highUnsigned_26 : decode cX5_highUnsigned 26 = .ok (.lload 4, 2) := by decide +kernel
theorem dX5_highUnsigned_28 : decode cX5_highUnsigned 28 = .ok (.lload 8, 2) := by decide +kernel
theorem dX5_highUnsigned_30 : decode cX5_highUnsigned 30 = .ok (.lmul, 1) := by decide +kernel
theorem dX5_highUnsigned_31 : decode cX5_highUnsigned 31 = .ok (.lstore 12, 2) := by decide +kernel
theorem dX5_highUnsigned_33 : decode cX5_highUnsigned 33 = .ok (.lload 6, 2) := by decide +kernel
theorem dX5_highUnsigned_35 : decode cX5_highUnsigned 35 = .ok (.lload 8, 2) := by decide +kernel
theorem dX5_highUnsigned_37 : decode cX5_highUnsigned 37 = .ok (.lmul, 1) := by decide +kernel
theorem dX5_highUnsigned_38 : decode cX5_highUnsigned 38 = .ok (.lload 12, 2) := by decide +kernel
theorem dX5_highUnsigned_40 : decode cX5_highUnsigned 40 = .ok (.bipush 32, 2) := by decide +kernel
theorem dX5_highUnsigned_42 : decode cX5_highUnsigned 42 = .ok (.lushr, 1) := by decide +kernel
theorem dX5_highUnsigned_43 : decode cX5_highUnsigned 43 = .ok (.ladd, 1) := by decide +kernel
theorem dX5_highUnsigned_44 : decode cX5_highUnsigned 44 = .ok (.lstore 14, 2) := by decide +kernel
theorem dX5_highUnsigned_46 : decode cX5_highUnsigned 46 = .ok (.lload 4, 2) := by decide +kernel
theorem dX5_highUnsigned_48 : decode cX5_highUnsigned 48 = .ok (.lload 10, 2) := by decide +kernel
theorem dX5_highUnsigned_50 : decode cX5_highUnsigned 50 = .ok (.lmul, 1) := by decide +kernel
theorem dX5_highUnsigned_51 : decode cX5_highUnsigned 51 = .ok (.lload 14, 2) := by decide +kernel
theorem dX5_highUnsigned_53 : decode cX5_highUnsigned 53 = .ok (.ldc2_w 192, 3) := by decide +kernel
theorem dX5_highUnsigned_56 : decode cX5_highUnsigned 56 = .ok (.land, 1) := by decide +kernel
theorem dX5_highUnsigned_57 : decode cX5_highUnsigned 57 = .ok (.ladd, 1) := by decide +kernel
theorem dX5_highUnsigned_58 : decode cX5_highUnsigned 58 = .ok (.lstore 16, 2) := by decide +kernel
theorem dX5_highUnsigned_60 : decode cX5_highUnsigned 60 = .ok (.lload 6, 2) := by decide +kernel
theorem dX5_highUnsigned_62 : decode cX5_highUnsigned 62 = .ok (.lload 10, 2) := by decide +kernel
theorem dX5_highUnsigned_64 : decode cX5_highUnsigned 64 = .ok (.lmul, 1) := by decide +kernel
theorem dX5_highUnsigned_65 : decode cX5_highUnsigned 65 = .ok (.lload 14, 2) := by decide +kernel
theorem dX5_highUnsigned_67 : decode cX5_highUnsigned 67 = .ok (.bipush 32, 2) := by decide +kernel
theorem dX5_highUnsigned_69 : decode cX5_highUnsigned 69 = .ok (.lushr, 1) := by decide +kernel
theorem dX5_highUnsigned_70 : decode cX5_highUnsigned 70 = .ok (.ladd, 1) := by decide +kernel
theorem dX5_highUnsigned_71 : decode cX5_highUnsigned 71 = .ok (.lload 16, 2) := by decide +kernel
theorem dX5_highUnsigned_73 : decode cX5_highUnsigned 73 = .ok (.bipush 32, 2) := by decide +kernel
theorem dX5_highUnsigned_75 : decode cX5_highUnsigned 75 = .ok (.lushr, 1) := by decide +kernel
theorem dX5_highUnsigned_76 : decode cX5_highUnsigned 76 = .ok (.ladd, 1) := by decide +kernel
theorem dX5_highUnsigned_77 : decode cX5_highUnsigned 77 = .ok (.lreturn, 1) := by decide +kernel
theorem dX5_divide_0 : decode cX5_divide 0 = .ok (.aload_n 0, 1) := by decide +kernel
theorem dX5_divide_1 : decode cX5_divide 1 = .ok (.iconst 0, 1) := by decide +kernel
theorem dX5_divide_2 : decode cX5_divide 2 = .ok (.iload_n 2, 1) := by decide +kernel
theorem dX5_divide_3 : decode cX5_divide 3 = .ok (.invokevirtual 257, 3) := by decide +kernel
theorem dX5_divide_6 : decode cX5_divide 6 = .ok (.lstore_n 3, 1) := by decide +kernel
theorem dX5_divide_7 : decode cX5_divide 7 = .ok (.aload_n 0, 1) := by decide +kernel
theorem dX5_divide_8 : decode cX5_divide 8 = .ok (.getfield 170, 3) := by decide +kernel
theorem dX5_divide_11 : decode cX5_divide 11 = .ok (.ifCond .ne 15, 3) := by decide +kernel
theorem dX5_divide_14 : decode cX5_divide 14 = .ok (.lload_n 3, 1) := by decide +kernel
theorem dX5_divide_15 : decode cX5_divide 15 = .ok (.lconst 0, 1) := by decide +kernel
theorem dX5_divide_16 : decode cX5_divide 16 = .ok (.lcmp, 1) := by decide +kernel
theorem dX5_divide_17 : decode cX5_divide 17 = .ok (.ifCond .ne 9, 3) := by decide +kernel
theorem dX5_divide_20 : decode cX5_divide 20 = .ok (.aload_n 0, 1) := by decide +kernel
theorem dX5_divide_21 : decode cX5_divide 21 = .ok (.iconst 5, 1) := by decide +kernel
theorem dX5_divide_22 : decode cX5_divide 22 = .ok (.lconst 0, 1) := by decide +kernel
theorem dX5_divide_23 : decode cX5_divide 23 = .ok (.invokevirtual 180, 3) := by decide +kernel
theorem dX5_divide_26 : decode cX5_divide 26 = .ok (.aload_n 0, 1) := by decide +kernel
theorem dX5_divide_27 : decode cX5_divide 27 = .ok (.getfield 170, 3) := by decide +kernel
theorem dX5_divide_30 : decode cX5_divide 30 = .ok (.ifCond .eq 4, 3) := by decide +kernel
theorem dX5_divide_33 : decode cX5_divide 33 = .ok (.return_, 1) := by decide +kernel
theorem dX5_divide_34 : decode cX5_divide 34 = .ok (.iload_n 2, 1) := by decide +kernel
theorem dX5_divide_35 : decode cX5_divide 35 = .ok (.bipush 8, 2) := by decide +kernel
theorem dX5_divide_37 : decode cX5_divide 37 = .ok (.if_icmp .ge 11, 3) := by decide +kernel
theorem dX5_divide_40 : decode cX5_divide 40 = .ok (.aload_n 0, 1) := by decide +kernel
theorem dX5_divide_41 : decode cX5_divide 41 = .ok (.iload_n 1, 1) := by decide +kernel
theorem dX5_divide_42 : decode cX5_divide 42 = .ok (.iload_n 2, 1) := by decide +kernel
theorem dX5_divide_43 : decode cX5_divide 43 = .ok (.lload_n 3, 1) := by decide +kernel
theorem dX5_divide_44 : decode cX5_divide 44 = .ok (.invokevirtual 290, 3) := by decide +kernel
theorem dX5_divide_47 : decode cX5_divide 47 = .ok (.return_, 1) := by decide +kernel
theorem dX5_divide_48 : decode cX5_divide 48 = .ok (.aload_n 0, 1) := by decide +kernel
theorem dX5_divide_49 : decode cX5_divide 49 = .ok (.getfield 30, 3) := by decide +kernel
theorem dX5_divide_52 : decode cX5_divide 52 = .ok (.iconst 2, 1) := by decide +kernel
theorem dX5_divide_53 : decode cX5_divide 53 = .ok (.laload, 1) := by decide +kernel
theorem dX5_divide_54 : decode cX5_divide 54 = .ok (.lstore 5, 2) := by decide +kernel
theorem dX5_divide_56 : decode cX5_divide 56 = .ok (.aload_n 0, 1) := by decide +kernel
theorem dX5_divide_57 : decode cX5_divide 57 = .ok (.getfield 30, 3) := by decide +kernel
theorem dX5_divide_60 : decode cX5_divide 60 = .ok (.iconst 0, 1) := by decide +kernel
theorem dX5_divide_61 : decode cX5_divide 61 = .ok (.laload, 1) := by decide +kernel
theorem dX5_divide_62 : decode cX5_divide 62 = .ok (.lstore 7, 2) := by decide +kernel
theorem dX5_divide_64 : decode cX5_divide 64 = .ok (.iload_n 1, 1) := by decide +kernel
theorem dX5_divide_65 : decode cX5_divide 65 = .ok (.ifCond .eq 14, 3) := by decide +kernel
theorem dX5_divide_68 : decode cX5_divide 68 = .ok (.lload 5, 2) := by decide +kernel
theorem dX5_divide_70 : decode cX5_divide 70 = .ok (.lconst 0, 1) := by decide +kernel
theorem dX5_divide_71 : decode cX5_divide 71 = .ok (.lcmp, 1) := by decide +kernel
theorem dX5_divide_72 : decode cX5_divide 72 = .ok (.ifCond .ge 7, 3) := by decide +kernel
theorem dX5_divide_75 : decode cX5_divide 75 = .ok (.iconst 1, 1) := by decide +kernel
theorem dX5_divide_76 : decode cX5_divide 76 = .ok (.goto 4, 3) := by decide +kernel
theorem dX5_divide_79 : decode cX5_divide 79 = .ok (.iconst 0, 1) := by decide +kernel
theorem dX5_divide_80 : decode cX5_divide 80 = .ok (.istore 9, 2) := by decide +kernel
theorem dX5_divide_82 : decode cX5_divide 82 = .ok (.iload_n 1, 1) := by decide +kernel
theorem dX5_divide_83 : decode cX5_divide 83 = .ok (.ifCond .eq 23, 3) := by decide +kernel
theorem dX5_divide_86 : decode cX5_divide 86 = .ok (.iload 9, 2) := by decide +kernel
theorem dX5_divide_88 : decode cX5_divide 88 = .ok (.lload_n 3, 1) := by decide +kernel
theorem dX5_divide_89 : decode cX5_divide 89 = .ok (.lconst 0, 1) := by decide +kernel
theorem dX5_divide_90 : decode cX5_divide 90 = .ok (.lcmp, 1) := by decide +kernel
theorem dX5_divide_91 : decode cX5_divide 91 = .ok (.ifCond .ge 7, 3) := by decide +kernel
theorem dX5_divide_94 : decode cX5_divide 94 = .ok (.iconst 1, 1) := by decide +kernel
theorem dX5_divide_95 : decode cX5_divide 95 = .ok (.goto 4, 3) := by decide +kernel
theorem dX5_divide_98 : decode cX5_divide 98 = .ok (.iconst 0, 1) := by decide +kernel
theorem dX5_divide_99 : decode cX5_divide 99 = .ok (.if_icmp .eq 7, 3) := by decide +kernel
theorem dX5_divide_102 : decode cX5_divide 102 = .ok (.iconst 1, 1) := by decide +kernel
theorem dX5_divide_103 : decode cX5_divide 103 = .ok (.goto 4, 3) := by decide +kernel
theorem dX5_divide_106 : decode cX5_divide 106 = .ok (.iconst 0, 1) := by decide +kernel
theorem dX5_divide_107 : decode cX5_divide 107 = .ok (.istore 10, 2) := by decide +kernel
theorem dX5_divide_109 : decode cX5_divide 109 = .ok (.iload 9, 2) := by decide +kernel
theorem dX5_divide_111 : decode cX5_divide 111 = .ok (.ifCond .eq 29, 3) := by decide +kernel
theorem dX5_divide_114 : decode cX5_divide 114 = .ok (.lload 7, 2) := by decide +kernel
theorem dX5_divide_116 : decode cX5_divide 116 = .ok (.lneg, 1) := by decide +kernel
theorem dX5_divide_117 : decode cX5_divide 117 = .ok (.lstore 7, 2) := by decide +kernel
theorem dX5_divide_119 : decode cX5_divide 119 = .ok (.lload 5, 2) := by decide +kernel
theorem dX5_divide_121 : decode cX5_divide 121 = .ok (.ldc2_w 277, 3) := by decide +kernel
theorem dX5_divide_124 : decode cX5_divide 124 = .ok (.lxor, 1) := by decide +kernel
theorem dX5_divide_125 : decode cX5_divide 125 = .ok (.lload 7, 2) := by decide +kernel
theorem dX5_divide_127 : decode cX5_divide 127 = .ok (.lconst 0, 1) := by decide +kernel
theorem dX5_divide_128 : decode cX5_divide 128 = .ok (.lcmp, 1) := by decide +kernel
theorem dX5_divide_129 : decode cX5_divide 129 = .ok (.ifCond .ne 7, 3) := by decide +kernel
theorem dX5_divide_132 : decode cX5_divide 132 = .ok (.lconst 1, 1) := by decide +kernel
theorem dX5_divide_133 : decode cX5_divide 133 = .ok (.goto 4, 3) := by decide +kernel
theorem dX5_divide_136 : decode cX5_divide 136 = .ok (.lconst 0, 1) := by decide +kernel
theorem dX5_divide_137 : decode cX5_divide 137 = .ok (.ladd, 1) := by decide +kernel
theorem dX5_divide_138 : decode cX5_divide 138 = .ok (.lstore 5, 2) := by decide +kernel
theorem dX5_divide_140 : decode cX5_divide 140 = .ok (.iload_n 1, 1) := by decide +kernel
theorem dX5_divide_141 : decode cX5_divide 141 = .ok (.ifCond .eq 14, 3) := by decide +kernel
theorem dX5_divide_144 : decode cX5_divide 144 = .ok (.lload_n 3, 1) := by decide +kernel
theorem dX5_divide_145 : decode cX5_divide 145 = .ok (.lconst 0, 1) := by decide +kernel
theorem dX5_divide_146 : decode cX5_divide 146 = .ok (.lcmp, 1) := by decide +kernel
theorem dX5_divide_147 : decode cX5_divide 147 = .ok (.ifCond .ge 8, 3) := by decide +kernel
theorem dX5_divide_150 : decode cX5_divide 150 = .ok (.lload_n 3, 1) := by decide +kernel
theorem dX5_divide_151 : decode cX5_divide 151 = .ok (.lneg, 1) := by decide +kernel
theorem dX5_divide_152 : decode cX5_divide 152 = .ok (.goto 4, 3) := by decide +kernel
theorem dX5_divide_155 : decode cX5_divide 155 = .ok (.lload_n 3, 1) := by decide +kernel
theorem dX5_divide_156 : decode cX5_divide 156 = .ok (.lstore 11, 2) := by decide +kernel
theorem dX5_divide_158 : decode cX5_divide 158 = .ok (.lload 5, 2) := by decide +kernel
theorem dX5_divide_160 : decode cX5_divide 160 = .ok (.lload 11, 2) := by decide +kernel
theorem dX5_divide_162 : decode cX5_divide 162 = .ok (.invokestatic 233, 3) := by decide +kernel
theorem dX5_divide_165 : decode cX5_divide 165 = .ok (.ifCond .ne 10, 3) := by decide +kernel
theorem dX5_divide_168 : decode cX5_divide 168 = .ok (.aload_n 0, 1) := by decide +kernel
theorem dX5_divide_169 : decode cX5_divide 169 = .ok (.iconst 5, 1) := by decide +kernel
theorem dX5_divide_170 : decode cX5_divide 170 = .ok (.lconst 0, 1) := by decide +kernel
theorem dX5_divide_171 : decode cX5_divide 171 = .ok (.invokevirtual 180, 3) := by decide +kernel
theorem dX5_divide_174 : decode cX5_divide 174 = .ok (.return_, 1) := by decide +kernel
theorem dX5_divide_175 : decode cX5_divide 175 = .ok (.lconst 0, 1) := by decide +kernel
theorem dX5_divide_176 : decode cX5_divide 176 = .ok (.lstore 13, 2) := by decide +kernel
theorem dX5_divide_178 : decode cX5_divide 178 = .ok (.lload 5, 2) := by decide +kernel
theorem dX5_divide_180 : decode cX5_divide 180 = .ok (.lstore 15, 2) := by decide +kernel
theorem dX5_divide_182 : decode cX5_divide 182 = .ok (.bipush 63, 2) := by decide +kernel
theorem dX5_divide_184 : decode cX5_divide 184 = .ok (.istore 17, 2) := by decide +kernel
theorem dX5_divide_186 : decode cX5_divide 186 = .ok (.iload 17, 2) := by decide +kernel
theorem dX5_divide_188 : decode cX5_divide 188 = .ok (.ifCond .lt 88, 3) := by decide +kernel
theorem dX5_divide_191 : decode cX5_divide 191 = .ok (.lload 15, 2) := by decide +kernel
theorem dX5_divide_193 : decode cX5_divide 193 = .ok (.lconst 0, 1) := by decide +kernel
theorem dX5_divide_194 : decode cX5_divide 194 = .ok (.lcmp, 1) := by decide +kernel
theorem dX5_divide_195 : decode cX5_divide 195 = .ok (.ifCond .ge 7, 3) := by decide +kernel
theorem dX5_divide_198 : decode cX5_divide 198 = .ok (.iconst 1, 1) := by decide +kernel
theorem dX5_divide_199 : decode cX5_divide 199 = .ok (.goto 4, 3) := by decide +kernel
theorem dX5_divide_202 : decode cX5_divide 202 = .ok (.iconst 0, 1) := by decide +kernel
theorem dX5_divide_203 : decode cX5_divide 203 = .ok (.istore 18, 2) := by decide +kernel
theorem dX5_divide_205 : decode cX5_divide 205 = .ok (.lload 15, 2) := by decide +kernel
theorem dX5_divide_207 : decode cX5_divide 207 = .ok (.iconst 1, 1) := by decide +kernel
theorem dX5_divide_208 : decode cX5_divide 208 = .ok (.lshl, 1) := by decide +kernel
theorem dX5_divide_209 : decode cX5_divide 209 = .ok (.lload 7, 2) := by decide +kernel
theorem dX5_divide_211 : decode cX5_divide 211 = .ok (.iload 17, 2) := by decide +kernel
theorem dX5_divide_213 : decode cX5_divide 213 = .ok (.lushr, 1) := by decide +kernel
theorem dX5_divide_214 : decode cX5_divide 214 = .ok (.lconst 1, 1) := by decide +kernel
theorem dX5_divide_215 : decode cX5_divide 215 = .ok (.land, 1) := by decide +kernel
theorem dX5_divide_216 : decode cX5_divide 216 = .ok (.lor, 1) := by decide +kernel
theorem dX5_divide_217 : decode cX5_divide 217 = .ok (.lstore 15, 2) := by decide +kernel
theorem dX5_divide_219 : decode cX5_divide 219 = .ok (.iload 18, 2) := by decide +kernel
theorem dX5_divide_221 : decode cX5_divide 221 = .ok (.ifCond .ne 13, 3) := by decide +kernel
theorem dX5_divide_224 : decode cX5_divide 224 = .ok (.lload 15, 2) := by decide +kernel
theorem dX5_divide_226 : decode cX5_divide 226 = .ok (.lload 11, 2) := by decide +kernel
theorem dX5_divide_228 : decode cX5_divide 228 = .ok (.invokestatic 233, 3) := by decide +kernel
theorem dX5_divide_231 : decode cX5_divide 231 = .ok (.ifCond .ne 7, 3) := by decide +kernel
theorem dX5_divide_234 : decode cX5_divide 234 = .ok (.iconst 1, 1) := by decide +kernel
theorem dX5_divide_235 : decode cX5_divide 235 = .ok (.goto 4, 3) := by decide +kernel
theorem dX5_divide_238 : decode cX5_divide 238 = .ok (.iconst 0, 1) := by decide +kernel
theorem dX5_divide_239 : decode cX5_divide 239 = .ok (.istore 19, 2) := by decide +kernel
theorem dX5_divide_241 : decode cX5_divide 241 = .ok (.iload 19, 2) := by decide +kernel
theorem dX5_divide_243 : decode cX5_divide 243 = .ok (.ifCond .eq 10, 3) := by decide +kernel
theorem dX5_divide_246 : decode cX5_divide 246 = .ok (.lload 15, 2) := by decide +kernel
theorem dX5_divide_248 : decode cX5_divide 248 = .ok (.lload 11, 2) := by decide +kernel
theorem dX5_divide_250 : decode cX5_divide 250 = .ok (.lsub, 1) := by decide +kernel
theorem dX5_divide_251 : decode cX5_divide 251 = .ok (.lstore 15, 2) := by decide +kernel
theorem dX5_divide_253 : decode cX5_divide 253 = .ok (.lload 13, 2) := by decide +kernel
theorem dX5_divide_255 : decode cX5_divide 255 = .ok (.iconst 1, 1) := by decide +kernel
theorem dX5_divide_256 : decode cX5_divide 256 = .ok (.lshl, 1) := by decide +kernel
theorem dX5_divide_257 : decode cX5_divide 257 = .ok (.iload 19, 2) := by decide +kernel
theorem dX5_divide_259 : decode cX5_divide 259 = .ok (.ifCond .eq 7, 3) := by decide +kernel
theorem dX5_divide_262 : decode cX5_divide 262 = .ok (.lconst 1, 1) := by decide +kernel
theorem dX5_divide_263 : decode cX5_divide 263 = .ok (.goto 4, 3) := by decide +kernel
theorem dX5_divide_266 : decode cX5_divide 266 = .ok (.lconst 0, 1) := by decide +kernel
theorem dX5_divide_267 : decode cX5_divide 267 = .ok (.lor, 1) := by decide +kernel
theorem dX5_divide_268 : decode cX5_divide 268 = .ok (.lstore 13, 2) := by decide +kernel
theorem dX5_divide_270 : decode cX5_divide 270 = .ok (.iinc 17 (-1), 3) := by decide +kernel
theorem dX5_divide_273 : decode cX5_divide 273 = .ok (.goto (-87), 3) := by decide +kernel
theorem dX5_divide_276 : decode cX5_divide 276 = .ok (.iload_n 1, 1) := by decide +kernel
theorem dX5_divide_277 : decode cX5_divide 277 = .ok (.ifCond .eq 36, 3) := by decide +kernel
theorem dX5_divide_280 : decode cX5_divide 280 = .ok (.iload 10, 2) := by decide +kernel
theorem dX5_divide_282 : decode cX5_divide 282 = .ok (.ifCond .eq 17, 3) := by decide +kernel
theorem dX5_divide_285 : decode cX5_divide 285 = .ok (.ldc2_w 279, 3) := by decide +kernel
theorem dX5_divide_288 : decode cX5_divide 288 = .ok (.lload 13, 2) := by decide +kernel
theorem dX5_divide_290 : decode cX5_divide 290 = .ok (.invokestatic 233, 3) := by decide +kernel
theorem dX5_divide_293 : decode cX5_divide 293 = .ok (.ifCond .eq 20, 3) := by decide +kernel
theorem dX5_divide_296 : decode cX5_divide 296 = .ok (.goto 10, 3) := by decide +kernel
theorem dX5_divide_299 : decode cX5_divide 299 = .ok (.lload 13, 2) := by decide +kernel
theorem dX5_divide_301 : decode cX5_divide 301 = .ok (.lconst 0, 1) := by decide +kernel
theorem dX5_divide_302 : decode cX5_divide 302 = .ok (.lcmp, 1) := by decide +kernel
theorem dX5_divide_303 : decode cX5_divide 303 = .ok (.ifCond .ge 10, 3) := by decide +kernel
theorem dX5_divide_306 : decode cX5_divide 306 = .ok (.aload_n 0, 1) := by decide +kernel
theorem dX5_divide_307 : decode cX5_divide 307 = .ok (.iconst 5, 1) := by decide +kernel
theorem dX5_divide_308 : decode cX5_divide 308 = .ok (.lconst 0, 1) := by decide +kernel
theorem dX5_divide_309 : decode cX5_divide 309 = .ok (.invokevirtual 180, 3) := by decide +kernel
theorem dX5_divide_312 : decode cX5_divide 312 = .ok (.return_, 1) := by decide +kernel
theorem dX5_divide_313 : decode cX5_divide 313 = .ok (.aload_n 0, 1) := by decide +kernel
theorem dX5_divide_314 : decode cX5_divide 314 = .ok (.getfield 30, 3) := by decide +kernel
theorem dX5_divide_317 : decode cX5_divide 317 = .ok (.iconst 0, 1) := by decide +kernel
theorem dX5_divide_318 : decode cX5_divide 318 = .ok (.iload 10, 2) := by decide +kernel
theorem dX5_divide_320 : decode cX5_divide 320 = .ok (.ifCond .eq 9, 3) := by decide +kernel
theorem dX5_divide_323 : decode cX5_divide 323 = .ok (.lload 13, 2) := by decide +kernel
theorem dX5_divide_325 : decode cX5_divide 325 = .ok (.lneg, 1) := by decide +kernel
theorem dX5_divide_326 : decode cX5_divide 326 = .ok (.goto 5, 3) := by decide +kernel
theorem dX5_divide_329 : decode cX5_divide 329 = .ok (.lload 13, 2) := by decide +kernel
theorem dX5_divide_331 : decode cX5_divide 331 = .ok (.lastore, 1) := by decide +kernel
theorem dX5_divide_332 : decode cX5_divide 332 = .ok (.aload_n 0, 1) := by decide +kernel
theorem dX5_divide_333 : decode cX5_divide 333 = .ok (.getfield 30, 3) := by decide +kernel
theorem dX5_divide_336 : decode cX5_divide 336 = .ok (.iconst 2, 1) := by decide +kernel
theorem dX5_divide_337 : decode cX5_divide 337 = .ok (.iload 9, 2) := by decide +kernel
theorem dX5_divide_339 : decode cX5_divide 339 = .ok (.ifCond .eq 9, 3) := by decide +kernel
theorem dX5_divide_342 : decode cX5_divide 342 = .ok (.lload 15, 2) := by decide +kernel
theorem dX5_divide_344 : decode cX5_divide 344 = .ok (.lneg, 1) := by decide +kernel
theorem dX5_divide_345 : decode cX5_divide 345 = .ok (.goto 5, 3) := by decide +kernel
theorem dX5_divide_348 : decode cX5_divide 348 = .ok (.lload 15, 2) := by decide +kernel
theorem dX5_divide_350 : decode cX5_divide 350 = .ok (.lastore, 1) := by decide +kernel
theorem dX5_divide_351 : decode cX5_divide 351 = .ok (.return_, 1) := by decide +kernel
theorem dX5_divideSmall_0 : decode cX5_divideSmall 0 = .ok (.iload_n 2, 1) := by decide +kernel
theorem dX5_divideSmall_1 : decode cX5_divideSmall 1 = .ok (.iconst 1, 1) := by decide +kernel
theorem dX5_divideSmall_2 : decode cX5_divideSmall 2 = .ok (.if_icmp .ne 16, 3) := by decide +kernel
theorem dX5_divideSmall_5 : decode cX5_divideSmall 5 = .ok (.aload_n 0, 1) := by decide +kernel
theorem dX5_divideSmall_6 : decode cX5_divideSmall 6 = .ok (.getfield 30, 3) := by decide +kernel
theorem dX5_divideSmall_9 : decode cX5_divideSmall 9 = .ok (.iconst 0, 1) := by decide +kernel
theorem dX5_divideSmall_10 : decode cX5_divideSmall 10 = .ok (.laload, 1) := by decide +kernel
theorem dX5_divideSmall_11 : decode cX5_divideSmall 11 = .ok (.ldc2_w 147, 3) := by decide +kernel
theorem dX5_divideSmall_14 : decode cX5_divideSmall 14 = .ok (.land, 1) := by decide +kernel
theorem dX5_divideSmall_15 : decode cX5_divideSmall 15 = .ok (.goto 23, 3) := by decide +kernel
theorem dX5_divideSmall_18 : decode cX5_divideSmall 18 = .ok (.aload_n 0, 1) := by decide +kernel
theorem dX5_divideSmall_19 : decode cX5_divideSmall 19 = .ok (.getfield 30, 3) := by decide +kernel
theorem dX5_divideSmall_22 : decode cX5_divideSmall 22 = .ok (.iconst 2, 1) := by decide +kernel
theorem dX5_divideSmall_23 : decode cX5_divideSmall 23 = .ok (.laload, 1) := by decide +kernel
theorem dX5_divideSmall_24 : decode cX5_divideSmall 24 = .ok (.bipush 32, 2) := by decide +kernel
theorem dX5_divideSmall_26 : decode cX5_divideSmall 26 = .ok (.lshl, 1) := by decide +kernel
theorem dX5_divideSmall_27 : decode cX5_divideSmall 27 = .ok (.aload_n 0, 1) := by decide +kernel
theorem dX5_divideSmall_28 : decode cX5_divideSmall 28 = .ok (.getfield 30, 3) := by decide +kernel
theorem dX5_divideSmall_31 : decode cX5_divideSmall 31 = .ok (.iconst 0, 1) := by decide +kernel
theorem dX5_divideSmall_32 : decode cX5_divideSmall 32 = .ok (.laload, 1) := by decide +kernel
theorem dX5_divideSmall_33 : decode cX5_divideSmall 33 = .ok (.ldc2_w 192, 3) := by decide +kernel
theorem dX5_divideSmall_36 : decode cX5_divideSmall 36 = .ok (.land, 1) := by decide +kernel
theorem dX5_divideSmall_37 : decode cX5_divideSmall 37 = .ok (.lor, 1) := by decide +kernel
theorem dX5_divideSmall_38 : decode cX5_divideSmall 38 = .ok (.lstore 5, 2) := by decide +kernel
theorem dX5_divideSmall_40 : decode cX5_divideSmall 40 = .ok (.iload_n 2, 1) := by decide +kernel
theorem dX5_divideSmall_41 : decode cX5_divideSmall 41 = .ok (.iconst 1, 1) := by decide +kernel
theorem dX5_divideSmall_42 : decode cX5_divideSmall 42 = .ok (.if_icmp .ne 14, 3) := by decide +kernel
theorem dX5_divideSmall_45 : decode cX5_divideSmall 45 = .ok (.iload_n 1, 1) := by decide +kernel
theorem dX5_divideSmall_46 : decode cX5_divideSmall 46 = .ok (.ifCond .eq 10, 3) := by decide +kernel
theorem dX5_divideSmall_49 : decode cX5_divideSmall 49 = .ok (.lload 5, 2) := by decide +kernel
theorem dX5_divideSmall_51 : decode cX5_divideSmall 51 = .ok (.l2i, 1) := by decide +kernel
theorem dX5_divideSmall_52 : decode cX5_divideSmall 52 = .ok (.i2s, 1) := by decide +kernel
theorem dX5_divideSmall_53 : decode cX5_divideSmall 53 = .ok (.i2l, 1) := by decide +kernel
theorem dX5_divideSmall_54 : decode cX5_divideSmall 54 = .ok (.lstore 5, 2) := by decide +kernel
theorem dX5_divideSmall_56 : decode cX5_divideSmall 56 = .ok (.iload_n 1, 1) := by decide +kernel
theorem dX5_divideSmall_57 : decode cX5_divideSmall 57 = .ok (.ifCond .eq 11, 3) := by decide +kernel
theorem dX5_divideSmall_60 : decode cX5_divideSmall 60 = .ok (.lload_n 3, 1) := by decide +kernel
theorem dX5_divideSmall_61 : decode cX5_divideSmall 61 = .ok (.iload_n 2, 1) := by decide +kernel
theorem dX5_divideSmall_62 : decode cX5_divideSmall 62 = .ok (.invokestatic 274, 3) := by decide +kernel
theorem dX5_divideSmall_65 : decode cX5_divideSmall 65 = .ok (.goto 4, 3) := by decide +kernel
theorem dX5_divideSmall_68 : decode cX5_divideSmall 68 = .ok (.lload_n 3, 1) := by decide +kernel
theorem dX5_divideSmall_69 : decode cX5_divideSmall 69 = .ok (.lstore 7, 2) := by decide +kernel
theorem dX5_divideSmall_71 : decode cX5_divideSmall 71 = .ok (.iload_n 1, 1) := by decide +kernel
theorem dX5_divideSmall_72 : decode cX5_divideSmall 72 = .ok (.ifCond .ne 10, 3) := by decide +kernel
theorem dX5_divideSmall_75 : decode cX5_divideSmall 75 = .ok (.lload 5, 2) := by decide +kernel
theorem dX5_divideSmall_77 : decode cX5_divideSmall 77 = .ok (.lconst 0, 1) := by decide +kernel
theorem dX5_divideSmall_78 : decode cX5_divideSmall 78 = .ok (.lcmp, 1) := by decide +kernel
theorem dX5_divideSmall_79 : decode cX5_divideSmall 79 = .ok (.ifCond .lt 11, 3) := by decide +kernel
theorem dX5_divideSmall_82 : decode cX5_divideSmall 82 = .ok (.lload 5, 2) := by decide +kernel
theorem dX5_divideSmall_84 : decode cX5_divideSmall 84 = .ok (.lload 7, 2) := by decide +kernel
theorem dX5_divideSmall_86 : decode cX5_divideSmall 86 = .ok (.ldiv, 1) := by decide +kernel
theorem dX5_divideSmall_87 : decode cX5_divideSmall 87 = .ok (.goto 12, 3) := by decide +kernel
theorem dX5_divideSmall_90 : decode cX5_divideSmall 90 = .ok (.lload 5, 2) := by decide +kernel
theorem dX5_divideSmall_92 : decode cX5_divideSmall 92 = .ok (.iconst 1, 1) := by decide +kernel
theorem dX5_divideSmall_93 : decode cX5_divideSmall 93 = .ok (.lushr, 1) := by decide +kernel
theorem dX5_divideSmall_94 : decode cX5_divideSmall 94 = .ok (.lload 7, 2) := by decide +kernel
theorem dX5_divideSmall_96 : decode cX5_divideSmall 96 = .ok (.ldiv, 1) := by decide +kernel
theorem dX5_divideSmall_97 : decode cX5_divideSmall 97 = .ok (.iconst 1, 1) := by decide +kernel
theorem dX5_divideSmall_98 : decode cX5_divideSmall 98 = .ok (.lshl, 1) := by decide +kernel
theorem dX5_divideSmall_99 : decode cX5_divideSmall 99 = .ok (.lstore 9, 2) := by decide +kernel
theorem dX5_divideSmall_101 : decode cX5_divideSmall 101 = .ok (.lload 5, 2) := by decide +kernel
theorem dX5_divideSmall_103 : decode cX5_divideSmall 103 = .ok (.lload 9, 2) := by decide +kernel
theorem dX5_divideSmall_105 : decode cX5_divideSmall 105 = .ok (.lload 7, 2) := by decide +kernel
theorem dX5_divideSmall_107 : decode cX5_divideSmall 107 = .ok (.lmul, 1) := by decide +kernel
theorem dX5_divideSmall_108 : decode cX5_divideSmall 108 = .ok (.lsub, 1) := by decide +kernel
theorem dX5_divideSmall_109 : decode cX5_divideSmall 109 = .ok (.lstore 11, 2) := by decide +kernel
theorem dX5_divideSmall_111 : decode cX5_divideSmall 111 = .ok (.iload_n 1, 1) := by decide +kernel
theorem dX5_divideSmall_112 : decode cX5_divideSmall 112 = .ok (.ifCond .ne 26, 3) := by decide +kernel
theorem dX5_divideSmall_115 : decode cX5_divideSmall 115 = .ok (.lload 11, 2) := by decide +kernel
theorem dX5_divideSmall_117 : decode cX5_divideSmall 117 = .ok (.lload 7, 2) := by decide +kernel
theorem dX5_divideSmall_119 : decode cX5_divideSmall 119 = .ok (.invokestatic 233, 3) := by decide +kernel
theorem dX5_divideSmall_122 : decode cX5_divideSmall 122 = .ok (.ifCond .ne 16, 3) := by decide +kernel
theorem dX5_divideSmall_125 : decode cX5_divideSmall 125 = .ok (.lload 9, 2) := by decide +kernel
theorem dX5_divideSmall_127 : decode cX5_divideSmall 127 = .ok (.lconst 1, 1) := by decide +kernel
theorem dX5_divideSmall_128 : decode cX5_divideSmall 128 = .ok (.ladd, 1) := by decide +kernel
theorem dX5_divideSmall_129 : decode cX5_divideSmall 129 = .ok (.lstore 9, 2) := by decide +kernel
theorem dX5_divideSmall_131 : decode cX5_divideSmall 131 = .ok (.lload 11, 2) := by decide +kernel
theorem dX5_divideSmall_133 : decode cX5_divideSmall 133 = .ok (.lload 7, 2) := by decide +kernel
theorem dX5_divideSmall_135 : decode cX5_divideSmall 135 = .ok (.lsub, 1) := by decide +kernel
theorem dX5_divideSmall_136 : decode cX5_divideSmall 136 = .ok (.lstore 11, 2) := by decide +kernel
theorem dX5_divideSmall_138 : decode cX5_divideSmall 138 = .ok (.iload_n 1, 1) := by decide +kernel
theorem dX5_divideSmall_139 : decode cX5_divideSmall 139 = .ok (.ifCond .eq 41, 3) := by decide +kernel
theorem dX5_divideSmall_142 : decode cX5_divideSmall 142 = .ok (.lload 9, 2) := by decide +kernel
