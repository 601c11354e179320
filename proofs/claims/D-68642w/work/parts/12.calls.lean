set_option maxRecDepth 100000
theorem bp_6 : (Int8.ofInt (6)).toInt32 = (6 : Int32) := by decide
theorem bp_7 : (Int8.ofInt (7)).toInt32 = (7 : Int32) := by decide
theorem bp_8 : (Int8.ofInt (8)).toInt32 = (8 : Int32) := by decide
theorem bp_9 : (Int8.ofInt (9)).toInt32 = (9 : Int32) := by decide
theorem bp_10 : (Int8.ofInt (10)).toInt32 = (10 : Int32) := by decide
theorem bp_11 : (Int8.ofInt (11)).toInt32 = (11 : Int32) := by decide
theorem bp_12 : (Int8.ofInt (12)).toInt32 = (12 : Int32) := by decide
theorem bp_13 : (Int8.ofInt (13)).toInt32 = (13 : Int32) := by decide
theorem bp_14 : (Int8.ofInt (14)).toInt32 = (14 : Int32) := by decide
theorem bp_15 : (Int8.ofInt (15)).toInt32 = (15 : Int32) := by decide
theorem bp_16 : (Int8.ofInt (16)).toInt32 = (16 : Int32) := by decide
theorem bp_17 : (Int8.ofInt (17)).toInt32 = (17 : Int32) := by decide
theorem bp_18 : (Int8.ofInt (18)).toInt32 = (18 : Int32) := by decide
theorem bp_19 : (Int8.ofInt (19)).toInt32 = (19 : Int32) := by decide
theorem bp_20 : (Int8.ofInt (20)).toInt32 = (20 : Int32) := by decide
theorem bp_21 : (Int8.ofInt (21)).toInt32 = (21 : Int32) := by decide
theorem bp_22 : (Int8.ofInt (22)).toInt32 = (22 : Int32) := by decide
theorem bp_23 : (Int8.ofInt (23)).toInt32 = (23 : Int32) := by decide
theorem bp_24 : (Int8.ofInt (24)).toInt32 = (24 : Int32) := by decide
theorem bp_25 : (Int8.ofInt (25)).toInt32 = (25 : Int32) := by decide
theorem bp_26 : (Int8.ofInt (26)).toInt32 = (26 : Int32) := by decide
theorem bp_27 : (Int8.ofInt (27)).toInt32 = (27 : Int32) := by decide
theorem bp_28 : (Int8.ofInt (28)).toInt32 = (28 : Int32) := by decide
theorem bp_29 : (Int8.ofInt (29)).toInt32 = (29 : Int32) := by decide
theorem bp_30 : (Int8.ofInt (30)).toInt32 = (30 : Int32) := by decide
theorem bp_31 : (Int8.ofInt (31)).toInt32 = (31 : Int32) := by decide
theorem bp_32 : (Int8.ofInt (32)).toInt32 = (32 : Int32) := by decide
theorem bp_33 : (Int8.ofInt (33)).toInt32 = (33 : Int32) := by decide
theorem bp_34 : (Int8.ofInt (34)).toInt32 = (34 : Int32) := by decide
theorem bp_35 : (Int8.ofInt (35)).toInt32 = (35 : Int32) := by decide
theorem bp_36 : (Int8.ofInt (36)).toInt32 = (36 : Int32) := by decide
theorem bp_37 : (Int8.ofInt (37)).toInt32 = (37 : Int32) := by decide
theorem bp_38 : (Int8.ofInt (38)).toInt32 = (38 : Int32) := by decide
theorem bp_39 : (Int8.ofInt (39)).toInt32 = (39 : Int32) := by decide
theorem bp_40 : (Int8.ofInt (40)).toInt32 = (40 : Int32) := by decide
theorem bp_41 : (Int8.ofInt (41)).toInt32 = (41 : Int32) := by decide
theorem bp_42 : (Int8.ofInt (42)).toInt32 = (42 : Int32) := by decide
theorem bp_43 : (Int8.ofInt (43)).toInt32 = (43 : Int32) := by decide
theorem bp_44 : (Int8.ofInt (44)).toInt32 = (44 : Int32) := by decide
theorem bp_45 : (Int8.ofInt (45)).toInt32 = (45 : Int32) := by decide
theorem bp_46 : (Int8.ofInt (46)).toInt32 = (46 : Int32) := by decide
theorem bp_47 : (Int8.ofInt (47)).toInt32 = (47 : Int32) := by decide
theorem bp_48 : (Int8.ofInt (48)).toInt32 = (48 : Int32) := by decide
theorem bp_49 : (Int8.ofInt (49)).toInt32 = (49 : Int32) := by decide
theorem bp_50 : (Int8.ofInt (50)).toInt32 = (50 : Int32) := by decide
theorem bp_51 : (Int8.ofInt (51)).toInt32 = (51 : Int32) := by decide
theorem bp_52 : (Int8.ofInt (52)).toInt32 = (52 : Int32) := by decide
theorem bp_53 : (Int8.ofInt (53)).toInt32 = (53 : Int32) := by decide
theorem bp_63 : (Int8.ofInt (63)).toInt32 = (63 : Int32) := by decide
theorem bp_64 : (Int8.ofInt (64)).toInt32 = (64 : Int32) := by decide
theorem ic_m16 : Int32.ofInt (-16) = (-16 : Int32) := by decide
theorem ic_m8 : Int32.ofInt (-8) = (-8 : Int32) := by decide
theorem ic_m4 : Int32.ofInt (-4) = (-4 : Int32) := by decide
theorem ic_m2 : Int32.ofInt (-2) = (-2 : Int32) := by decide
theorem ic_m1 : Int32.ofInt (-1) = (-1 : Int32) := by decide
theorem ic_0 : Int32.ofInt (0) = (0 : Int32) := by decide
theorem ic_1 : Int32.ofInt (1) = (1 : Int32) := by decide
theorem ic_2 : Int32.ofInt (2) = (2 : Int32) := by decide
theorem ic_3 : Int32.ofInt (3) = (3 : Int32) := by decide
theorem ic_4 : Int32.ofInt (4) = (4 : Int32) := by decide
theorem ic_5 : Int32.ofInt (5) = (5 : Int32) := by decide
theorem ic_7 : Int32.ofInt (7) = (7 : Int32) := by decide
theorem ic_8 : Int32.ofInt (8) = (8 : Int32) := by decide
theorem ic_16 : Int32.ofInt (16) = (16 : Int32) := by decide
theorem lc_0 : Int64.ofNat ((0 : Fin 2) : Nat) = (0 : Int64) := by decide
theorem lc_1 : Int64.ofNat ((1 : Fin 2) : Nat) = (1 : Int64) := by decide
theorem sp_m4096 : (Int16.ofInt (-4096)).toInt32 = (-4096 : Int32) := by decide
theorem sp_128 : (Int16.ofInt (128)).toInt32 = (128 : Int32) := by decide
theorem sp_255 : (Int16.ofInt (255)).toInt32 = (255 : Int32) := by decide
theorem sp_256 : (Int16.ofInt (256)).toInt32 = (256 : Int32) := by decide
theorem sp_2048 : (Int16.ofInt (2048)).toInt32 = (2048 : Int32) := by decide
theorem sp_2049 : (Int16.ofInt (2049)).toInt32 = (2049 : Int32) := by decide
theorem sp_4095 : (Int16.ofInt (4095)).toInt32 = (4095 : Int32) := by decide
theorem sp_4096 : (Int16.ofInt (4096)).toInt32 = (4096 : Int32) := by decide
theorem cw_J0_302 : GoodIn lw_all (va_wsS RJ0 302 yJ0_compare (ws_ yJ0_compare cJ0_compare 4 (some .int))) := lw_S q503 q504 q91 q505
theorem hd_J0_compare : yJ0_compare.cls ≠ "java/lang/invoke/MethodHandle" ∧ yJ0_compare.cls ≠ "java/lang/invoke/VarHandle" ∧ (parseMethodDescriptor yJ0_compare.desc).map (fun d => d.parameters.length) = some 2 := by decide +kernel
theorem cw_J0_308 : GoodIn lw_all (va_wsS RJ0 308 yJ1_numberOfLeadingZeros (ws_ yJ1_numberOfLeadingZeros cJ1_numberOfLeadingZeros 2 (some .int))) := lw_S q590 q591 q92 q592
theorem hd_J1_numberOfLeadingZeros : yJ1_numberOfLeadingZeros.cls ≠ "java/lang/invoke/MethodHandle" ∧ yJ1_numberOfLeadingZeros.cls ≠ "java/lang/invoke/VarHandle" ∧ (parseMethodDescriptor yJ1_numberOfLeadingZeros.desc).map (fun d => d.parameters.length) = some 1 := by decide +kernel
theorem cw_J0_311 : GoodIn lw_all (va_wsS RJ0 311 yJ1_numberOfTrailingZeros (ws_ yJ1_numberOfTrailingZeros cJ1_numberOfTrailingZeros 2 (some .int))) := lw_S q597 q598 q92 q599
theorem hd_J1_numberOfTrailingZeros : yJ1_numberOfTrailingZeros.cls ≠ "java/lang/invoke/MethodHandle" ∧ yJ1_numberOfTrailingZeros.cls ≠ "java/lang/invoke/VarHandle" ∧ (parseMethodDescriptor yJ1_numberOfTrailingZeros.desc).map (fun d => d.parameters.length) = some 1 := by decide +kernel
theorem cw_X0_32 : GoodIn lw_all (wsV RX0 32 RX0 yX0_begin (ws_ yX0_begin cX0_begin 7 (some .boolean))) := lw_V q270 q271 q272 q83 q273
theorem hd_X0_begin : yX0_begin.cls = RX0 ∧ yX0_begin.cls ≠ "java/lang/invoke/MethodHandle" ∧ yX0_begin.cls ≠ "java/lang/invoke/VarHandle" ∧ (parseMethodDescriptor yX0_begin.desc).map (fun d => d.parameters.length) = some 6 := by decide +kernel
theorem cw_X0_36 : GoodIn lw_all (wsV RX0 36 RX1 yX1_load (ws_ yX1_load cX1_load 4 none)) := lw_V q274 q275 q276 q84 q277
theorem hd_X1_load : yX1_load.cls = RX1 ∧ yX1_load.cls ≠ "java/lang/invoke/MethodHandle" ∧ yX1_load.cls ≠ "java/lang/invoke/VarHandle" ∧ (parseMethodDescriptor yX1_load.desc).map (fun d => d.parameters.length) = some 2 := by decide +kernel
theorem cw_X0_41 : GoodIn lw_all (wsV RX0 41 RX1 yX1_lay (ws_ yX1_lay cX1_lay 6 none)) := lw_V q283 q284 q285 q84 q286
theorem hd_X1_lay : yX1_lay.cls = RX1 ∧ yX1_lay.cls ≠ "java/lang/invoke/MethodHandle" ∧ yX1_lay.cls ≠ "java/lang/invoke/VarHandle" ∧ (parseMethodDescriptor yX1_lay.desc).map (fun d => d.parameters.length) = some 5 := by decide +kernel
theorem cw_X0_47 : GoodIn lw_all (wsV RX0 47 RX2 yX2_load (ws_ yX2_load cX2_load 4 none)) := lw_V q288 q289 q290 q85 q291
theorem hd_X2_load : yX2_load.cls = RX2 ∧ yX2_load.cls ≠ "java/lang/invoke/MethodHandle" ∧ yX2_load.cls ≠ "java/lang/invoke/VarHandle" ∧ (parseMethodDescriptor yX2_load.desc).map (fun d => d.parameters.length) = some 1 := by decide +kernel
theorem cw_X0_56 : GoodIn lw_all (wsV RX0 56 RX4 yX4_clear (ws_ yX4_clear cX4_clear 5 none)) := lw_V q313 q314 q315 q87 q316
theorem hd_X4_clear : yX4_clear.cls = RX4 ∧ yX4_clear.cls ≠ "java/lang/invoke/MethodHandle" ∧ yX4_clear.cls ≠ "java/lang/invoke/VarHandle" ∧ (parseMethodDescriptor yX4_clear.desc).map (fun d => d.parameters.length) = some 3 := by decide +kernel
theorem cw_X0_62 : GoodIn lw_all (wsV RX0 62 RX4 yX4_put (ws_ yX4_put cX4_put 4 none)) := lw_V q321 q322 q323 q87 q324
theorem hd_X4_put : yX4_put.cls = RX4 ∧ yX4_put.cls ≠ "java/lang/invoke/MethodHandle" ∧ yX4_put.cls ≠ "java/lang/invoke/VarHandle" ∧ (parseMethodDescriptor yX4_put.desc).map (fun d => d.parameters.length) = some 3 := by decide +kernel
theorem cw_X0_65 : GoodIn lw_all (wsV RX0 65 RX4 yX4_memory (ws_ yX4_memory cX4_memory 5 none)) := lw_V q329 q330 q331 q87 q332
theorem hd_X4_memory : yX4_memory.cls = RX4 ∧ yX4_memory.cls ≠ "java/lang/invoke/MethodHandle" ∧ yX4_memory.cls ≠ "java/lang/invoke/VarHandle" ∧ (parseMethodDescriptor yX4_memory.desc).map (fun d => d.parameters.length) = some 4 := by decide +kernel
theorem cw_X0_76 : GoodIn lw_all (va_wsS RX0 76 yX6_is (ws_ yX6_is cX6_is 2 (some .boolean))) := lw_S q341 q342 q90 q343
theorem hd_X6_is : yX6_is.cls ≠ "java/lang/invoke/MethodHandle" ∧ yX6_is.cls ≠ "java/lang/invoke/VarHandle" ∧ (parseMethodDescriptor yX6_is.desc).map (fun d => d.parameters.length) = some 1 := by decide +kernel
theorem cw_X0_82 : GoodIn lw_all (wsV RX0 82 RX2 yX2_step (ws_ yX2_step cX2_step 3 (some .boolean))) := lw_V q372 q373 q374 q85 q375
theorem hd_X2_step : yX2_step.cls = RX2 ∧ yX2_step.cls ≠ "java/lang/invoke/MethodHandle" ∧ yX2_step.cls ≠ "java/lang/invoke/VarHandle" ∧ (parseMethodDescriptor yX2_step.desc).map (fun d => d.parameters.length) = some 1 := by decide +kernel
theorem cw_X0_117 : GoodIn lw_all (wsV RX0 117 RX3 yX3_add (ws_ yX3_add cX3_add 2 none)) := lw_V q635 q573 q574 q86 q575
theorem hd_X3_add : yX3_add.cls = RX3 ∧ yX3_add.cls ≠ "java/lang/invoke/MethodHandle" ∧ yX3_add.cls ≠ "java/lang/invoke/VarHandle" ∧ (parseMethodDescriptor yX3_add.desc).map (fun d => d.parameters.length) = some 1 := by decide +kernel
theorem cw_X0_126 : GoodIn lw_all (wsV RX0 126 RX1 yX1_where (ws_ yX1_where cX1_where 5 (some .int))) := lw_V q644 q401 q402 q84 q403
theorem hd_X1_where : yX1_where.cls = RX1 ∧ yX1_where.cls ≠ "java/lang/invoke/MethodHandle" ∧ yX1_where.cls ≠ "java/lang/invoke/VarHandle" ∧ (parseMethodDescriptor yX1_where.desc).map (fun d => d.parameters.length) = some 2 := by decide +kernel
theorem cw_X1_56 : GoodIn lw_all (va_wsS RX1 56 yX1_in (ws_ yX1_in cX1_in 6 (some .boolean))) := lw_S q406 q407 q84 q408
theorem hd_X1_in : yX1_in.cls ≠ "java/lang/invoke/MethodHandle" ∧ yX1_in.cls ≠ "java/lang/invoke/VarHandle" ∧ (parseMethodDescriptor yX1_in.desc).map (fun d => d.parameters.length) = some 3 := by decide +kernel
theorem cw_X1_62 : GoodIn lw_all (wsV RX1 62 RX1 yX1_where (ws_ yX1_where cX1_where 5 (some .int))) := lw_V q400 q401 q402 q84 q403
theorem cw_X2_77 : GoodIn lw_all (wsV RX2 77 RX1 yX1_has (ws_ yX1_has cX1_has 7 (some .boolean))) := lw_V q396 q397 q398 q84 q399
theorem hd_X1_has : yX1_has.cls = RX1 ∧ yX1_has.cls ≠ "java/lang/invoke/MethodHandle" ∧ yX1_has.cls ≠ "java/lang/invoke/VarHandle" ∧ (parseMethodDescriptor yX1_has.desc).map (fun d => d.parameters.length) = some 3 := by decide +kernel
theorem cw_X2_81 : GoodIn lw_all (wsV RX2 81 RX1 yX1_read (ws_ yX1_read cX1_read 7 (some .long))) := lw_V q410 q411 q412 q84 q413
theorem hd_X1_read : yX1_read.cls = RX1 ∧ yX1_read.cls ≠ "java/lang/invoke/MethodHandle" ∧ yX1_read.cls ≠ "java/lang/invoke/VarHandle" ∧ (parseMethodDescriptor yX1_read.desc).map (fun d => d.parameters.length) = some 2 := by decide +kernel
theorem cw_X2_85 : GoodIn lw_all (wsV RX2 85 RX2 yX2_fail (ws_ yX2_fail cX2_fail 4 none)) := lw_V q415 q417 qs5 q85 q418
theorem hd_X2_fail : yX2_fail.cls = RX2 ∧ yX2_fail.cls ≠ "java/lang/invoke/MethodHandle" ∧ yX2_fail.cls ≠ "java/lang/invoke/VarHandle" ∧ (parseMethodDescriptor yX2_fail.desc).map (fun d => d.parameters.length) = some 2 := by decide +kernel
theorem cw_X2_89 : GoodIn lw_all (wsV RX2 89 RX1 yX1_write (ws_ yX1_write cX1_write 7 none)) := lw_V q466 q467 q468 q84 q469
theorem hd_X1_write : yX1_write.cls = RX1 ∧ yX1_write.cls ≠ "java/lang/invoke/MethodHandle" ∧ yX1_write.cls ≠ "java/lang/invoke/VarHandle" ∧ (parseMethodDescriptor yX1_write.desc).map (fun d => d.parameters.length) = some 3 := by decide +kernel
theorem cw_X2_97 : GoodIn lw_all (wsV RX2 97 RX2 yX2_address (ws_ yX2_address cX2_address 3 (some .long))) := lw_V q388 q390 qs3 q85 q391
theorem hd_X2_address : yX2_address.cls = RX2 ∧ yX2_address.cls ≠ "java/lang/invoke/MethodHandle" ∧ yX2_address.cls ≠ "java/lang/invoke/VarHandle" ∧ (parseMethodDescriptor yX2_address.desc).map (fun d => d.parameters.length) = some 0 := by decide +kernel
theorem cw_X2_101 : GoodIn lw_all (wsV RX2 101 RX2 yX2_fetch (ws_ yX2_fetch cX2_fetch 4 (some .long))) := lw_V q392 q394 qs4 q85 q395
theorem hd_X2_fetch : yX2_fetch.cls = RX2 ∧ yX2_fetch.cls ≠ "java/lang/invoke/MethodHandle" ∧ yX2_fetch.cls ≠ "java/lang/invoke/VarHandle" ∧ (parseMethodDescriptor yX2_fetch.desc).map (fun d => d.parameters.length) = some 2 := by decide +kernel
theorem cw_X2_110 : GoodIn lw_all (va_wsS RX2 110 yX2_cut (ws_ yX2_cut cX2_cut 3 (some .long))) := lw_S q419 q420 q85 q421
theorem hd_X2_cut : yX2_cut.cls ≠ "java/lang/invoke/MethodHandle" ∧ yX2_cut.cls ≠ "java/lang/invoke/VarHandle" ∧ (parseMethodDescriptor yX2_cut.desc).map (fun d => d.parameters.length) = some 2 := by decide +kernel
theorem cw_X2_115 : GoodIn lw_all (wsV RX2 115 RX2 yX2_store (ws_ yX2_store cX2_store 6 none)) := lw_V q462 q464 qs13 q85 q465
theorem hd_X2_store : yX2_store.cls = RX2 ∧ yX2_store.cls ≠ "java/lang/invoke/MethodHandle" ∧ yX2_store.cls ≠ "java/lang/invoke/VarHandle" ∧ (parseMethodDescriptor yX2_store.desc).map (fun d => d.parameters.length) = some 3 := by decide +kernel
theorem cw_X2_118 : GoodIn lw_all (wsV RX2 118 RX2 yX2_setRegister (ws_ yX2_setRegister cX2_setRegister 5 none)) := lw_V q470 q472 qs14 q85 q473
theorem hd_X2_setRegister : yX2_setRegister.cls = RX2 ∧ yX2_setRegister.cls ≠ "java/lang/invoke/MethodHandle" ∧ yX2_setRegister.cls ≠ "java/lang/invoke/VarHandle" ∧ (parseMethodDescriptor yX2_setRegister.desc).map (fun d => d.parameters.length) = some 3 := by decide +kernel
theorem cw_X2_122 : GoodIn lw_all (va_wsS RX2 122 yX2_signed (ws_ yX2_signed cX2_signed 3 (some .long))) := lw_S q447 q448 q85 q449
theorem hd_X2_signed : yX2_signed.cls ≠ "java/lang/invoke/MethodHandle" ∧ yX2_signed.cls ≠ "java/lang/invoke/VarHandle" ∧ (parseMethodDescriptor yX2_signed.desc).map (fun d => d.parameters.length) = some 2 := by decide +kernel
theorem cw_X2_125 : GoodIn lw_all (wsV RX2 125 RX2 yX2_mark (ws_ yX2_mark cX2_mark 3 none)) := lw_V q436 q438 qs8 q85 q439
theorem hd_X2_mark : yX2_mark.cls = RX2 ∧ yX2_mark.cls ≠ "java/lang/invoke/MethodHandle" ∧ yX2_mark.cls ≠ "java/lang/invoke/VarHandle" ∧ (parseMethodDescriptor yX2_mark.desc).map (fun d => d.parameters.length) = some 2 := by decide +kernel
theorem cw_X2_129 : GoodIn lw_all (va_wsS RX2 129 yX2_isNegative (ws_ yX2_isNegative cX2_isNegative 3 (some .boolean))) := lw_S q444 q445 q85 q446
theorem hd_X2_isNegative : yX2_isNegative.cls ≠ "java/lang/invoke/MethodHandle" ∧ yX2_isNegative.cls ≠ "java/lang/invoke/VarHandle" ∧ (parseMethodDescriptor yX2_isNegative.desc).map (fun d => d.parameters.length) = some 2 := by decide +kernel
theorem cw_X2_135 : GoodIn lw_all (va_wsS RX2 135 yX2_bit (ws_ yX2_bit cX2_bit 3 (some .boolean))) := lw_S q433 q434 q85 q435
theorem hd_X2_bit : yX2_bit.cls ≠ "java/lang/invoke/MethodHandle" ∧ yX2_bit.cls ≠ "java/lang/invoke/VarHandle" ∧ (parseMethodDescriptor yX2_bit.desc).map (fun d => d.parameters.length) = some 2 := by decide +kernel
theorem cw_X2_138 : GoodIn lw_all (wsV RX2 138 RX2 yX2_follow (ws_ yX2_follow cX2_follow 5 none)) := lw_V q440 q442 qs9 q85 q443
theorem hd_X2_follow : yX2_follow.cls = RX2 ∧ yX2_follow.cls ≠ "java/lang/invoke/MethodHandle" ∧ yX2_follow.cls ≠ "java/lang/invoke/VarHandle" ∧ (parseMethodDescriptor yX2_follow.desc).map (fun d => d.parameters.length) = some 2 := by decide +kernel
theorem cw_X2_142 : GoodIn lw_all (wsV RX2 142 RX2 yX2_is (ws_ yX2_is cX2_is 2 (some .boolean))) := lw_V q424 q426 qs6 q85 q427
theorem hd_X2_is : yX2_is.cls = RX2 ∧ yX2_is.cls ≠ "java/lang/invoke/MethodHandle" ∧ yX2_is.cls ≠ "java/lang/invoke/VarHandle" ∧ (parseMethodDescriptor yX2_is.desc).map (fun d => d.parameters.length) = some 1 := by decide +kernel
theorem cw_X2_146 : GoodIn lw_all (wsV RX2 146 RX2 yX2_perform (ws_ yX2_perform cX2_perform 3 none)) := lw_V q376 q378 qs0 q85 q379
theorem hd_X2_perform : yX2_perform.cls = RX2 ∧ yX2_perform.cls ≠ "java/lang/invoke/MethodHandle" ∧ yX2_perform.cls ≠ "java/lang/invoke/VarHandle" ∧ (parseMethodDescriptor yX2_perform.desc).map (fun d => d.parameters.length) = some 0 := by decide +kernel
theorem cw_X2_153 : GoodIn lw_all (wsV RX2 153 RX2 yX2_arithmetic (ws_ yX2_arithmetic cX2_arithmetic 10 none)) := lw_V q380 q382 qs1 q85 q383
theorem hd_X2_arithmetic : yX2_arithmetic.cls = RX2 ∧ yX2_arithmetic.cls ≠ "java/lang/invoke/MethodHandle" ∧ yX2_arithmetic.cls ≠ "java/lang/invoke/VarHandle" ∧ (parseMethodDescriptor yX2_arithmetic.desc).map (fun d => d.parameters.length) = some 2 := by decide +kernel
theorem cw_X2_157 : GoodIn lw_all (wsV RX2 157 RX2 yX2_middle (ws_ yX2_middle cX2_middle 10 none)) := lw_V q475 q477 qs15 q85 q478
theorem hd_X2_middle : yX2_middle.cls = RX2 ∧ yX2_middle.cls ≠ "java/lang/invoke/MethodHandle" ∧ yX2_middle.cls ≠ "java/lang/invoke/VarHandle" ∧ (parseMethodDescriptor yX2_middle.desc).map (fun d => d.parameters.length) = some 2 := by decide +kernel
theorem cw_X2_160 : GoodIn lw_all (wsV RX2 160 RX2 yX2_get (ws_ yX2_get cX2_get 3 (some .long))) := lw_V q384 q386 qs2 q85 q387
theorem hd_X2_get : yX2_get.cls = RX2 ∧ yX2_get.cls ≠ "java/lang/invoke/MethodHandle" ∧ yX2_get.cls ≠ "java/lang/invoke/VarHandle" ∧ (parseMethodDescriptor yX2_get.desc).map (fun d => d.parameters.length) = some 2 := by decide +kernel
theorem cw_X2_164 : GoodIn lw_all (wsV RX2 164 RX2 yX2_shift (ws_ yX2_shift cX2_shift 14 none)) := lw_V q519 q521 qs21 q85 q522
theorem hd_X2_shift : yX2_shift.cls = RX2 ∧ yX2_shift.cls ≠ "java/lang/invoke/MethodHandle" ∧ yX2_shift.cls ≠ "java/lang/invoke/VarHandle" ∧ (parseMethodDescriptor yX2_shift.desc).map (fun d => d.parameters.length) = some 4 := by decide +kernel
theorem cw_X2_168 : GoodIn lw_all (wsV RX2 168 RX2 yX2_flow (ws_ yX2_flow cX2_flow 11 none)) := lw_V q523 q525 qs22 q85 q526
theorem hd_X2_flow : yX2_flow.cls = RX2 ∧ yX2_flow.cls ≠ "java/lang/invoke/MethodHandle" ∧ yX2_flow.cls ≠ "java/lang/invoke/VarHandle" ∧ (parseMethodDescriptor yX2_flow.desc).map (fun d => d.parameters.length) = some 2 := by decide +kernel
theorem cw_X2_171 : GoodIn lw_all (wsV RX2 171 RX2 yX2_others (ws_ yX2_others cX2_others 5 none)) := lw_V q544 q546 qs27 q85 q547
theorem hd_X2_others : yX2_others.cls = RX2 ∧ yX2_others.cls ≠ "java/lang/invoke/MethodHandle" ∧ yX2_others.cls ≠ "java/lang/invoke/VarHandle" ∧ (parseMethodDescriptor yX2_others.desc).map (fun d => d.parameters.length) = some 2 := by decide +kernel
theorem cw_X2_174 : GoodIn lw_all (wsV RX2 174 RX2 yX2_string (ws_ yX2_string cX2_string 7 none)) := lw_V q613 q615 qs35 q85 q616
theorem hd_X2_string : yX2_string.cls = RX2 ∧ yX2_string.cls ≠ "java/lang/invoke/MethodHandle" ∧ yX2_string.cls ≠ "java/lang/invoke/VarHandle" ∧ (parseMethodDescriptor yX2_string.desc).map (fun d => d.parameters.length) = some 2 := by decide +kernel
theorem cw_X2_177 : GoodIn lw_all (wsV RX2 177 RX2 yX2_sum (ws_ yX2_sum cX2_sum 9 (some .long))) := lw_V q428 q430 qs7 q85 q431
theorem hd_X2_sum : yX2_sum.cls = RX2 ∧ yX2_sum.cls ≠ "java/lang/invoke/MethodHandle" ∧ yX2_sum.cls ≠ "java/lang/invoke/VarHandle" ∧ (parseMethodDescriptor yX2_sum.desc).map (fun d => d.parameters.length) = some 4 := by decide +kernel
theorem cw_X2_181 : GoodIn lw_all (wsV RX2 181 RX2 yX2_difference (ws_ yX2_difference cX2_difference 9 (some .long))) := lw_V q450 q452 qs10 q85 q453
theorem hd_X2_difference : yX2_difference.cls = RX2 ∧ yX2_difference.cls ≠ "java/lang/invoke/MethodHandle" ∧ yX2_difference.cls ≠ "java/lang/invoke/VarHandle" ∧ (parseMethodDescriptor yX2_difference.desc).map (fun d => d.parameters.length) = some 4 := by decide +kernel
theorem cw_X2_184 : GoodIn lw_all (wsV RX2 184 RX2 yX2_logic (ws_ yX2_logic cX2_logic 9 (some .long))) := lw_V q454 q456 qs11 q85 q457
theorem hd_X2_logic : yX2_logic.cls = RX2 ∧ yX2_logic.cls ≠ "java/lang/invoke/MethodHandle" ∧ yX2_logic.cls ≠ "java/lang/invoke/VarHandle" ∧ (parseMethodDescriptor yX2_logic.desc).map (fun d => d.parameters.length) = some 4 := by decide +kernel
theorem cw_X2_188 : GoodIn lw_all (wsV RX2 188 RX2 yX2_put (ws_ yX2_put cX2_put 5 none)) := lw_V q458 q460 qs12 q85 q461
theorem hd_X2_put : yX2_put.cls = RX2 ∧ yX2_put.cls ≠ "java/lang/invoke/MethodHandle" ∧ yX2_put.cls ≠ "java/lang/invoke/VarHandle" ∧ (parseMethodDescriptor yX2_put.desc).map (fun d => d.parameters.length) = some 3 := by decide +kernel
theorem cw_X2_191 : GoodIn lw_all (wsV RX2 191 RX2 yX2_product (ws_ yX2_product cX2_product 11 none)) := lw_V q479 q481 qs16 q85 q482
theorem hd_X2_product : yX2_product.cls = RX2 ∧ yX2_product.cls ≠ "java/lang/invoke/MethodHandle" ∧ yX2_product.cls ≠ "java/lang/invoke/VarHandle" ∧ (parseMethodDescriptor yX2_product.desc).map (fun d => d.parameters.length) = some 3 := by decide +kernel
theorem cw_X2_195 : GoodIn lw_all (wsV RX2 195 RX2 yX2_quotient (ws_ yX2_quotient cX2_quotient 14 none)) := lw_V q491 q493 qs17 q85 q494
theorem hd_X2_quotient : yX2_quotient.cls = RX2 ∧ yX2_quotient.cls ≠ "java/lang/invoke/MethodHandle" ∧ yX2_quotient.cls ≠ "java/lang/invoke/VarHandle" ∧ (parseMethodDescriptor yX2_quotient.desc).map (fun d => d.parameters.length) = some 3 := by decide +kernel
theorem cw_X2_198 : GoodIn lw_all (wsV RX2 198 RX2 yX2_times (ws_ yX2_times cX2_times 10 none)) := lw_V q515 q517 qs20 q85 q518
theorem hd_X2_times : yX2_times.cls = RX2 ∧ yX2_times.cls ≠ "java/lang/invoke/MethodHandle" ∧ yX2_times.cls ≠ "java/lang/invoke/VarHandle" ∧ (parseMethodDescriptor yX2_times.desc).map (fun d => d.parameters.length) = some 1 := by decide +kernel
theorem cw_X2_202 : GoodIn lw_all (va_wsS RX2 202 yX2_upper (ws_ yX2_upper cX2_upper 16 (some .long))) := lw_S q486 q487 q85 q488
theorem hd_X2_upper : yX2_upper.cls ≠ "java/lang/invoke/MethodHandle" ∧ yX2_upper.cls ≠ "java/lang/invoke/VarHandle" ∧ (parseMethodDescriptor yX2_upper.desc).map (fun d => d.parameters.length) = some 2 := by decide +kernel
theorem cw_X2_206 : GoodIn lw_all (va_wsS RX2 206 yX2_upperSigned (ws_ yX2_upperSigned cX2_upperSigned 4 (some .long))) := lw_S q483 q484 q85 q485
theorem hd_X2_upperSigned : yX2_upperSigned.cls ≠ "java/lang/invoke/MethodHandle" ∧ yX2_upperSigned.cls ≠ "java/lang/invoke/VarHandle" ∧ (parseMethodDescriptor yX2_upperSigned.desc).map (fun d => d.parameters.length) = some 2 := by decide +kernel
theorem cw_X2_213 : GoodIn lw_all (wsV RX2 213 RX2 yX2_wide (ws_ yX2_wide cX2_wide 21 none)) := lw_V q495 q497 qs18 q85 q498
theorem hd_X2_wide : yX2_wide.cls = RX2 ∧ yX2_wide.cls ≠ "java/lang/invoke/MethodHandle" ∧ yX2_wide.cls ≠ "java/lang/invoke/VarHandle" ∧ (parseMethodDescriptor yX2_wide.desc).map (fun d => d.parameters.length) = some 4 := by decide +kernel
theorem cw_X2_217 : GoodIn lw_all (va_wsS RX2 217 yJ0_divideUnsigned (ws_ yJ0_divideUnsigned cJ0_divideUnsigned 8 (some .long))) := lw_S q511 q512 q91 q513
theorem hd_J0_divideUnsigned : yJ0_divideUnsigned.cls ≠ "java/lang/invoke/MethodHandle" ∧ yJ0_divideUnsigned.cls ≠ "java/lang/invoke/VarHandle" ∧ (parseMethodDescriptor yJ0_divideUnsigned.desc).map (fun d => d.parameters.length) = some 2 := by decide +kernel
theorem cw_X2_224 : GoodIn lw_all (wsV RX2 224 RX2 yX2_divided (ws_ yX2_divided cX2_divided 6 none)) := lw_V q507 q509 qs19 q85 q510
theorem hd_X2_divided : yX2_divided.cls = RX2 ∧ yX2_divided.cls ≠ "java/lang/invoke/MethodHandle" ∧ yX2_divided.cls ≠ "java/lang/invoke/VarHandle" ∧ (parseMethodDescriptor yX2_divided.desc).map (fun d => d.parameters.length) = some 3 := by decide +kernel
theorem cw_X2_228 : GoodIn lw_all (va_wsS RX2 228 yJ0_compareUnsigned (ws_ yJ0_compareUnsigned cJ0_compareUnsigned 4 (some .int))) := lw_S q499 q500 q91 q501
theorem hd_J0_compareUnsigned : yJ0_compareUnsigned.cls ≠ "java/lang/invoke/MethodHandle" ∧ yJ0_compareUnsigned.cls ≠ "java/lang/invoke/VarHandle" ∧ (parseMethodDescriptor yJ0_compareUnsigned.desc).map (fun d => d.parameters.length) = some 2 := by decide +kernel
theorem cw_X2_234 : GoodIn lw_all (wsV RX2 234 RX2 yX2_push (ws_ yX2_push cX2_push 3 none)) := lw_V q527 q529 qs23 q85 q530
theorem hd_X2_push : yX2_push.cls = RX2 ∧ yX2_push.cls ≠ "java/lang/invoke/MethodHandle" ∧ yX2_push.cls ≠ "java/lang/invoke/VarHandle" ∧ (parseMethodDescriptor yX2_push.desc).map (fun d => d.parameters.length) = some 1 := by decide +kernel
theorem cw_X2_238 : GoodIn lw_all (wsV RX2 238 RX2 yX2_pop (ws_ yX2_pop cX2_pop 3 none)) := lw_V q532 q534 qs24 q85 q535
theorem hd_X2_pop : yX2_pop.cls = RX2 ∧ yX2_pop.cls ≠ "java/lang/invoke/MethodHandle" ∧ yX2_pop.cls ≠ "java/lang/invoke/VarHandle" ∧ (parseMethodDescriptor yX2_pop.desc).map (fun d => d.parameters.length) = some 0 := by decide +kernel
theorem cw_X2_241 : GoodIn lw_all (wsV RX2 241 RX2 yX2_target (ws_ yX2_target cX2_target 1 (some .long))) := lw_V q536 q538 qs25 q85 q539
theorem hd_X2_target : yX2_target.cls = RX2 ∧ yX2_target.cls ≠ "java/lang/invoke/MethodHandle" ∧ yX2_target.cls ≠ "java/lang/invoke/VarHandle" ∧ (parseMethodDescriptor yX2_target.desc).map (fun d => d.parameters.length) = some 0 := by decide +kernel
theorem cw_X2_247 : GoodIn lw_all (wsV RX2 247 RX2 yX2_holds (ws_ yX2_holds cX2_holds 3 (some .boolean))) := lw_V q540 q542 qs26 q85 q543
theorem hd_X2_holds : yX2_holds.cls = RX2 ∧ yX2_holds.cls ≠ "java/lang/invoke/MethodHandle" ∧ yX2_holds.cls ≠ "java/lang/invoke/VarHandle" ∧ (parseMethodDescriptor yX2_holds.desc).map (fun d => d.parameters.length) = some 1 := by decide +kernel
theorem cw_X2_250 : GoodIn lw_all (wsV RX2 250 RX2 yX2_serve (ws_ yX2_serve cX2_serve 3 none)) := lw_V q548 q550 qs28 q85 q551
theorem hd_X2_serve : yX2_serve.cls = RX2 ∧ yX2_serve.cls ≠ "java/lang/invoke/MethodHandle" ∧ yX2_serve.cls ≠ "java/lang/invoke/VarHandle" ∧ (parseMethodDescriptor yX2_serve.desc).map (fun d => d.parameters.length) = some 0 := by decide +kernel
theorem cw_X2_253 : GoodIn lw_all (wsV RX2 253 RX2 yX2_scan (ws_ yX2_scan cX2_scan 5 none)) := lw_V q583 q585 qs32 q85 q586
theorem hd_X2_scan : yX2_scan.cls = RX2 ∧ yX2_scan.cls ≠ "java/lang/invoke/MethodHandle" ∧ yX2_scan.cls ≠ "java/lang/invoke/VarHandle" ∧ (parseMethodDescriptor yX2_scan.desc).map (fun d => d.parameters.length) = some 3 := by decide +kernel
theorem cw_X2_256 : GoodIn lw_all (va_wsS RX2 256 yJ0_reverseBytes (ws_ yJ0_reverseBytes cJ0_reverseBytes 2 (some .long))) := lw_S q600 q601 q91 q602
theorem hd_J0_reverseBytes : yJ0_reverseBytes.cls ≠ "java/lang/invoke/MethodHandle" ∧ yJ0_reverseBytes.cls ≠ "java/lang/invoke/VarHandle" ∧ (parseMethodDescriptor yJ0_reverseBytes.desc).map (fun d => d.parameters.length) = some 1 := by decide +kernel
theorem cw_X2_260 : GoodIn lw_all (wsV RX2 260 RX2 yX2_exchangeAdd (ws_ yX2_exchangeAdd cX2_exchangeAdd 9 none)) := lw_V q605 q607 qs33 q85 q608
theorem hd_X2_exchangeAdd : yX2_exchangeAdd.cls = RX2 ∧ yX2_exchangeAdd.cls ≠ "java/lang/invoke/MethodHandle" ∧ yX2_exchangeAdd.cls ≠ "java/lang/invoke/VarHandle" ∧ (parseMethodDescriptor yX2_exchangeAdd.desc).map (fun d => d.parameters.length) = some 1 := by decide +kernel
theorem cw_X2_263 : GoodIn lw_all (wsV RX2 263 RX2 yX2_compareExchange (ws_ yX2_compareExchange cX2_compareExchange 6 none)) := lw_V q609 q611 qs34 q85 q612
theorem hd_X2_compareExchange : yX2_compareExchange.cls = RX2 ∧ yX2_compareExchange.cls ≠ "java/lang/invoke/MethodHandle" ∧ yX2_compareExchange.cls ≠ "java/lang/invoke/VarHandle" ∧ (parseMethodDescriptor yX2_compareExchange.desc).map (fun d => d.parameters.length) = some 1 := by decide +kernel
theorem cw_X2_266 : GoodIn lw_all (va_wsS RX2 266 yJ0_numberOfLeadingZeros (ws_ yJ0_numberOfLeadingZeros cJ0_numberOfLeadingZeros 3 (some .int))) := lw_S q587 q588 q91 q589
theorem hd_J0_numberOfLeadingZeros : yJ0_numberOfLeadingZeros.cls ≠ "java/lang/invoke/MethodHandle" ∧ yJ0_numberOfLeadingZeros.cls ≠ "java/lang/invoke/VarHandle" ∧ (parseMethodDescriptor yJ0_numberOfLeadingZeros.desc).map (fun d => d.parameters.length) = some 1 := by decide +kernel
theorem cw_X2_270 : GoodIn lw_all (va_wsS RX2 270 yJ0_numberOfTrailingZeros (ws_ yJ0_numberOfTrailingZeros cJ0_numberOfTrailingZeros 3 (some .int))) := lw_S q594 q595 q91 q596
theorem hd_J0_numberOfTrailingZeros : yJ0_numberOfTrailingZeros.cls ≠ "java/lang/invoke/MethodHandle" ∧ yJ0_numberOfTrailingZeros.cls ≠ "java/lang/invoke/VarHandle" ∧ (parseMethodDescriptor yJ0_numberOfTrailingZeros.desc).map (fun d => d.parameters.length) = some 1 := by decide +kernel
theorem cw_X2_273 : GoodIn lw_all (wsV RX2 273 RX2 yX2_readInput (ws_ yX2_readInput cX2_readInput 3 (some .long))) := lw_V q552 q554 qs29 q85 q555
theorem hd_X2_readInput : yX2_readInput.cls = RX2 ∧ yX2_readInput.cls ≠ "java/lang/invoke/MethodHandle" ∧ yX2_readInput.cls ≠ "java/lang/invoke/VarHandle" ∧ (parseMethodDescriptor yX2_readInput.desc).map (fun d => d.parameters.length) = some 0 := by decide +kernel
theorem cw_X2_276 : GoodIn lw_all (wsV RX2 276 RX2 yX2_writeOutput (ws_ yX2_writeOutput cX2_writeOutput 5 (some .long))) := lw_V q566 q568 qs31 q85 q569
theorem hd_X2_writeOutput : yX2_writeOutput.cls = RX2 ∧ yX2_writeOutput.cls ≠ "java/lang/invoke/MethodHandle" ∧ yX2_writeOutput.cls ≠ "java/lang/invoke/VarHandle" ∧ (parseMethodDescriptor yX2_writeOutput.desc).map (fun d => d.parameters.length) = some 0 := by decide +kernel
theorem cw_X2_281 : GoodIn lw_all (wsV RX2 281 RX1 yX1_moveBreak (ws_ yX1_moveBreak cX1_moveBreak 5 (some .long))) := lw_V q577 q578 q579 q84 q580
theorem hd_X1_moveBreak : yX1_moveBreak.cls = RX1 ∧ yX1_moveBreak.cls ≠ "java/lang/invoke/MethodHandle" ∧ yX1_moveBreak.cls ≠ "java/lang/invoke/VarHandle" ∧ (parseMethodDescriptor yX1_moveBreak.desc).map (fun d => d.parameters.length) = some 1 := by decide +kernel
theorem cw_X2_288 : GoodIn lw_all (wsV RX2 288 RX1 yX1_where (ws_ yX1_where cX1_where 5 (some .int))) := lw_V q560 q401 q402 q84 q403
theorem cw_X2_292 : GoodIn lw_all (wsV RX2 292 RX2 yX2_all (ws_ yX2_all cX2_all 9 (some .boolean))) := lw_V q556 q558 qs30 q85 q559
theorem hd_X2_all : yX2_all.cls = RX2 ∧ yX2_all.cls ≠ "java/lang/invoke/MethodHandle" ∧ yX2_all.cls ≠ "java/lang/invoke/VarHandle" ∧ (parseMethodDescriptor yX2_all.desc).map (fun d => d.parameters.length) = some 3 := by decide +kernel
theorem cw_X2_303 : GoodIn lw_all (wsV RX2 303 RX3 yX3_drop (ws_ yX3_drop cX3_drop 3 none)) := lw_V q562 q563 q564 q86 q565
theorem hd_X3_drop : yX3_drop.cls = RX3 ∧ yX3_drop.cls ≠ "java/lang/invoke/MethodHandle" ∧ yX3_drop.cls ≠ "java/lang/invoke/VarHandle" ∧ (parseMethodDescriptor yX3_drop.desc).map (fun d => d.parameters.length) = some 1 := by decide +kernel
theorem cw_X2_309 : GoodIn lw_all (wsV RX2 309 RX3 yX3_add (ws_ yX3_add cX3_add 2 none)) := lw_V q572 q573 q574 q86 q575
theorem cw_X5_57 : GoodIn lw_all (wsV RX5 57 RX5 yX5_anew (ws_ yX5_anew cX5_anew 8 none)) := lw_V q657 q659 qs36 q89 q660
theorem hd_X5_anew : yX5_anew.cls = RX5 ∧ yX5_anew.cls ≠ "java/lang/invoke/MethodHandle" ∧ yX5_anew.cls ≠ "java/lang/invoke/VarHandle" ∧ (parseMethodDescriptor yX5_anew.desc).map (fun d => d.parameters.length) = some 6 := by decide +kernel
theorem cw_X5_84 : GoodIn lw_all (wsV RX5 84 RX5 yX5_setFlags (ws_ yX5_setFlags cX5_setFlags 3 none)) := lw_V q662 q664 qs37 q89 q665
theorem hd_X5_setFlags : yX5_setFlags.cls = RX5 ∧ yX5_setFlags.cls ≠ "java/lang/invoke/MethodHandle" ∧ yX5_setFlags.cls ≠ "java/lang/invoke/VarHandle" ∧ (parseMethodDescriptor yX5_setFlags.desc).map (fun d => d.parameters.length) = some 1 := by decide +kernel
theorem cw_X5_130 : GoodIn lw_all (wsV RX5 130 RX5 yX5_isNumber (ws_ yX5_isNumber cX5_isNumber 6 (some .boolean))) := lw_V q846 q848 qs43 q89 q849
theorem hd_X5_isNumber : yX5_isNumber.cls = RX5 ∧ yX5_isNumber.cls ≠ "java/lang/invoke/MethodHandle" ∧ yX5_isNumber.cls ≠ "java/lang/invoke/VarHandle" ∧ (parseMethodDescriptor yX5_isNumber.desc).map (fun d => d.parameters.length) = some 3 := by decide +kernel
theorem cw_X5_138 : GoodIn lw_all (wsV RX5 138 RX5 yX5_isEither (ws_ yX5_isEither cX5_isEither 2 (some .boolean))) := lw_V q836 q838 qs41 q89 q839
theorem hd_X5_isEither : yX5_isEither.cls = RX5 ∧ yX5_isEither.cls ≠ "java/lang/invoke/MethodHandle" ∧ yX5_isEither.cls ≠ "java/lang/invoke/VarHandle" ∧ (parseMethodDescriptor yX5_isEither.desc).map (fun d => d.parameters.length) = some 1 := by decide +kernel
theorem cw_X5_142 : GoodIn lw_all (wsV RX5 142 RX5 yX5_isPlain (ws_ yX5_isPlain cX5_isPlain 2 (some .boolean))) := lw_V q840 q842 qs42 q89 q843
theorem hd_X5_isPlain : yX5_isPlain.cls = RX5 ∧ yX5_isPlain.cls ≠ "java/lang/invoke/MethodHandle" ∧ yX5_isPlain.cls ≠ "java/lang/invoke/VarHandle" ∧ (parseMethodDescriptor yX5_isPlain.desc).map (fun d => d.parameters.length) = some 1 := by decide +kernel
theorem cw_X5_149 : GoodIn lw_all (wsV RX5 149 RX5 yX5_sizeFits (ws_ yX5_sizeFits cX5_sizeFits 4 (some .boolean))) := lw_V q828 q830 qs39 q89 q831
theorem hd_X5_sizeFits : yX5_sizeFits.cls = RX5 ∧ yX5_sizeFits.cls ≠ "java/lang/invoke/MethodHandle" ∧ yX5_sizeFits.cls ≠ "java/lang/invoke/VarHandle" ∧ (parseMethodDescriptor yX5_sizeFits.desc).map (fun d => d.parameters.length) = some 0 := by decide +kernel
theorem cw_X5_153 : GoodIn lw_all (wsV RX5 153 RX5 yX5_operandsFit (ws_ yX5_operandsFit cX5_operandsFit 5 (some .boolean))) := lw_V q832 q834 qs40 q89 q835
theorem hd_X5_operandsFit : yX5_operandsFit.cls = RX5 ∧ yX5_operandsFit.cls ≠ "java/lang/invoke/MethodHandle" ∧ yX5_operandsFit.cls ≠ "java/lang/invoke/VarHandle" ∧ (parseMethodDescriptor yX5_operandsFit.desc).map (fun d => d.parameters.length) = some 0 := by decide +kernel
theorem cw_X5_156 : GoodIn lw_all (wsV RX5 156 RX5 yX5_memoryFits (ws_ yX5_memoryFits cX5_memoryFits 2 (some .boolean))) := lw_V q854 q856 qs44 q89 q857
theorem hd_X5_memoryFits : yX5_memoryFits.cls = RX5 ∧ yX5_memoryFits.cls ≠ "java/lang/invoke/MethodHandle" ∧ yX5_memoryFits.cls ≠ "java/lang/invoke/VarHandle" ∧ (parseMethodDescriptor yX5_memoryFits.desc).map (fun d => d.parameters.length) = some 0 := by decide +kernel
theorem cw_X5_159 : GoodIn lw_all (wsV RX5 159 RX5 yX5_heapBegin (ws_ yX5_heapBegin cX5_heapBegin 1 (some .long))) := lw_V q899 q901 qs54 q89 q902
theorem hd_X5_heapBegin : yX5_heapBegin.cls = RX5 ∧ yX5_heapBegin.cls ≠ "java/lang/invoke/MethodHandle" ∧ yX5_heapBegin.cls ≠ "java/lang/invoke/VarHandle" ∧ (parseMethodDescriptor yX5_heapBegin.desc).map (fun d => d.parameters.length) = some 0 := by decide +kernel
theorem cw_X5_176 : GoodIn lw_all (wsV RX5 176 RX5 yX5_find (ws_ yX5_find cX5_find 10 (some .int))) := lw_V q895 q897 qs53 q89 q898
theorem hd_X5_find : yX5_find.cls = RX5 ∧ yX5_find.cls ≠ "java/lang/invoke/MethodHandle" ∧ yX5_find.cls ≠ "java/lang/invoke/VarHandle" ∧ (parseMethodDescriptor yX5_find.desc).map (fun d => d.parameters.length) = some 2 := by decide +kernel
theorem cw_X5_180 : GoodIn lw_all (wsV RX5 180 RX5 yX5_stopWith (ws_ yX5_stopWith cX5_stopWith 4 none)) := lw_V q907 q909 qs55 q89 q910
theorem hd_X5_stopWith : yX5_stopWith.cls = RX5 ∧ yX5_stopWith.cls ≠ "java/lang/invoke/MethodHandle" ∧ yX5_stopWith.cls ≠ "java/lang/invoke/VarHandle" ∧ (parseMethodDescriptor yX5_stopWith.desc).map (fun d => d.parameters.length) = some 2 := by decide +kernel
theorem cw_X5_184 : GoodIn lw_all (wsV RX5 184 RX5 yX5_byteAtPlace (ws_ yX5_byteAtPlace cX5_byteAtPlace 2 (some .int))) := lw_V q911 q913 qs56 q89 q914
theorem hd_X5_byteAtPlace : yX5_byteAtPlace.cls = RX5 ∧ yX5_byteAtPlace.cls ≠ "java/lang/invoke/MethodHandle" ∧ yX5_byteAtPlace.cls ≠ "java/lang/invoke/VarHandle" ∧ (parseMethodDescriptor yX5_byteAtPlace.desc).map (fun d => d.parameters.length) = some 1 := by decide +kernel
theorem cw_X5_188 : GoodIn lw_all (wsV RX5 188 RX5 yX5_setPlace (ws_ yX5_setPlace cX5_setPlace 3 none)) := lw_V q948 q950 qs63 q89 q951
theorem hd_X5_setPlace : yX5_setPlace.cls = RX5 ∧ yX5_setPlace.cls ≠ "java/lang/invoke/MethodHandle" ∧ yX5_setPlace.cls ≠ "java/lang/invoke/VarHandle" ∧ (parseMethodDescriptor yX5_setPlace.desc).map (fun d => d.parameters.length) = some 2 := by decide +kernel
theorem cw_X5_194 : GoodIn lw_all (wsV RX5 194 RX5 yX5_kindAt (ws_ yX5_kindAt cX5_kindAt 2 (some .int))) := lw_V q879 q881 qs50 q89 q882
theorem hd_X5_kindAt : yX5_kindAt.cls = RX5 ∧ yX5_kindAt.cls ≠ "java/lang/invoke/MethodHandle" ∧ yX5_kindAt.cls ≠ "java/lang/invoke/VarHandle" ∧ (parseMethodDescriptor yX5_kindAt.desc).map (fun d => d.parameters.length) = some 1 := by decide +kernel
theorem cw_X5_197 : GoodIn lw_all (wsV RX5 197 RX5 yX5_registerAt (ws_ yX5_registerAt cX5_registerAt 2 (some .int))) := lw_V q883 q885 qs51 q89 q886
theorem hd_X5_registerAt : yX5_registerAt.cls = RX5 ∧ yX5_registerAt.cls ≠ "java/lang/invoke/MethodHandle" ∧ yX5_registerAt.cls ≠ "java/lang/invoke/VarHandle" ∧ (parseMethodDescriptor yX5_registerAt.desc).map (fun d => d.parameters.length) = some 1 := by decide +kernel
theorem cw_X5_200 : GoodIn lw_all (va_wsS RX5 200 yX5_cut (ws_ yX5_cut cX5_cut 3 (some .long))) := lw_S q887 q888 q89 q889
theorem hd_X5_cut : yX5_cut.cls ≠ "java/lang/invoke/MethodHandle" ∧ yX5_cut.cls ≠ "java/lang/invoke/VarHandle" ∧ (parseMethodDescriptor yX5_cut.desc).map (fun d => d.parameters.length) = some 2 := by decide +kernel
theorem cw_X5_207 : GoodIn lw_all (wsV RX5 207 RX5 yX5_load (ws_ yX5_load cX5_load 8 (some .long))) := lw_V q891 q893 qs52 q89 q894
theorem hd_X5_load : yX5_load.cls = RX5 ∧ yX5_load.cls ≠ "java/lang/invoke/MethodHandle" ∧ yX5_load.cls ≠ "java/lang/invoke/VarHandle" ∧ (parseMethodDescriptor yX5_load.desc).map (fun d => d.parameters.length) = some 2 := by decide +kernel
theorem cw_X5_212 : GoodIn lw_all (wsV RX5 212 RX5 yX5_setRegister (ws_ yX5_setRegister cX5_setRegister 5 none)) := lw_V q939 q941 qs61 q89 q942
theorem hd_X5_setRegister : yX5_setRegister.cls = RX5 ∧ yX5_setRegister.cls ≠ "java/lang/invoke/MethodHandle" ∧ yX5_setRegister.cls ≠ "java/lang/invoke/VarHandle" ∧ (parseMethodDescriptor yX5_setRegister.desc).map (fun d => d.parameters.length) = some 3 := by decide +kernel
theorem cw_X5_216 : GoodIn lw_all (wsV RX5 216 RX5 yX5_store (ws_ yX5_store cX5_store 7 none)) := lw_V q944 q946 qs62 q89 q947
theorem hd_X5_store : yX5_store.cls = RX5 ∧ yX5_store.cls ≠ "java/lang/invoke/MethodHandle" ∧ yX5_store.cls ≠ "java/lang/invoke/VarHandle" ∧ (parseMethodDescriptor yX5_store.desc).map (fun d => d.parameters.length) = some 3 := by decide +kernel
theorem cw_X5_224 : GoodIn lw_all (va_wsS RX5 224 yX5_upper (ws_ yX5_upper cX5_upper 3 (some .long))) := lw_S q924 q925 q89 q926
theorem hd_X5_upper : yX5_upper.cls ≠ "java/lang/invoke/MethodHandle" ∧ yX5_upper.cls ≠ "java/lang/invoke/VarHandle" ∧ (parseMethodDescriptor yX5_upper.desc).map (fun d => d.parameters.length) = some 2 := by decide +kernel
theorem cw_X5_233 : GoodIn lw_all (va_wsS RX5 233 yX5_below (ws_ yX5_below cX5_below 4 (some .boolean))) := lw_S q920 q921 q89 q922
theorem hd_X5_below : yX5_below.cls ≠ "java/lang/invoke/MethodHandle" ∧ yX5_below.cls ≠ "java/lang/invoke/VarHandle" ∧ (parseMethodDescriptor yX5_below.desc).map (fun d => d.parameters.length) = some 2 := by decide +kernel
theorem cw_X5_243 : GoodIn lw_all (wsV RX5 243 RX5 yX5_zsp (ws_ yX5_zsp cX5_zsp 6 none)) := lw_V q927 q929 qs58 q89 q930
theorem hd_X5_zsp : yX5_zsp.cls = RX5 ∧ yX5_zsp.cls ≠ "java/lang/invoke/MethodHandle" ∧ yX5_zsp.cls ≠ "java/lang/invoke/VarHandle" ∧ (parseMethodDescriptor yX5_zsp.desc).map (fun d => d.parameters.length) = some 2 := by decide +kernel
theorem cw_X5_257 : GoodIn lw_all (wsV RX5 257 RX5 yX5_take (ws_ yX5_take cX5_take 4 (some .long))) := lw_V q875 q877 qs49 q89 q878
theorem hd_X5_take : yX5_take.cls = RX5 ∧ yX5_take.cls ≠ "java/lang/invoke/MethodHandle" ∧ yX5_take.cls ≠ "java/lang/invoke/VarHandle" ∧ (parseMethodDescriptor yX5_take.desc).map (fun d => d.parameters.length) = some 2 := by decide +kernel
theorem cw_X5_261 : GoodIn lw_all (wsV RX5 261 RX5 yX5_add (ws_ yX5_add cX5_add 9 (some .long))) := lw_V q916 q918 qs57 q89 q919
theorem hd_X5_add : yX5_add.cls = RX5 ∧ yX5_add.cls ≠ "java/lang/invoke/MethodHandle" ∧ yX5_add.cls ≠ "java/lang/invoke/VarHandle" ∧ (parseMethodDescriptor yX5_add.desc).map (fun d => d.parameters.length) = some 4 := by decide +kernel
theorem cw_X5_265 : GoodIn lw_all (wsV RX5 265 RX5 yX5_subtract (ws_ yX5_subtract cX5_subtract 9 (some .long))) := lw_V q931 q933 qs59 q89 q934
theorem hd_X5_subtract : yX5_subtract.cls = RX5 ∧ yX5_subtract.cls ≠ "java/lang/invoke/MethodHandle" ∧ yX5_subtract.cls ≠ "java/lang/invoke/VarHandle" ∧ (parseMethodDescriptor yX5_subtract.desc).map (fun d => d.parameters.length) = some 4 := by decide +kernel
theorem cw_X5_268 : GoodIn lw_all (wsV RX5 268 RX5 yX5_put (ws_ yX5_put cX5_put 5 none)) := lw_V q935 q937 qs60 q89 q938
theorem hd_X5_put : yX5_put.cls = RX5 ∧ yX5_put.cls ≠ "java/lang/invoke/MethodHandle" ∧ yX5_put.cls ≠ "java/lang/invoke/VarHandle" ∧ (parseMethodDescriptor yX5_put.desc).map (fun d => d.parameters.length) = some 3 := by decide +kernel
theorem cw_X5_271 : GoodIn lw_all (wsV RX5 271 RX5 yX5_addressNow (ws_ yX5_addressNow cX5_addressNow 3 (some .long))) := lw_V q863 q865 qs46 q89 q866
theorem hd_X5_addressNow : yX5_addressNow.cls = RX5 ∧ yX5_addressNow.cls ≠ "java/lang/invoke/MethodHandle" ∧ yX5_addressNow.cls ≠ "java/lang/invoke/VarHandle" ∧ (parseMethodDescriptor yX5_addressNow.desc).map (fun d => d.parameters.length) = some 0 := by decide +kernel
theorem cw_X5_274 : GoodIn lw_all (va_wsS RX5 274 yX5_signed (ws_ yX5_signed cX5_signed 3 (some .long))) := lw_S q956 q957 q89 q958
theorem hd_X5_signed : yX5_signed.cls ≠ "java/lang/invoke/MethodHandle" ∧ yX5_signed.cls ≠ "java/lang/invoke/VarHandle" ∧ (parseMethodDescriptor yX5_signed.desc).map (fun d => d.parameters.length) = some 2 := by decide +kernel
theorem cw_X5_281 : GoodIn lw_all (va_wsS RX5 281 yX5_highUnsigned (ws_ yX5_highUnsigned cX5_highUnsigned 18 (some .long))) := lw_S q972 q973 q89 q974
theorem hd_X5_highUnsigned : yX5_highUnsigned.cls ≠ "java/lang/invoke/MethodHandle" ∧ yX5_highUnsigned.cls ≠ "java/lang/invoke/VarHandle" ∧ (parseMethodDescriptor yX5_highUnsigned.desc).map (fun d => d.parameters.length) = some 2 := by decide +kernel
theorem cw_X5_287 : GoodIn lw_all (va_wsS RX5 287 yX5_highSigned (ws_ yX5_highSigned cX5_highSigned 4 (some .long))) := lw_S q969 q970 q89 q971
theorem hd_X5_highSigned : yX5_highSigned.cls ≠ "java/lang/invoke/MethodHandle" ∧ yX5_highSigned.cls ≠ "java/lang/invoke/VarHandle" ∧ (parseMethodDescriptor yX5_highSigned.desc).map (fun d => d.parameters.length) = some 2 := by decide +kernel
theorem cw_X5_290 : GoodIn lw_all (wsV RX5 290 RX5 yX5_divideSmall (ws_ yX5_divideSmall cX5_divideSmall 14 none)) := lw_V q979 q981 qs68 q89 q982
theorem hd_X5_divideSmall : yX5_divideSmall.cls = RX5 ∧ yX5_divideSmall.cls ≠ "java/lang/invoke/MethodHandle" ∧ yX5_divideSmall.cls ≠ "java/lang/invoke/VarHandle" ∧ (parseMethodDescriptor yX5_divideSmall.desc).map (fun d => d.parameters.length) = some 3 := by decide +kernel
theorem cw_X5_296 : GoodIn lw_all (wsV RX5 296 RX5 yX5_push (ws_ yX5_push cX5_push 3 none)) := lw_V q995 q997 qs72 q89 q998
theorem hd_X5_push : yX5_push.cls = RX5 ∧ yX5_push.cls ≠ "java/lang/invoke/MethodHandle" ∧ yX5_push.cls ≠ "java/lang/invoke/VarHandle" ∧ (parseMethodDescriptor yX5_push.desc).map (fun d => d.parameters.length) = some 1 := by decide +kernel
theorem cw_X5_299 : GoodIn lw_all (wsV RX5 299 RX5 yX5_pop (ws_ yX5_pop cX5_pop 3 (some .long))) := lw_V q1000 q1002 qs73 q89 q1003
theorem hd_X5_pop : yX5_pop.cls = RX5 ∧ yX5_pop.cls ≠ "java/lang/invoke/MethodHandle" ∧ yX5_pop.cls ≠ "java/lang/invoke/VarHandle" ∧ (parseMethodDescriptor yX5_pop.desc).map (fun d => d.parameters.length) = some 0 := by decide +kernel
theorem cw_X5_302 : GoodIn lw_all (wsV RX5 302 RX5 yX5_isMet (ws_ yX5_isMet cX5_isMet 5 (some .boolean))) := lw_V q1004 q1006 qs74 q89 q1007
theorem hd_X5_isMet : yX5_isMet.cls = RX5 ∧ yX5_isMet.cls ≠ "java/lang/invoke/MethodHandle" ∧ yX5_isMet.cls ≠ "java/lang/invoke/VarHandle" ∧ (parseMethodDescriptor yX5_isMet.desc).map (fun d => d.parameters.length) = some 1 := by decide +kernel
theorem cw_X5_310 : GoodIn lw_all (wsV RX5 310 RX5 yX5_flags (ws_ yX5_flags cX5_flags 1 (some .long))) := lw_V q858 q860 qs45 q89 q861
theorem hd_X5_flags : yX5_flags.cls = RX5 ∧ yX5_flags.cls ≠ "java/lang/invoke/MethodHandle" ∧ yX5_flags.cls ≠ "java/lang/invoke/VarHandle" ∧ (parseMethodDescriptor yX5_flags.desc).map (fun d => d.parameters.length) = some 0 := by decide +kernel
theorem cw_X5_313 : GoodIn lw_all (wsV RX5 313 RX5 yX5_may (ws_ yX5_may cX5_may 8 (some .boolean))) := lw_V q1020 q1022 qs78 q89 q1023
theorem hd_X5_may : yX5_may.cls = RX5 ∧ yX5_may.cls ≠ "java/lang/invoke/MethodHandle" ∧ yX5_may.cls ≠ "java/lang/invoke/VarHandle" ∧ (parseMethodDescriptor yX5_may.desc).map (fun d => d.parameters.length) = some 3 := by decide +kernel
theorem cw_X5_327 : GoodIn lw_all (wsV RX5 327 RX5 yX5_arithmetic (ws_ yX5_arithmetic cX5_arithmetic 9 none)) := lw_V q871 q873 qs48 q89 q874
theorem hd_X5_arithmetic : yX5_arithmetic.cls = RX5 ∧ yX5_arithmetic.cls ≠ "java/lang/invoke/MethodHandle" ∧ yX5_arithmetic.cls ≠ "java/lang/invoke/VarHandle" ∧ (parseMethodDescriptor yX5_arithmetic.desc).map (fun d => d.parameters.length) = some 2 := by decide +kernel
theorem cw_X5_330 : GoodIn lw_all (wsV RX5 330 RX5 yX5_moves (ws_ yX5_moves cX5_moves 7 none)) := lw_V q952 q954 qs64 q89 q955
theorem hd_X5_moves : yX5_moves.cls = RX5 ∧ yX5_moves.cls ≠ "java/lang/invoke/MethodHandle" ∧ yX5_moves.cls ≠ "java/lang/invoke/VarHandle" ∧ (parseMethodDescriptor yX5_moves.desc).map (fun d => d.parameters.length) = some 2 := by decide +kernel
theorem cw_X5_333 : GoodIn lw_all (wsV RX5 333 RX5 yX5_single (ws_ yX5_single cX5_single 8 none)) := lw_V q959 q961 qs65 q89 q962
theorem hd_X5_single : yX5_single.cls = RX5 ∧ yX5_single.cls ≠ "java/lang/invoke/MethodHandle" ∧ yX5_single.cls ≠ "java/lang/invoke/VarHandle" ∧ (parseMethodDescriptor yX5_single.desc).map (fun d => d.parameters.length) = some 2 := by decide +kernel
theorem cw_X5_336 : GoodIn lw_all (wsV RX5 336 RX5 yX5_multiply (ws_ yX5_multiply cX5_multiply 11 none)) := lw_V q964 q966 qs66 q89 q967
theorem hd_X5_multiply : yX5_multiply.cls = RX5 ∧ yX5_multiply.cls ≠ "java/lang/invoke/MethodHandle" ∧ yX5_multiply.cls ≠ "java/lang/invoke/VarHandle" ∧ (parseMethodDescriptor yX5_multiply.desc).map (fun d => d.parameters.length) = some 2 := by decide +kernel
theorem cw_X5_340 : GoodIn lw_all (wsV RX5 340 RX5 yX5_divide (ws_ yX5_divide cX5_divide 20 none)) := lw_V q975 q977 qs67 q89 q978
theorem hd_X5_divide : yX5_divide.cls = RX5 ∧ yX5_divide.cls ≠ "java/lang/invoke/MethodHandle" ∧ yX5_divide.cls ≠ "java/lang/invoke/VarHandle" ∧ (parseMethodDescriptor yX5_divide.desc).map (fun d => d.parameters.length) = some 2 := by decide +kernel
theorem cw_X5_343 : GoodIn lw_all (wsV RX5 343 RX5 yX5_product (ws_ yX5_product cX5_product 9 none)) := lw_V q983 q985 qs69 q89 q986
theorem hd_X5_product : yX5_product.cls = RX5 ∧ yX5_product.cls ≠ "java/lang/invoke/MethodHandle" ∧ yX5_product.cls ≠ "java/lang/invoke/VarHandle" ∧ (parseMethodDescriptor yX5_product.desc).map (fun d => d.parameters.length) = some 1 := by decide +kernel
theorem cw_X5_347 : GoodIn lw_all (wsV RX5 347 RX5 yX5_shift (ws_ yX5_shift cX5_shift 15 none)) := lw_V q987 q989 qs70 q89 q990
theorem hd_X5_shift : yX5_shift.cls = RX5 ∧ yX5_shift.cls ≠ "java/lang/invoke/MethodHandle" ∧ yX5_shift.cls ≠ "java/lang/invoke/VarHandle" ∧ (parseMethodDescriptor yX5_shift.desc).map (fun d => d.parameters.length) = some 2 := by decide +kernel
theorem cw_X5_350 : GoodIn lw_all (wsV RX5 350 RX5 yX5_goes (ws_ yX5_goes cX5_goes 4 none)) := lw_V q991 q993 qs71 q89 q994
theorem hd_X5_goes : yX5_goes.cls = RX5 ∧ yX5_goes.cls ≠ "java/lang/invoke/MethodHandle" ∧ yX5_goes.cls ≠ "java/lang/invoke/VarHandle" ∧ (parseMethodDescriptor yX5_goes.desc).map (fun d => d.parameters.length) = some 1 := by decide +kernel
theorem cw_X5_353 : GoodIn lw_all (wsV RX5 353 RX5 yX5_choose (ws_ yX5_choose cX5_choose 6 none)) := lw_V q1008 q1010 qs75 q89 q1011
theorem hd_X5_choose : yX5_choose.cls = RX5 ∧ yX5_choose.cls ≠ "java/lang/invoke/MethodHandle" ∧ yX5_choose.cls ≠ "java/lang/invoke/VarHandle" ∧ (parseMethodDescriptor yX5_choose.desc).map (fun d => d.parameters.length) = some 1 := by decide +kernel
theorem cw_X5_356 : GoodIn lw_all (wsV RX5 356 RX5 yX5_spread (ws_ yX5_spread cX5_spread 5 none)) := lw_V q1012 q1014 qs76 q89 q1015
theorem hd_X5_spread : yX5_spread.cls = RX5 ∧ yX5_spread.cls ≠ "java/lang/invoke/MethodHandle" ∧ yX5_spread.cls ≠ "java/lang/invoke/VarHandle" ∧ (parseMethodDescriptor yX5_spread.desc).map (fun d => d.parameters.length) = some 2 := by decide +kernel
theorem cw_X5_359 : GoodIn lw_all (wsV RX5 359 RX5 yX5_service (ws_ yX5_service cX5_service 12 none)) := lw_V q1016 q1018 qs77 q89 q1019
theorem hd_X5_service : yX5_service.cls = RX5 ∧ yX5_service.cls ≠ "java/lang/invoke/MethodHandle" ∧ yX5_service.cls ≠ "java/lang/invoke/VarHandle" ∧ (parseMethodDescriptor yX5_service.desc).map (fun d => d.parameters.length) = some 0 := by decide +kernel
theorem cw_X5_362 : GoodIn lw_all (wsV RX5 362 RX5 yX5_bits (ws_ yX5_bits cX5_bits 8 none)) := lw_V q1030 q1032 qs79 q89 q1033
theorem hd_X5_bits : yX5_bits.cls = RX5 ∧ yX5_bits.cls ≠ "java/lang/invoke/MethodHandle" ∧ yX5_bits.cls ≠ "java/lang/invoke/VarHandle" ∧ (parseMethodDescriptor yX5_bits.desc).map (fun d => d.parameters.length) = some 2 := by decide +kernel
theorem cw_X5_365 : GoodIn lw_all (wsV RX5 365 RX5 yX5_together (ws_ yX5_together cX5_together 9 none)) := lw_V q1034 q1036 qs80 q89 q1037
theorem hd_X5_together : yX5_together.cls = RX5 ∧ yX5_together.cls ≠ "java/lang/invoke/MethodHandle" ∧ yX5_together.cls ≠ "java/lang/invoke/VarHandle" ∧ (parseMethodDescriptor yX5_together.desc).map (fun d => d.parameters.length) = some 2 := by decide +kernel
theorem cw_X5_368 : GoodIn lw_all (wsV RX5 368 RX5 yX5_strings (ws_ yX5_strings cX5_strings 7 none)) := lw_V q1038 q1040 qs81 q89 q1041
theorem hd_X5_strings : yX5_strings.cls = RX5 ∧ yX5_strings.cls ≠ "java/lang/invoke/MethodHandle" ∧ yX5_strings.cls ≠ "java/lang/invoke/VarHandle" ∧ (parseMethodDescriptor yX5_strings.desc).map (fun d => d.parameters.length) = some 2 := by decide +kernel
theorem cw_X5_371 : GoodIn lw_all (wsV RX5 371 RX5 yX5_isSound (ws_ yX5_isSound cX5_isSound 4 (some .boolean))) := lw_V q824 q826 qs38 q89 q827
theorem hd_X5_isSound : yX5_isSound.cls = RX5 ∧ yX5_isSound.cls ≠ "java/lang/invoke/MethodHandle" ∧ yX5_isSound.cls ≠ "java/lang/invoke/VarHandle" ∧ (parseMethodDescriptor yX5_isSound.desc).map (fun d => d.parameters.length) = some 0 := by decide +kernel
theorem cw_X5_374 : GoodIn lw_all (wsV RX5 374 RX5 yX5_perform (ws_ yX5_perform cX5_perform 3 none)) := lw_V q867 q869 qs47 q89 q870
theorem hd_X5_perform : yX5_perform.cls = RX5 ∧ yX5_perform.cls ≠ "java/lang/invoke/MethodHandle" ∧ yX5_perform.cls ≠ "java/lang/invoke/VarHandle" ∧ (parseMethodDescriptor yX5_perform.desc).map (fun d => d.parameters.length) = some 0 := by decide +kernel
theorem cw_X6_15 : GoodIn lw_all (va_wsS RX6 15 yX6_in (ws_ yX6_in cX6_in 6 (some .boolean))) := lw_S q345 q346 q90 q347
theorem hd_X6_in : yX6_in.cls ≠ "java/lang/invoke/MethodHandle" ∧ yX6_in.cls ≠ "java/lang/invoke/VarHandle" ∧ (parseMethodDescriptor yX6_in.desc).map (fun d => d.parameters.length) = some 3 := by decide +kernel
theorem cw_X6_24 : GoodIn lw_all (va_wsS RX6 24 yX6_isSize (ws_ yX6_isSize cX6_isSize 5 (some .boolean))) := lw_S q348 q349 q90 q350
theorem hd_X6_isSize : yX6_isSize.cls ≠ "java/lang/invoke/MethodHandle" ∧ yX6_isSize.cls ≠ "java/lang/invoke/VarHandle" ∧ (parseMethodDescriptor yX6_isSize.desc).map (fun d => d.parameters.length) = some 2 := by decide +kernel
theorem cw_X6_37 : GoodIn lw_all (va_wsS RX6 37 yX6_operands (ws_ yX6_operands cX6_operands 9 (some .boolean))) := lw_S q352 q353 q90 q354
theorem hd_X6_operands : yX6_operands.cls ≠ "java/lang/invoke/MethodHandle" ∧ yX6_operands.cls ≠ "java/lang/invoke/VarHandle" ∧ (parseMethodDescriptor yX6_operands.desc).map (fun d => d.parameters.length) = some 1 := by decide +kernel
theorem cw_X6_41 : GoodIn lw_all (va_wsS RX6 41 yX6_isMemory (ws_ yX6_isMemory cX6_isMemory 2 (some .boolean))) := lw_S q355 q356 q90 q357
theorem hd_X6_isMemory : yX6_isMemory.cls ≠ "java/lang/invoke/MethodHandle" ∧ yX6_isMemory.cls ≠ "java/lang/invoke/VarHandle" ∧ (parseMethodDescriptor yX6_isMemory.desc).map (fun d => d.parameters.length) = some 1 := by decide +kernel
theorem cw_X6_44 : GoodIn lw_all (va_wsS RX6 44 yX6_isNumber (ws_ yX6_isNumber cX6_isNumber 1 (some .boolean))) := lw_S q360 q361 q90 q362
theorem hd_X6_isNumber : yX6_isNumber.cls ≠ "java/lang/invoke/MethodHandle" ∧ yX6_isNumber.cls ≠ "java/lang/invoke/VarHandle" ∧ (parseMethodDescriptor yX6_isNumber.desc).map (fun d => d.parameters.length) = some 1 := by decide +kernel
theorem cw_X6_47 : GoodIn lw_all (va_wsS RX6 47 yX6_fits (ws_ yX6_fits cX6_fits 1 (some .boolean))) := lw_S q363 q364 q90 q365
theorem hd_X6_fits : yX6_fits.cls ≠ "java/lang/invoke/MethodHandle" ∧ yX6_fits.cls ≠ "java/lang/invoke/VarHandle" ∧ (parseMethodDescriptor yX6_fits.desc).map (fun d => d.parameters.length) = some 1 := by decide +kernel
