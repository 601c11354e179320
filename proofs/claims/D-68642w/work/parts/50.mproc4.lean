def m_perform (K : MK) (d : MD) : (MK × MD) := bnd (α := Bool) (if (km_op K) < (8 : Int32) then true else (if (km_op K) = (9 : Int32) then true else false)) fun b1 => if b1 = true then (bnd (m_arithmetic K (km_op K) (km_width K) d) fun g2 => (K, g2)) else (if (15 : Int32) ≤ (km_op K) then (bnd (α := Bool) (if (km_op K) < (17 : Int32) then true else (if (km_op K) = (21 : Int32) then true else (if (km_op K) = (22 : Int32) then true else false))) fun b3 => if b3 = true then (bnd (m_single K (km_op K) (km_width K) d) fun g4 => (K, g4)) else (if (19 : Int32) ≤ (km_op K) then (if (21 : Int32) ≤ (km_op K) then (if (km_op K) = (23 : Int32) then (bnd (m_product K (km_width K) d) fun g22 => (K, g22)) else (if (29 : Int32) ≤ (km_op K) then (if (35 : Int32) ≤ (km_op K) then (if (km_op K) = (35 : Int32) then (if (b2i (m_isMet (km_condition K) d)) = 0 then (bnd (m_put K (0 : Int32) (1 : Int32) (0 : Int64) d) fun g18 => (K, g18)) else (bnd (m_put K (0 : Int32) (1 : Int32) (1 : Int64) d) fun g19 => (K, g19))) else (if (km_op K) = (36 : Int32) then (bnd (m_choose K (km_width K) d) fun g17 => (K, g17)) else (if (39 : Int32) ≤ (km_op K) then (if (km_op K) = (40 : Int32) then (bnd (m_stopWith (6 : Int32) (0 : Int64) d) fun g15 => (K, g15)) else (if (km_op K) = (41 : Int32) then (bnd (m_stopWith (2 : Int32) (0 : Int64) d) fun g14 => (K, g14)) else (if (km_op K) = (42 : Int32) then (bnd (m_service K d) fun g13 => (g13.1, g13.2)) else (if (km_op K) = (43 : Int32) then (bnd (dm_regs_ (vp_updL (dm_regs d) (4 : Int32).toNatClampNeg ((dm_regs d) (5 : Int32).toNatClampNeg)) d) fun d10 => bnd (m_pop K d10) fun g11 => bnd (dm_regs_ (vp_updL (dm_regs g11.2) (5 : Int32).toNatClampNeg g11.1) g11.2) fun d12 => (K, d12)) else (bnd (α := Bool) (if (km_op K) ≤ (43 : Int32) then false else (if (48 : Int32) ≤ (km_op K) then false else true)) fun b5 => if b5 = true then (bnd (m_bits K (km_op K) (km_width K) d) fun g6 => (K, g6)) else (bnd (α := Bool) (if (km_op K) = (48 : Int32) then true else (if (km_op K) = (49 : Int32) then true else false)) fun b7 => if b7 = true then (bnd (m_together K (km_op K) (km_width K) d) fun g8 => (K, g8)) else (if (km_op K) ≤ (49 : Int32) then (K, d) else (bnd (m_strings K (km_op K) (km_width K) d) fun g9 => (K, g9))))))))) else (bnd (m_spread (km_op K) (km_width K) d) fun g16 => (K, g16))))) else (bnd (m_goes K (km_op K) d) fun g20 => (K, g20))) else (bnd (m_shift K (km_op K) (km_width K) d) fun g21 => (K, g21)))) else (if (km_op K) = (20 : Int32) then (bnd (m_divide K true (km_width K) d) fun g24 => (K, g24)) else (bnd (m_divide K false (km_width K) d) fun g23 => (K, g23)))) else (if (km_op K) = (18 : Int32) then (bnd (m_multiply K true (km_width K) d) fun g26 => (K, g26)) else (bnd (m_multiply K false (km_width K) d) fun g25 => (K, g25))))) else (bnd (m_moves K (km_op K) (km_width K) d) fun g27 => (K, g27)))
abbrev rm_X5_perform : Room := { frames := 5, cells := 0, slots := 0, locals := 138 }
set_option maxHeartbeats 4000000 in
set_option maxRecDepth 100000 in
theorem m_X5_perform {l : Launch} {D : va_G} {ad : Nat → Nat} {ca : Nat → ClassId} (hI : mInj ad) {K : MK} {d : MD} (RES : (MK × MD)) (hr : RES = m_perform K d) (hok : MOk K) (hio : MIO d) : g_U l yX5_perform (ws_ yX5_perform cX5_perform 3 none) rm_X5_perform [.ref (ad 0)] (mKp D ca) (mB D ad ca K d) none (mB D ad ca RES.1 RES.2) (mA ad) := by
  refine g_ofU (by decide) (Nat.le_of_ble_eq_true rfl) ?_
  intro p e s m args below meth c ls Q hF hB hKp hl hQ
  obtain ⟨hx, hb, -, -, hml, hown, hts⟩ := id hF
  have hown : s.vm.findClass RX5 = some m.cls := hown
  have hC : CallFix p m c cX5_perform 3 s args lw_all RX5 := ⟨hx, hb, hml, hown, hts⟩
  have hK : va_K D xcl (mtys ca) s := hKp
  have hP : va_P D xcl (MW ad ca K d) s.heap := hB
  have hS : va_S (mA ad) s.heap s.heap [] := va_S.rf
  have hl : lv_has ls 3 [(0, .ref (ad 0))] := hl
  unfold m_perform at hr
  refine lv_aload_n hx hb dX5_perform_0 rfl (lv_at hl 0 rfl) ?_
  refine mg_0_30 hx hb hts hown hK hP (hts _ q701) dX5_perform_1 ?_
  refine lv_istore_n (lv' := [(1, .int (km_op K)), (0, .ref (ad 0))]) hx hb dX5_perform_4 rfl hl (by decide) rfl (fun ls hl => ?_)
  refine lv_aload_n hx hb dX5_perform_5 rfl (lv_at hl 1 rfl) ?_
  refine mg_0_31 hx hb hts hown hK hP (hts _ q702) dX5_perform_6 ?_
  refine lv_istore_n (lv' := [(2, .int (km_width K)), (1, .int (km_op K)), (0, .ref (ad 0))]) hx hb dX5_perform_9 rfl hl (by decide) rfl (fun ls hl => ?_)
  refine lv_iload_n hx hb dX5_perform_10 rfl (lv_at hl 1 rfl) ?_
  refine lv_bipush (v := (8 : Int32)) hx hb dX5_perform_11 bp_8 ?_
  obtain ⟨b1, eb1⟩ : ∃ z : Bool, z = (if (km_op K) < (8 : Int32) then true else (if (km_op K) = (9 : Int32) then true else false)) := ⟨_, rfl⟩
  replace hr := hr.trans (bnd_eq eb1)
  have kb1T : b1 = true → W p l e rm_X5_perform s m args below meth c s.heap [] 0 0 Q (F0 m 22 ls []) := by
    intro hb1
    replace hr := hr.trans (if_pos hb1)
    refine lv_aload_n hx hb dX5_perform_22 rfl (lv_at hl 2 rfl) ?_
    refine lv_iload_n hx hb dX5_perform_23 rfl (lv_at hl 1 rfl) ?_
    refine lv_iload_n hx hb dX5_perform_24 rfl (lv_at hl 0 rfl) ?_
    obtain ⟨g2, eg2⟩ : ∃ z, z = m_arithmetic K (km_op K) (km_width K) d := ⟨_, rfl⟩
    replace hr := hr.trans (bnd_eq eg2)
    refine g_UV0 (As := [.int (km_op K), .int (km_width K)]) (rest := []) hC (m_X5_arithmetic hI (K := K) (d := d) (km_op K) (km_width K) g2 eg2 hok.1) (cwV 2 hts cw_X5_327 rfl rfl rfl hd_X5_arithmetic ⟨Nat.le_of_ble_eq_true rfl, Nat.le_of_ble_eq_true rfl⟩) mKst (va_recv hK hP (ci := 5) (q0 := 0) rfl rfl) hP hKp ⟨Nat.zero_le _, Nat.zero_le _⟩ hS (fun _ h => h) rfl hl.1 rfl (Nat.le_of_ble_eq_true rfl) dX5_perform_25 (fun H locs hP hS => ?_)
    have hP : va_P D xcl (MW ad ca K g2) H := hP
    refine lv_goto (tgt := 355) hx hb dX5_perform_28 (by decide) ?_
    exact g_endUv (Pic := (fun u => mB D ad ca u.1 u.2)) (u := (K, g2)) hF hQ hr hP hS dX5_perform_355
  have kb1F : ¬ b1 = true → W p l e rm_X5_perform s m args below meth c s.heap [] 0 0 Q (F0 m 31 ls []) := by
    intro hb1
    replace hr := hr.trans (if_neg hb1)
    have er := eb1
    have hf := Bool.eq_false_iff.mpr hb1
    have c_13 : ¬ ((km_op K) < (8 : Int32)) := fun q => absurd (hf.symm.trans (er.trans (if_pos q))) (by decide)
    have er := er.trans (if_neg c_13)
    have c_19 : ¬ ((km_op K) = (9 : Int32)) := fun q => absurd (hf.symm.trans (er.trans (if_pos q))) (by decide)
    have er := er.trans (if_neg c_19)
    clear er
    refine lv_iload_n hx hb dX5_perform_31 rfl (lv_at hl 1 rfl) ?_
    refine lv_bipush (v := (15 : Int32)) hx hb dX5_perform_32 bp_15 ?_
    refine lv_icmp_ge (tgt := 46) hx hb dX5_perform_34 (by decide) (fun c_34 => ?_) (fun c_34 => ?_)
    · replace hr := hr.trans (if_pos c_34)
      refine lv_iload_n hx hb dX5_perform_46 rfl (lv_at hl 1 rfl) ?_
      refine lv_bipush (v := (17 : Int32)) hx hb dX5_perform_47 bp_17 ?_
      obtain ⟨b3, eb3⟩ : ∃ z : Bool, z = (if (km_op K) < (17 : Int32) then true else (if (km_op K) = (21 : Int32) then true else (if (km_op K) = (22 : Int32) then true else false))) := ⟨_, rfl⟩
      replace hr := hr.trans (bnd_eq eb3)
      have kb3T : b3 = true → W p l e rm_X5_perform s m args below meth c s.heap [] 0 0 Q (F0 m 64 ls []) := by
        intro hb3
        replace hr := hr.trans (if_pos hb3)
        refine lv_aload_n hx hb dX5_perform_64 rfl (lv_at hl 2 rfl) ?_
        refine lv_iload_n hx hb dX5_perform_65 rfl (lv_at hl 1 rfl) ?_
        refine lv_iload_n hx hb dX5_perform_66 rfl (lv_at hl 0 rfl) ?_
        obtain ⟨g4, eg4⟩ : ∃ z, z = m_single K (km_op K) (km_width K) d := ⟨_, rfl⟩
        replace hr := hr.trans (bnd_eq eg4)
        refine g_UV0 (As := [.int (km_op K), .int (km_width K)]) (rest := []) hC (m_X5_single hI (K := K) (d := d) (km_op K) (km_width K) g4 eg4 hok.1) (cwV 2 hts cw_X5_333 rfl rfl rfl hd_X5_single ⟨Nat.le_of_ble_eq_true rfl, Nat.le_of_ble_eq_true rfl⟩) mKst (va_recv hK hP (ci := 5) (q0 := 0) rfl rfl) hP hKp ⟨Nat.zero_le _, Nat.zero_le _⟩ hS (fun _ h => h) rfl hl.1 rfl (Nat.le_of_ble_eq_true rfl) dX5_perform_67 (fun H locs hP hS => ?_)
        have hP : va_P D xcl (MW ad ca K g4) H := hP
        refine lv_goto (tgt := 355) hx hb dX5_perform_70 (by decide) ?_
        exact g_endUv (Pic := (fun u => mB D ad ca u.1 u.2)) (u := (K, g4)) hF hQ hr hP hS dX5_perform_355
      have kb3F : ¬ b3 = true → W p l e rm_X5_perform s m args below meth c s.heap [] 0 0 Q (F0 m 73 ls []) := by
        intro hb3
        replace hr := hr.trans (if_neg hb3)
        have er := eb3
        have hf := Bool.eq_false_iff.mpr hb3
        have c_49 : ¬ ((km_op K) < (17 : Int32)) := fun q => absurd (hf.symm.trans (er.trans (if_pos q))) (by decide)
        have er := er.trans (if_neg c_49)
        have c_55 : ¬ ((km_op K) = (21 : Int32)) := fun q => absurd (hf.symm.trans (er.trans (if_pos q))) (by decide)
        have er := er.trans (if_neg c_55)
        have c_61 : ¬ ((km_op K) = (22 : Int32)) := fun q => absurd (hf.symm.trans (er.trans (if_pos q))) (by decide)
        have er := er.trans (if_neg c_61)
        clear er
        refine lv_iload_n hx hb dX5_perform_73 rfl (lv_at hl 1 rfl) ?_
        refine lv_bipush (v := (19 : Int32)) hx hb dX5_perform_74 bp_19 ?_
        refine lv_icmp_ge (tgt := 98) hx hb dX5_perform_76 (by decide) (fun c_76 => ?_) (fun c_76 => ?_)
        · replace hr := hr.trans (if_pos c_76)
          refine lv_iload_n hx hb dX5_perform_98 rfl (lv_at hl 1 rfl) ?_
          refine lv_bipush (v := (21 : Int32)) hx hb dX5_perform_99 bp_21 ?_
          refine lv_icmp_ge (tgt := 123) hx hb dX5_perform_101 (by decide) (fun c_101 => ?_) (fun c_101 => ?_)
          · replace hr := hr.trans (if_pos c_101)
            refine lv_iload_n hx hb dX5_perform_123 rfl (lv_at hl 1 rfl) ?_
            refine lv_bipush (v := (23 : Int32)) hx hb dX5_perform_124 bp_23 ?_
            refine lv_icmp_ne (tgt := 137) hx hb dX5_perform_126 (by decide) (fun c_126 => ?_) (fun c_126 => ?_)
            · replace hr := hr.trans (if_neg c_126)
              refine lv_iload_n hx hb dX5_perform_137 rfl (lv_at hl 1 rfl) ?_
              refine lv_bipush (v := (29 : Int32)) hx hb dX5_perform_138 bp_29 ?_
              refine lv_icmp_ge (tgt := 152) hx hb dX5_perform_140 (by decide) (fun c_140 => ?_) (fun c_140 => ?_)
              · replace hr := hr.trans (if_pos c_140)
                refine lv_iload_n hx hb dX5_perform_152 rfl (lv_at hl 1 rfl) ?_
                refine lv_bipush (v := (35 : Int32)) hx hb dX5_perform_153 bp_35 ?_
                refine lv_icmp_ge (tgt := 166) hx hb dX5_perform_155 (by decide) (fun c_155 => ?_) (fun c_155 => ?_)
                · replace hr := hr.trans (if_pos c_155)
                  refine lv_iload_n hx hb dX5_perform_166 rfl (lv_at hl 1 rfl) ?_
                  refine lv_bipush (v := (35 : Int32)) hx hb dX5_perform_167 bp_35 ?_
                  refine lv_icmp_ne (tgt := 197) hx hb dX5_perform_169 (by decide) (fun c_169 => ?_) (fun c_169 => ?_)
                  · replace hr := hr.trans (if_neg c_169)
                    refine lv_iload_n hx hb dX5_perform_197 rfl (lv_at hl 1 rfl) ?_
                    refine lv_bipush (v := (36 : Int32)) hx hb dX5_perform_198 bp_36 ?_
                    refine lv_icmp_ne (tgt := 211) hx hb dX5_perform_200 (by decide) (fun c_200 => ?_) (fun c_200 => ?_)
                    · replace hr := hr.trans (if_neg c_200)
                      refine lv_iload_n hx hb dX5_perform_211 rfl (lv_at hl 1 rfl) ?_
                      refine lv_bipush (v := (39 : Int32)) hx hb dX5_perform_212 bp_39 ?_
                      refine lv_icmp_ge (tgt := 226) hx hb dX5_perform_214 (by decide) (fun c_214 => ?_) (fun c_214 => ?_)
                      · replace hr := hr.trans (if_pos c_214)
                        refine lv_iload_n hx hb dX5_perform_226 rfl (lv_at hl 1 rfl) ?_
                        refine lv_bipush (v := (40 : Int32)) hx hb dX5_perform_227 bp_40 ?_
                        refine lv_icmp_ne (tgt := 242) hx hb dX5_perform_229 (by decide) (fun c_229 => ?_) (fun c_229 => ?_)
                        · replace hr := hr.trans (if_neg c_229)
                          refine lv_iload_n hx hb dX5_perform_242 rfl (lv_at hl 1 rfl) ?_
                          refine lv_bipush (v := (41 : Int32)) hx hb dX5_perform_243 bp_41 ?_
                          refine lv_icmp_ne (tgt := 257) hx hb dX5_perform_245 (by decide) (fun c_245 => ?_) (fun c_245 => ?_)
                          · replace hr := hr.trans (if_neg c_245)
                            refine lv_iload_n hx hb dX5_perform_257 rfl (lv_at hl 1 rfl) ?_
                            refine lv_bipush (v := (42 : Int32)) hx hb dX5_perform_258 bp_42 ?_
                            refine lv_icmp_ne (tgt := 270) hx hb dX5_perform_260 (by decide) (fun c_260 => ?_) (fun c_260 => ?_)
                            · replace hr := hr.trans (if_neg c_260)
                              refine lv_iload_n hx hb dX5_perform_270 rfl (lv_at hl 1 rfl) ?_
                              refine lv_bipush (v := (43 : Int32)) hx hb dX5_perform_271 bp_43 ?_
                              refine lv_icmp_ne (tgt := 301) hx hb dX5_perform_273 (by decide) (fun c_273 => ?_) (fun c_273 => ?_)
                              · replace hr := hr.trans (if_neg c_273)
                                refine lv_iload_n hx hb dX5_perform_301 rfl (lv_at hl 1 rfl) ?_
                                refine lv_bipush (v := (43 : Int32)) hx hb dX5_perform_302 bp_43 ?_
                                obtain ⟨b5, eb5⟩ : ∃ z : Bool, z = (if (km_op K) ≤ (43 : Int32) then false else (if (48 : Int32) ≤ (km_op K) then false else true)) := ⟨_, rfl⟩
                                replace hr := hr.trans (bnd_eq eb5)
                                have kb5T : b5 = true → W p l e rm_X5_perform s m args below meth c s.heap [] 0 0 Q (F0 m 313 ls []) := by
                                  intro hb5
                                  replace hr := hr.trans (if_pos hb5)
                                  have er := eb5
                                  have c_304 : ¬ ((km_op K) ≤ (43 : Int32)) := fun q => absurd (hb5.symm.trans (er.trans (if_pos q))) (by decide)
                                  have er := er.trans (if_neg c_304)
                                  have c_310 : ¬ ((48 : Int32) ≤ (km_op K)) := fun q => absurd (hb5.symm.trans (er.trans (if_pos q))) (by decide)
                                  have er := er.trans (if_neg c_310)
                                  clear er
                                  refine lv_aload_n hx hb dX5_perform_313 rfl (lv_at hl 2 rfl) ?_
                                  refine lv_iload_n hx hb dX5_perform_314 rfl (lv_at hl 1 rfl) ?_
                                  refine lv_iload_n hx hb dX5_perform_315 rfl (lv_at hl 0 rfl) ?_
                                  obtain ⟨g6, eg6⟩ : ∃ z, z = m_bits K (km_op K) (km_width K) d := ⟨_, rfl⟩
                                  replace hr := hr.trans (bnd_eq eg6)
                                  refine g_UV0 (As := [.int (km_op K), .int (km_width K)]) (rest := []) hC (m_X5_bits hI (K := K) (d := d) (km_op K) (km_width K) g6 eg6 hok.1) (cwV 2 hts cw_X5_362 rfl rfl rfl hd_X5_bits ⟨Nat.le_of_ble_eq_true rfl, Nat.le_of_ble_eq_true rfl⟩) mKst (va_recv hK hP (ci := 5) (q0 := 0) rfl rfl) hP hKp ⟨Nat.zero_le _, Nat.zero_le _⟩ hS (fun _ h => h) rfl hl.1 rfl (Nat.le_of_ble_eq_true rfl) dX5_perform_316 (fun H locs hP hS => ?_)
                                  have hP : va_P D xcl (MW ad ca K g6) H := hP
                                  refine lv_goto (tgt := 355) hx hb dX5_perform_319 (by decide) ?_
                                  exact g_endUv (Pic := (fun u => mB D ad ca u.1 u.2)) (u := (K, g6)) hF hQ hr hP hS dX5_perform_355
                                have kb5F : ¬ b5 = true → W p l e rm_X5_perform s m args below meth c s.heap [] 0 0 Q (F0 m 322 ls []) := by
                                  intro hb5
                                  replace hr := hr.trans (if_neg hb5)
                                  refine lv_iload_n hx hb dX5_perform_322 rfl (lv_at hl 1 rfl) ?_
                                  refine lv_bipush (v := (48 : Int32)) hx hb dX5_perform_323 bp_48 ?_
                                  obtain ⟨b7, eb7⟩ : ∃ z : Bool, z = (if (km_op K) = (48 : Int32) then true else (if (km_op K) = (49 : Int32) then true else false)) := ⟨_, rfl⟩
                                  replace hr := hr.trans (bnd_eq eb7)
                                  have kb7T : b7 = true → W p l e rm_X5_perform s m args below meth c s.heap [] 0 0 Q (F0 m 334 ls []) := by
                                    intro hb7
                                    replace hr := hr.trans (if_pos hb7)
                                    refine lv_aload_n hx hb dX5_perform_334 rfl (lv_at hl 2 rfl) ?_
                                    refine lv_iload_n hx hb dX5_perform_335 rfl (lv_at hl 1 rfl) ?_
                                    refine lv_iload_n hx hb dX5_perform_336 rfl (lv_at hl 0 rfl) ?_
                                    obtain ⟨g8, eg8⟩ : ∃ z, z = m_together K (km_op K) (km_width K) d := ⟨_, rfl⟩
                                    replace hr := hr.trans (bnd_eq eg8)
                                    refine g_UV0 (As := [.int (km_op K), .int (km_width K)]) (rest := []) hC (m_X5_together hI (K := K) (d := d) (km_op K) (km_width K) g8 eg8 hok.1) (cwV 2 hts cw_X5_365 rfl rfl rfl hd_X5_together ⟨Nat.le_of_ble_eq_true rfl, Nat.le_of_ble_eq_true rfl⟩) mKst (va_recv hK hP (ci := 5) (q0 := 0) rfl rfl) hP hKp ⟨Nat.zero_le _, Nat.zero_le _⟩ hS (fun _ h => h) rfl hl.1 rfl (Nat.le_of_ble_eq_true rfl) dX5_perform_337 (fun H locs hP hS => ?_)
                                    have hP : va_P D xcl (MW ad ca K g8) H := hP
                                    refine lv_goto (tgt := 355) hx hb dX5_perform_340 (by decide) ?_
                                    exact g_endUv (Pic := (fun u => mB D ad ca u.1 u.2)) (u := (K, g8)) hF hQ hr hP hS dX5_perform_355
                                  have kb7F : ¬ b7 = true → W p l e rm_X5_perform s m args below meth c s.heap [] 0 0 Q (F0 m 343 ls []) := by
                                    intro hb7
                                    replace hr := hr.trans (if_neg hb7)
                                    have er := eb7
                                    have hf := Bool.eq_false_iff.mpr hb7
                                    have c_325 : ¬ ((km_op K) = (48 : Int32)) := fun q => absurd (hf.symm.trans (er.trans (if_pos q))) (by decide)
                                    have er := er.trans (if_neg c_325)
                                    have c_331 : ¬ ((km_op K) = (49 : Int32)) := fun q => absurd (hf.symm.trans (er.trans (if_pos q))) (by decide)
                                    have er := er.trans (if_neg c_331)
                                    clear er
                                    refine lv_iload_n hx hb dX5_perform_343 rfl (lv_at hl 1 rfl) ?_
                                    refine lv_bipush (v := (49 : Int32)) hx hb dX5_perform_344 bp_49 ?_
                                    refine lv_icmp_le (tgt := 355) hx hb dX5_perform_346 (by decide) (fun c_346 => ?_) (fun c_346 => ?_)
                                    · replace hr := hr.trans (if_pos c_346)
                                      exact g_endUv (Pic := (fun u => mB D ad ca u.1 u.2)) (u := (K, d)) hF hQ hr hP hS dX5_perform_355
                                    · replace hr := hr.trans (if_neg c_346)
                                      refine lv_aload_n hx hb dX5_perform_349 rfl (lv_at hl 2 rfl) ?_
                                      refine lv_iload_n hx hb dX5_perform_350 rfl (lv_at hl 1 rfl) ?_
                                      refine lv_iload_n hx hb dX5_perform_351 rfl (lv_at hl 0 rfl) ?_
                                      obtain ⟨g9, eg9⟩ : ∃ z, z = m_strings K (km_op K) (km_width K) d := ⟨_, rfl⟩
                                      replace hr := hr.trans (bnd_eq eg9)
                                      refine g_UV0 (As := [.int (km_op K), .int (km_width K)]) (rest := []) hC (m_X5_strings hI (K := K) (d := d) (km_op K) (km_width K) g9 eg9 hok.1) (cwV 2 hts cw_X5_368 rfl rfl rfl hd_X5_strings ⟨Nat.le_of_ble_eq_true rfl, Nat.le_of_ble_eq_true rfl⟩) mKst (va_recv hK hP (ci := 5) (q0 := 0) rfl rfl) hP hKp ⟨Nat.zero_le _, Nat.zero_le _⟩ hS (fun _ h => h) rfl hl.1 rfl (Nat.le_of_ble_eq_true rfl) dX5_perform_352 (fun H locs hP hS => ?_)
                                      have hP : va_P D xcl (MW ad ca K g9) H := hP
                                      exact g_endUv (Pic := (fun u => mB D ad ca u.1 u.2)) (u := (K, g9)) hF hQ hr hP hS dX5_perform_355
                                  replace hr := eb7
                                  refine lv_icmp_eq (tgt := 334) hx hb dX5_perform_325 (by decide) (fun c_325 => ?_) (fun c_325 => ?_)
                                  · replace hr := hr.trans (if_pos c_325)
                                    exact kb7T hr
                                  · replace hr := hr.trans (if_neg c_325)
                                    refine lv_iload_n hx hb dX5_perform_328 rfl (lv_at hl 1 rfl) ?_
                                    refine lv_bipush (v := (49 : Int32)) hx hb dX5_perform_329 bp_49 ?_
                                    refine lv_icmp_ne (tgt := 343) hx hb dX5_perform_331 (by decide) (fun c_331 => ?_) (fun c_331 => ?_)
                                    · replace hr := hr.trans (if_neg c_331)
                                      exact kb7F (by rw [hr]; decide)
                                    · replace hr := hr.trans (if_pos c_331)
                                      exact kb7T hr
                                replace hr := eb5
                                refine lv_icmp_le (tgt := 322) hx hb dX5_perform_304 (by decide) (fun c_304 => ?_) (fun c_304 => ?_)
                                · replace hr := hr.trans (if_pos c_304)
                                  exact kb5F (by rw [hr]; decide)
                                · replace hr := hr.trans (if_neg c_304)
                                  refine lv_iload_n hx hb dX5_perform_307 rfl (lv_at hl 1 rfl) ?_
                                  refine lv_bipush (v := (48 : Int32)) hx hb dX5_perform_308 bp_48 ?_
                                  refine lv_icmp_ge (tgt := 322) hx hb dX5_perform_310 (by decide) (fun c_310 => ?_) (fun c_310 => ?_)
                                  · replace hr := hr.trans (if_pos c_310)
                                    exact kb5F (by rw [hr]; decide)
                                  · replace hr := hr.trans (if_neg c_310)
                                    exact kb5T hr
                              · replace hr := hr.trans (if_pos c_273)
                                refine lv_aload_n hx hb dX5_perform_276 rfl (lv_at hl 2 rfl) ?_
                                refine mg_0_16 hx hb hts hown hK hP (hts _ q687) dX5_perform_277 ?_
                                refine lv_iconst (v := (4 : Int32)) hx hb dX5_perform_280 ic_4 ?_
                                refine lv_aload_n hx hb dX5_perform_281 rfl (lv_at hl 2 rfl) ?_
                                refine mg_0_16 hx hb hts hown hK hP (hts _ q687) dX5_perform_282 ?_
                                refine lv_iconst (v := (5 : Int32)) hx hb dX5_perform_285 ic_5 ?_
                                refine ml_7 hx hb hK hP (show ¬ ((5 : Int32) < 0 ∨ 16 ≤ (5 : Int32).toNatClampNeg) by decide) dX5_perform_286 ?_
                                refine ms_7 hx hb hK hI hP hS (show ¬ ((4 : Int32) < 0 ∨ 16 ≤ (4 : Int32).toNatClampNeg) by decide) dX5_perform_287 (fun d10 ed10 H locs hP hS => ?_)
                                replace hr := hr.trans (bnd_eq ed10)
                                refine lv_aload_n hx hb dX5_perform_288 rfl (lv_at hl 2 rfl) ?_
                                refine mg_0_16 hx hb hts hown hK hP (hts _ q687) dX5_perform_289 ?_
                                refine lv_iconst (v := (5 : Int32)) hx hb dX5_perform_292 ic_5 ?_
                                refine lv_aload_n hx hb dX5_perform_293 rfl (lv_at hl 2 rfl) ?_
                                obtain ⟨g11, eg11⟩ : ∃ z, z = m_pop K d10 := ⟨_, rfl⟩
                                replace hr := hr.trans (bnd_eq eg11)
                                refine g_UV1 (As := []) (rest := [.int (5 : Int32), .ref (ad 7)]) hC (m_X5_pop hI (K := K) (d := d10)  g11 eg11 hok.1) (cwV 0 hts cw_X5_299 rfl rfl rfl hd_X5_pop ⟨Nat.le_of_ble_eq_true rfl, Nat.le_of_ble_eq_true rfl⟩) mKst (va_recv hK hP (ci := 5) (q0 := 0) rfl rfl) hP hKp ⟨Nat.zero_le _, Nat.zero_le _⟩ hS (fun _ h => h) rfl hl.1 rfl (Nat.le_of_ble_eq_true rfl) dX5_perform_294 (fun H locs hP hS => ?_)
                                have hP : va_P D xcl (MW ad ca K g11.2) H := hP
                                refine ms_7 hx hb hK hI hP hS (show ¬ ((5 : Int32) < 0 ∨ 16 ≤ (5 : Int32).toNatClampNeg) by decide) dX5_perform_297 (fun d12 ed12 H locs hP hS => ?_)
                                replace hr := hr.trans (bnd_eq ed12)
                                refine lv_goto (tgt := 355) hx hb dX5_perform_298 (by decide) ?_
                                exact g_endUv (Pic := (fun u => mB D ad ca u.1 u.2)) (u := (K, d12)) hF hQ hr hP hS dX5_perform_355
                            · replace hr := hr.trans (if_pos c_260)
                              refine lv_aload_n hx hb dX5_perform_263 rfl (lv_at hl 2 rfl) ?_
                              obtain ⟨g13, eg13⟩ : ∃ z, z = m_service K d := ⟨_, rfl⟩
                              replace hr := hr.trans (bnd_eq eg13)
                              refine g_UV0 (As := []) (rest := []) hC (m_X5_service hI (K := K) (d := d)  g13 eg13 hok.1.1 hio) (cwV 0 hts cw_X5_359 rfl rfl rfl hd_X5_service ⟨Nat.le_of_ble_eq_true rfl, Nat.le_of_ble_eq_true rfl⟩) mKst (va_recv hK hP (ci := 5) (q0 := 0) rfl rfl) hP hKp ⟨Nat.zero_le _, Nat.zero_le _⟩ hS (fun _ h => h) rfl hl.1 rfl (Nat.le_of_ble_eq_true rfl) dX5_perform_264 (fun H locs hP hS => ?_)
                              have hP : va_P D xcl (MW ad ca g13.1 g13.2) H := hP
                              refine lv_goto (tgt := 355) hx hb dX5_perform_267 (by decide) ?_
                              exact g_endUv (Pic := (fun u => mB D ad ca u.1 u.2)) (u := (g13.1, g13.2)) hF hQ hr hP hS dX5_perform_355
                          · replace hr := hr.trans (if_pos c_245)
                            refine lv_aload_n hx hb dX5_perform_248 rfl (lv_at hl 2 rfl) ?_
                            refine lv_iconst (v := (2 : Int32)) hx hb dX5_perform_249 ic_2 ?_
                            refine lv_lconst (v := (0 : Int64)) hx hb dX5_perform_250 lc_0 ?_
                            obtain ⟨g14, eg14⟩ : ∃ z, z = m_stopWith (2 : Int32) (0 : Int64) d := ⟨_, rfl⟩
                            replace hr := hr.trans (bnd_eq eg14)
                            refine g_UV0 (As := [.int (2 : Int32), .long (0 : Int64)]) (rest := []) hC (m_X5_stopWith hI (K := K) (d := d) (2 : Int32) (0 : Int64) g14 eg14) (cwV 2 hts cw_X5_180 rfl rfl rfl hd_X5_stopWith ⟨Nat.le_of_ble_eq_true rfl, Nat.le_of_ble_eq_true rfl⟩) mKst (va_recv hK hP (ci := 5) (q0 := 0) rfl rfl) hP hKp ⟨Nat.zero_le _, Nat.zero_le _⟩ hS (fun _ h => h) rfl hl.1 rfl (Nat.le_of_ble_eq_true rfl) dX5_perform_251 (fun H locs hP hS => ?_)
                            have hP : va_P D xcl (MW ad ca K g14) H := hP
                            refine lv_goto (tgt := 355) hx hb dX5_perform_254 (by decide) ?_
                            exact g_endUv (Pic := (fun u => mB D ad ca u.1 u.2)) (u := (K, g14)) hF hQ hr hP hS dX5_perform_355
                        · replace hr := hr.trans (if_pos c_229)
                          refine lv_aload_n hx hb dX5_perform_232 rfl (lv_at hl 2 rfl) ?_
                          refine lv_bipush (v := (6 : Int32)) hx hb dX5_perform_233 bp_6 ?_
                          refine lv_lconst (v := (0 : Int64)) hx hb dX5_perform_235 lc_0 ?_
                          obtain ⟨g15, eg15⟩ : ∃ z, z = m_stopWith (6 : Int32) (0 : Int64) d := ⟨_, rfl⟩
                          replace hr := hr.trans (bnd_eq eg15)
                          refine g_UV0 (As := [.int (6 : Int32), .long (0 : Int64)]) (rest := []) hC (m_X5_stopWith hI (K := K) (d := d) (6 : Int32) (0 : Int64) g15 eg15) (cwV 2 hts cw_X5_180 rfl rfl rfl hd_X5_stopWith ⟨Nat.le_of_ble_eq_true rfl, Nat.le_of_ble_eq_true rfl⟩) mKst (va_recv hK hP (ci := 5) (q0 := 0) rfl rfl) hP hKp ⟨Nat.zero_le _, Nat.zero_le _⟩ hS (fun _ h => h) rfl hl.1 rfl (Nat.le_of_ble_eq_true rfl) dX5_perform_236 (fun H locs hP hS => ?_)
                          have hP : va_P D xcl (MW ad ca K g15) H := hP
                          refine lv_goto (tgt := 355) hx hb dX5_perform_239 (by decide) ?_
                          exact g_endUv (Pic := (fun u => mB D ad ca u.1 u.2)) (u := (K, g15)) hF hQ hr hP hS dX5_perform_355
                      · replace hr := hr.trans (if_neg c_214)
                        refine lv_aload_n hx hb dX5_perform_217 rfl (lv_at hl 2 rfl) ?_
                        refine lv_iload_n hx hb dX5_perform_218 rfl (lv_at hl 1 rfl) ?_
                        refine lv_iload_n hx hb dX5_perform_219 rfl (lv_at hl 0 rfl) ?_
                        obtain ⟨g16, eg16⟩ : ∃ z, z = m_spread (km_op K) (km_width K) d := ⟨_, rfl⟩
                        replace hr := hr.trans (bnd_eq eg16)
                        refine g_UV0 (As := [.int (km_op K), .int (km_width K)]) (rest := []) hC (m_X5_spread hI (K := K) (d := d) (km_op K) (km_width K) g16 eg16) (cwV 2 hts cw_X5_356 rfl rfl rfl hd_X5_spread ⟨Nat.le_of_ble_eq_true rfl, Nat.le_of_ble_eq_true rfl⟩) mKst (va_recv hK hP (ci := 5) (q0 := 0) rfl rfl) hP hKp ⟨Nat.zero_le _, Nat.zero_le _⟩ hS (fun _ h => h) rfl hl.1 rfl (Nat.le_of_ble_eq_true rfl) dX5_perform_220 (fun H locs hP hS => ?_)
                        have hP : va_P D xcl (MW ad ca K g16) H := hP
                        refine lv_goto (tgt := 355) hx hb dX5_perform_223 (by decide) ?_
                        exact g_endUv (Pic := (fun u => mB D ad ca u.1 u.2)) (u := (K, g16)) hF hQ hr hP hS dX5_perform_355
                    · replace hr := hr.trans (if_pos c_200)
                      refine lv_aload_n hx hb dX5_perform_203 rfl (lv_at hl 2 rfl) ?_
                      refine lv_iload_n hx hb dX5_perform_204 rfl (lv_at hl 0 rfl) ?_
                      obtain ⟨g17, eg17⟩ : ∃ z, z = m_choose K (km_width K) d := ⟨_, rfl⟩
                      replace hr := hr.trans (bnd_eq eg17)
                      refine g_UV0 (As := [.int (km_width K)]) (rest := []) hC (m_X5_choose hI (K := K) (d := d) (km_width K) g17 eg17 hok.1) (cwV 1 hts cw_X5_353 rfl rfl rfl hd_X5_choose ⟨Nat.le_of_ble_eq_true rfl, Nat.le_of_ble_eq_true rfl⟩) mKst (va_recv hK hP (ci := 5) (q0 := 0) rfl rfl) hP hKp ⟨Nat.zero_le _, Nat.zero_le _⟩ hS (fun _ h => h) rfl hl.1 rfl (Nat.le_of_ble_eq_true rfl) dX5_perform_205 (fun H locs hP hS => ?_)
                      have hP : va_P D xcl (MW ad ca K g17) H := hP
                      refine lv_goto (tgt := 355) hx hb dX5_perform_208 (by decide) ?_
                      exact g_endUv (Pic := (fun u => mB D ad ca u.1 u.2)) (u := (K, g17)) hF hQ hr hP hS dX5_perform_355
                  · replace hr := hr.trans (if_pos c_169)
                    refine lv_aload_n hx hb dX5_perform_172 rfl (lv_at hl 2 rfl) ?_
                    refine lv_iconst (v := (0 : Int32)) hx hb dX5_perform_173 ic_0 ?_
                    refine lv_iconst (v := (1 : Int32)) hx hb dX5_perform_174 ic_1 ?_
                    refine lv_aload_n hx hb dX5_perform_175 rfl (lv_at hl 2 rfl) ?_
                    refine lv_aload_n hx hb dX5_perform_176 rfl (lv_at hl 2 rfl) ?_
                    refine mg_0_32 hx hb hts hown hK hP (hts _ q703) dX5_perform_177 ?_
                    refine g_RV (As := [.int (km_condition K)]) (rest := [.int (1 : Int32), .int (0 : Int32), .ref (ad 0)]) hC (m_X5_isMet (K := K) (d := d) (km_condition K) _ rfl) (cwV 1 hts cw_X5_302 rfl rfl rfl hd_X5_isMet ⟨Nat.le_of_ble_eq_true rfl, Nat.le_of_ble_eq_true rfl⟩) mKst (va_recv hK hP (ci := 5) (q0 := 0) rfl rfl) hP hKp ⟨Nat.zero_le _, Nat.zero_le _⟩ rfl hl.1 rfl (Nat.le_of_ble_eq_true rfl) dX5_perform_180 ?_
                    refine lv_if_eq (tgt := 190) hx hb dX5_perform_183 (by decide) (fun c_183 => ?_) (fun c_183 => ?_)
                    · replace hr := hr.trans (if_pos c_183)
                      refine lv_lconst (v := (0 : Int64)) hx hb dX5_perform_190 lc_0 ?_
                      obtain ⟨g18, eg18⟩ : ∃ z, z = m_put K (0 : Int32) (1 : Int32) (0 : Int64) d := ⟨_, rfl⟩
                      replace hr := hr.trans (bnd_eq eg18)
                      refine g_UV0 (As := [.int (0 : Int32), .int (1 : Int32), .long (0 : Int64)]) (rest := []) hC (m_X5_put hI (K := K) (d := d) (0 : Int32) (1 : Int32) (0 : Int64) g18 eg18 (show ¬ ((0 : Int32) < 0 ∨ 3 ≤ (0 : Int32).toNatClampNeg) by decide) hok.1) (cwV 3 hts cw_X5_268 rfl rfl rfl hd_X5_put ⟨Nat.le_of_ble_eq_true rfl, Nat.le_of_ble_eq_true rfl⟩) mKst (va_recv hK hP (ci := 5) (q0 := 0) rfl rfl) hP hKp ⟨Nat.zero_le _, Nat.zero_le _⟩ hS (fun _ h => h) rfl hl.1 rfl (Nat.le_of_ble_eq_true rfl) dX5_perform_191 (fun H locs hP hS => ?_)
                      have hP : va_P D xcl (MW ad ca K g18) H := hP
                      refine lv_goto (tgt := 355) hx hb dX5_perform_194 (by decide) ?_
                      exact g_endUv (Pic := (fun u => mB D ad ca u.1 u.2)) (u := (K, g18)) hF hQ hr hP hS dX5_perform_355
                    · replace hr := hr.trans (if_neg c_183)
                      refine lv_lconst (v := (1 : Int64)) hx hb dX5_perform_186 lc_1 ?_
                      refine lv_goto (tgt := 191) hx hb dX5_perform_187 (by decide) ?_
                      obtain ⟨g19, eg19⟩ : ∃ z, z = m_put K (0 : Int32) (1 : Int32) (1 : Int64) d := ⟨_, rfl⟩
                      replace hr := hr.trans (bnd_eq eg19)
                      refine g_UV0 (As := [.int (0 : Int32), .int (1 : Int32), .long (1 : Int64)]) (rest := []) hC (m_X5_put hI (K := K) (d := d) (0 : Int32) (1 : Int32) (1 : Int64) g19 eg19 (show ¬ ((0 : Int32) < 0 ∨ 3 ≤ (0 : Int32).toNatClampNeg) by decide) hok.1) (cwV 3 hts cw_X5_268 rfl rfl rfl hd_X5_put ⟨Nat.le_of_ble_eq_true rfl, Nat.le_of_ble_eq_true rfl⟩) mKst (va_recv hK hP (ci := 5) (q0 := 0) rfl rfl) hP hKp ⟨Nat.zero_le _, Nat.zero_le _⟩ hS (fun _ h => h) rfl hl.1 rfl (Nat.le_of_ble_eq_true rfl) dX5_perform_191 (fun H locs hP hS => ?_)
                      have hP : va_P D xcl (MW ad ca K g19) H := hP
                      refine lv_goto (tgt := 355) hx hb dX5_perform_194 (by decide) ?_
                      exact g_endUv (Pic := (fun u => mB D ad ca u.1 u.2)) (u := (K, g19)) hF hQ hr hP hS dX5_perform_355
                · replace hr := hr.trans (if_neg c_155)
                  refine lv_aload_n hx hb dX5_perform_158 rfl (lv_at hl 2 rfl) ?_
                  refine lv_iload_n hx hb dX5_perform_159 rfl (lv_at hl 1 rfl) ?_
                  obtain ⟨g20, eg20⟩ : ∃ z, z = m_goes K (km_op K) d := ⟨_, rfl⟩
                  replace hr := hr.trans (bnd_eq eg20)
                  refine g_UV0 (As := [.int (km_op K)]) (rest := []) hC (m_X5_goes hI (K := K) (d := d) (km_op K) g20 eg20 hok.1) (cwV 1 hts cw_X5_350 rfl rfl rfl hd_X5_goes ⟨Nat.le_of_ble_eq_true rfl, Nat.le_of_ble_eq_true rfl⟩) mKst (va_recv hK hP (ci := 5) (q0 := 0) rfl rfl) hP hKp ⟨Nat.zero_le _, Nat.zero_le _⟩ hS (fun _ h => h) rfl hl.1 rfl (Nat.le_of_ble_eq_true rfl) dX5_perform_160 (fun H locs hP hS => ?_)
                  have hP : va_P D xcl (MW ad ca K g20) H := hP
                  refine lv_goto (tgt := 355) hx hb dX5_perform_163 (by decide) ?_
                  exact g_endUv (Pic := (fun u => mB D ad ca u.1 u.2)) (u := (K, g20)) hF hQ hr hP hS dX5_perform_355
              · replace hr := hr.trans (if_neg c_140)
                refine lv_aload_n hx hb dX5_perform_143 rfl (lv_at hl 2 rfl) ?_
                refine lv_iload_n hx hb dX5_perform_144 rfl (lv_at hl 1 rfl) ?_
                refine lv_iload_n hx hb dX5_perform_145 rfl (lv_at hl 0 rfl) ?_
                obtain ⟨g21, eg21⟩ : ∃ z, z = m_shift K (km_op K) (km_width K) d := ⟨_, rfl⟩
                replace hr := hr.trans (bnd_eq eg21)
                refine g_UV0 (As := [.int (km_op K), .int (km_width K)]) (rest := []) hC (m_X5_shift hI (K := K) (d := d) (km_op K) (km_width K) g21 eg21 hok.1) (cwV 2 hts cw_X5_347 rfl rfl rfl hd_X5_shift ⟨Nat.le_of_ble_eq_true rfl, Nat.le_of_ble_eq_true rfl⟩) mKst (va_recv hK hP (ci := 5) (q0 := 0) rfl rfl) hP hKp ⟨Nat.zero_le _, Nat.zero_le _⟩ hS (fun _ h => h) rfl hl.1 rfl (Nat.le_of_ble_eq_true rfl) dX5_perform_146 (fun H locs hP hS => ?_)
                have hP : va_P D xcl (MW ad ca K g21) H := hP
                refine lv_goto (tgt := 355) hx hb dX5_perform_149 (by decide) ?_
                exact g_endUv (Pic := (fun u => mB D ad ca u.1 u.2)) (u := (K, g21)) hF hQ hr hP hS dX5_perform_355
            · replace hr := hr.trans (if_pos c_126)
              refine lv_aload_n hx hb dX5_perform_129 rfl (lv_at hl 2 rfl) ?_
              refine lv_iload_n hx hb dX5_perform_130 rfl (lv_at hl 0 rfl) ?_
              obtain ⟨g22, eg22⟩ : ∃ z, z = m_product K (km_width K) d := ⟨_, rfl⟩
              replace hr := hr.trans (bnd_eq eg22)
              refine g_UV0 (As := [.int (km_width K)]) (rest := []) hC (m_X5_product hI (K := K) (d := d) (km_width K) g22 eg22 hok.1) (cwV 1 hts cw_X5_343 rfl rfl rfl hd_X5_product ⟨Nat.le_of_ble_eq_true rfl, Nat.le_of_ble_eq_true rfl⟩) mKst (va_recv hK hP (ci := 5) (q0 := 0) rfl rfl) hP hKp ⟨Nat.zero_le _, Nat.zero_le _⟩ hS (fun _ h => h) rfl hl.1 rfl (Nat.le_of_ble_eq_true rfl) dX5_perform_131 (fun H locs hP hS => ?_)
              have hP : va_P D xcl (MW ad ca K g22) H := hP
              refine lv_goto (tgt := 355) hx hb dX5_perform_134 (by decide) ?_
              exact g_endUv (Pic := (fun u => mB D ad ca u.1 u.2)) (u := (K, g22)) hF hQ hr hP hS dX5_perform_355
          · replace hr := hr.trans (if_neg c_101)
            refine lv_aload_n hx hb dX5_perform_104 rfl (lv_at hl 2 rfl) ?_
            refine lv_iload_n hx hb dX5_perform_105 rfl (lv_at hl 1 rfl) ?_
            refine lv_bipush (v := (20 : Int32)) hx hb dX5_perform_106 bp_20 ?_
            refine lv_icmp_ne (tgt := 115) hx hb dX5_perform_108 (by decide) (fun c_108 => ?_) (fun c_108 => ?_)
            · replace hr := hr.trans (if_neg c_108)
              refine lv_iconst (v := (0 : Int32)) hx hb dX5_perform_115 ic_0 ?_
              refine lv_iload_n hx hb dX5_perform_116 rfl (lv_at hl 0 rfl) ?_
              obtain ⟨g23, eg23⟩ : ∃ z, z = m_divide K false (km_width K) d := ⟨_, rfl⟩
              replace hr := hr.trans (bnd_eq eg23)
              refine g_UV0 (As := [.int (b2i false), .int (km_width K)]) (rest := []) hC (m_X5_divide hI (K := K) (d := d) false (km_width K) g23 eg23 hok.1 (hok.2.2 c_101)) (cwV 2 hts cw_X5_340 rfl rfl rfl hd_X5_divide ⟨Nat.le_of_ble_eq_true rfl, Nat.le_of_ble_eq_true rfl⟩) mKst (va_recv hK hP (ci := 5) (q0 := 0) rfl rfl) hP hKp ⟨Nat.zero_le _, Nat.zero_le _⟩ hS (fun _ h => h) rfl hl.1 rfl (Nat.le_of_ble_eq_true rfl) dX5_perform_117 (fun H locs hP hS => ?_)
              have hP : va_P D xcl (MW ad ca K g23) H := hP
              refine lv_goto (tgt := 355) hx hb dX5_perform_120 (by decide) ?_
              exact g_endUv (Pic := (fun u => mB D ad ca u.1 u.2)) (u := (K, g23)) hF hQ hr hP hS dX5_perform_355
            · replace hr := hr.trans (if_pos c_108)
              refine lv_iconst (v := (1 : Int32)) hx hb dX5_perform_111 ic_1 ?_
              refine lv_goto (tgt := 116) hx hb dX5_perform_112 (by decide) ?_
              refine lv_iload_n hx hb dX5_perform_116 rfl (lv_at hl 0 rfl) ?_
              obtain ⟨g24, eg24⟩ : ∃ z, z = m_divide K true (km_width K) d := ⟨_, rfl⟩
              replace hr := hr.trans (bnd_eq eg24)
              refine g_UV0 (As := [.int (b2i true), .int (km_width K)]) (rest := []) hC (m_X5_divide hI (K := K) (d := d) true (km_width K) g24 eg24 hok.1 (hok.2.2 c_101)) (cwV 2 hts cw_X5_340 rfl rfl rfl hd_X5_divide ⟨Nat.le_of_ble_eq_true rfl, Nat.le_of_ble_eq_true rfl⟩) mKst (va_recv hK hP (ci := 5) (q0 := 0) rfl rfl) hP hKp ⟨Nat.zero_le _, Nat.zero_le _⟩ hS (fun _ h => h) rfl hl.1 rfl (Nat.le_of_ble_eq_true rfl) dX5_perform_117 (fun H locs hP hS => ?_)
              have hP : va_P D xcl (MW ad ca K g24) H := hP
              refine lv_goto (tgt := 355) hx hb dX5_perform_120 (by decide) ?_
              exact g_endUv (Pic := (fun u => mB D ad ca u.1 u.2)) (u := (K, g24)) hF hQ hr hP hS dX5_perform_355
        · replace hr := hr.trans (if_neg c_76)
          refine lv_aload_n hx hb dX5_perform_79 rfl (lv_at hl 2 rfl) ?_
          refine lv_iload_n hx hb dX5_perform_80 rfl (lv_at hl 1 rfl) ?_
          refine lv_bipush (v := (18 : Int32)) hx hb dX5_perform_81 bp_18 ?_
          refine lv_icmp_ne (tgt := 90) hx hb dX5_perform_83 (by decide) (fun c_83 => ?_) (fun c_83 => ?_)
          · replace hr := hr.trans (if_neg c_83)
            refine lv_iconst (v := (0 : Int32)) hx hb dX5_perform_90 ic_0 ?_
            refine lv_iload_n hx hb dX5_perform_91 rfl (lv_at hl 0 rfl) ?_
            obtain ⟨g25, eg25⟩ : ∃ z, z = m_multiply K false (km_width K) d := ⟨_, rfl⟩
            replace hr := hr.trans (bnd_eq eg25)
            refine g_UV0 (As := [.int (b2i false), .int (km_width K)]) (rest := []) hC (m_X5_multiply hI (K := K) (d := d) false (km_width K) g25 eg25 hok.1) (cwV 2 hts cw_X5_336 rfl rfl rfl hd_X5_multiply ⟨Nat.le_of_ble_eq_true rfl, Nat.le_of_ble_eq_true rfl⟩) mKst (va_recv hK hP (ci := 5) (q0 := 0) rfl rfl) hP hKp ⟨Nat.zero_le _, Nat.zero_le _⟩ hS (fun _ h => h) rfl hl.1 rfl (Nat.le_of_ble_eq_true rfl) dX5_perform_92 (fun H locs hP hS => ?_)
            have hP : va_P D xcl (MW ad ca K g25) H := hP
            refine lv_goto (tgt := 355) hx hb dX5_perform_95 (by decide) ?_
            exact g_endUv (Pic := (fun u => mB D ad ca u.1 u.2)) (u := (K, g25)) hF hQ hr hP hS dX5_perform_355
          · replace hr := hr.trans (if_pos c_83)
            refine lv_iconst (v := (1 : Int32)) hx hb dX5_perform_86 ic_1 ?_
            refine lv_goto (tgt := 91) hx hb dX5_perform_87 (by decide) ?_
            refine lv_iload_n hx hb dX5_perform_91 rfl (lv_at hl 0 rfl) ?_
            obtain ⟨g26, eg26⟩ : ∃ z, z = m_multiply K true (km_width K) d := ⟨_, rfl⟩
            replace hr := hr.trans (bnd_eq eg26)
            refine g_UV0 (As := [.int (b2i true), .int (km_width K)]) (rest := []) hC (m_X5_multiply hI (K := K) (d := d) true (km_width K) g26 eg26 hok.1) (cwV 2 hts cw_X5_336 rfl rfl rfl hd_X5_multiply ⟨Nat.le_of_ble_eq_true rfl, Nat.le_of_ble_eq_true rfl⟩) mKst (va_recv hK hP (ci := 5) (q0 := 0) rfl rfl) hP hKp ⟨Nat.zero_le _, Nat.zero_le _⟩ hS (fun _ h => h) rfl hl.1 rfl (Nat.le_of_ble_eq_true rfl) dX5_perform_92 (fun H locs hP hS => ?_)
            have hP : va_P D xcl (MW ad ca K g26) H := hP
            refine lv_goto (tgt := 355) hx hb dX5_perform_95 (by decide) ?_
            exact g_endUv (Pic := (fun u => mB D ad ca u.1 u.2)) (u := (K, g26)) hF hQ hr hP hS dX5_perform_355
      replace hr := eb3
      refine lv_icmp_lt (tgt := 64) hx hb dX5_perform_49 (by decide) (fun c_49 => ?_) (fun c_49 => ?_)
      · replace hr := hr.trans (if_pos c_49)
        exact kb3T hr
      · replace hr := hr.trans (if_neg c_49)
        refine lv_iload_n hx hb dX5_perform_52 rfl (lv_at hl 1 rfl) ?_
        refine lv_bipush (v := (21 : Int32)) hx hb dX5_perform_53 bp_21 ?_
        refine lv_icmp_eq (tgt := 64) hx hb dX5_perform_55 (by decide) (fun c_55 => ?_) (fun c_55 => ?_)
        · replace hr := hr.trans (if_pos c_55)
          exact kb3T hr
        · replace hr := hr.trans (if_neg c_55)
          refine lv_iload_n hx hb dX5_perform_58 rfl (lv_at hl 1 rfl) ?_
          refine lv_bipush (v := (22 : Int32)) hx hb dX5_perform_59 bp_22 ?_
          refine lv_icmp_ne (tgt := 73) hx hb dX5_perform_61 (by decide) (fun c_61 => ?_) (fun c_61 => ?_)
          · replace hr := hr.trans (if_neg c_61)
            exact kb3F (by rw [hr]; decide)
          · replace hr := hr.trans (if_pos c_61)
            exact kb3T hr
    · replace hr := hr.trans (if_neg c_34)
      refine lv_aload_n hx hb dX5_perform_37 rfl (lv_at hl 2 rfl) ?_
      refine lv_iload_n hx hb dX5_perform_38 rfl (lv_at hl 1 rfl) ?_
      refine lv_iload_n hx hb dX5_perform_39 rfl (lv_at hl 0 rfl) ?_
      obtain ⟨g27, eg27⟩ : ∃ z, z = m_moves K (km_op K) (km_width K) d := ⟨_, rfl⟩
      replace hr := hr.trans (bnd_eq eg27)
      refine g_UV0 (As := [.int (km_op K), .int (km_width K)]) (rest := []) hC (m_X5_moves hI (K := K) (d := d) (km_op K) (km_width K) g27 eg27 hok.1 hok.2.1) (cwV 2 hts cw_X5_330 rfl rfl rfl hd_X5_moves ⟨Nat.le_of_ble_eq_true rfl, Nat.le_of_ble_eq_true rfl⟩) mKst (va_recv hK hP (ci := 5) (q0 := 0) rfl rfl) hP hKp ⟨Nat.zero_le _, Nat.zero_le _⟩ hS (fun _ h => h) rfl hl.1 rfl (Nat.le_of_ble_eq_true rfl) dX5_perform_40 (fun H locs hP hS => ?_)
      have hP : va_P D xcl (MW ad ca K g27) H := hP
      refine lv_goto (tgt := 355) hx hb dX5_perform_43 (by decide) ?_
      exact g_endUv (Pic := (fun u => mB D ad ca u.1 u.2)) (u := (K, g27)) hF hQ hr hP hS dX5_perform_355
  replace hr := eb1
  refine lv_icmp_lt (tgt := 22) hx hb dX5_perform_13 (by decide) (fun c_13 => ?_) (fun c_13 => ?_)
  · replace hr := hr.trans (if_pos c_13)
    exact kb1T hr
  · replace hr := hr.trans (if_neg c_13)
    refine lv_iload_n hx hb dX5_perform_16 rfl (lv_at hl 1 rfl) ?_
    refine lv_bipush (v := (9 : Int32)) hx hb dX5_perform_17 bp_9 ?_
    refine lv_icmp_ne (tgt := 31) hx hb dX5_perform_19 (by decide) (fun c_19 => ?_) (fun c_19 => ?_)
    · replace hr := hr.trans (if_neg c_19)
      exact kb1F (by rw [hr]; decide)
    · replace hr := hr.trans (if_pos c_19)
      exact kb1T hr
def m_step_L207 (d4 : MD) (v5 : Int64) (g9 : (MK × MD)) : Nat → Int32 → MD → Int32 × (MK × MD)
  | 0, w207_6, dl207 => (0, (g9.1, dl207))
  | n + 1, w207_6, dl207 => if (16 : Int32) ≤ w207_6 then (bnd (m_setFlags v5 dl207) fun g14 => bnd (dm_ip_ (dm_ip d4) g14) fun d15 => ((dm_halt d15), (g9.1, d15))) else (bnd (dm_regs_ (vp_updL (dm_regs dl207) w207_6.toNatClampNeg ((dm_kept dl207) w207_6.toNatClampNeg)) dl207) fun d16 => bnd (α := Int32) ((w207_6 + (1 : Int32))) fun v17 => m_step_L207 d4 v5 g9 n v17 d16)
theorem m_step_L207_s (d4 : MD) (v5 : Int64) (g9 : (MK × MD)) (n : Nat) (w207_6 : Int32) (dl207 : MD) : m_step_L207 d4 v5 g9 (n + 1) w207_6 dl207 = if (16 : Int32) ≤ w207_6 then (bnd (m_setFlags v5 dl207) fun g14 => bnd (dm_ip_ (dm_ip d4) g14) fun d15 => ((dm_halt d15), (g9.1, d15))) else (bnd (dm_regs_ (vp_updL (dm_regs dl207) w207_6.toNatClampNeg ((dm_kept dl207) w207_6.toNatClampNeg)) dl207) fun d16 => bnd (α := Int32) ((w207_6 + (1 : Int32))) fun v17 => m_step_L207 d4 v5 g9 n v17 d16) := rfl
def m_step_L62 (K : MK) (d4 : MD) (v5 : Int64) : Nat → Int32 → MD → Int32 × (MK × MD)
  | 0, w62_6, dl62 => (0, (K, dl62))
  | n + 1, w62_6, dl62 => if (16 : Int32) ≤ w62_6 then (bnd (dm_ip_ ((dm_ip dl62) + ((dm_length dl62).toInt64)) dl62) fun d6 => bnd (α := Int64) (if ((km_kinds K) (0 : Int32).toNatClampNeg) = (2 : Int32) then (m_addressNow K d6) else (if ((km_kinds K) (1 : Int32).toNatClampNeg) = (2 : Int32) then (m_addressNow K d6) else (if ((km_kinds K) (2 : Int32).toNatClampNeg) = (2 : Int32) then (m_addressNow K d6) else (0 : Int64)))) fun p7 => bnd (dm_operandAt_ p7 d6) fun d8 => bnd (m_perform K d8) fun g9 => bnd (dm_stopKind_ (dm_halt g9.2) g9.2) fun d10 => bnd (dm_stopValue_ (dm_haltValue d10) d10) fun d11 => if (dm_halt d11) = 0 then (bnd (dm_stepsDone_ ((dm_stepsDone d11) + (1 : Int64)) d11) fun d12 => ((dm_halt d12), (g9.1, d12))) else (if (dm_halt d11) = (1 : Int32) then (bnd (dm_stepsDone_ ((dm_stepsDone d11) + (1 : Int64)) d11) fun d13 => ((dm_halt d13), (g9.1, d13))) else (if (dm_halt d11) = (6 : Int32) then (bnd (dm_stepsDone_ ((dm_stepsDone d11) + (1 : Int64)) d11) fun d18 => ((dm_halt d18), (g9.1, d18))) else (m_step_L207 d4 v5 g9 (mI (0 : Int32) (16 : Int32) + 1) (0 : Int32) d11)))) else (bnd (dm_kept_ (vp_updL (dm_kept dl62) w62_6.toNatClampNeg ((dm_regs dl62) w62_6.toNatClampNeg)) dl62) fun d19 => bnd (α := Int32) ((w62_6 + (1 : Int32))) fun v20 => m_step_L62 K d4 v5 n v20 d19)
theorem m_step_L62_s (K : MK) (d4 : MD) (v5 : Int64) (n : Nat) (w62_6 : Int32) (dl62 : MD) : m_step_L62 K d4 v5 (n + 1) w62_6 dl62 = if (16 : Int32) ≤ w62_6 then (bnd (dm_ip_ ((dm_ip dl62) + ((dm_length dl62).toInt64)) dl62) fun d6 => bnd (α := Int64) (if ((km_kinds K) (0 : Int32).toNatClampNeg) = (2 : Int32) then (m_addressNow K d6) else (if ((km_kinds K) (1 : Int32).toNatClampNeg) = (2 : Int32) then (m_addressNow K d6) else (if ((km_kinds K) (2 : Int32).toNatClampNeg) = (2 : Int32) then (m_addressNow K d6) else (0 : Int64)))) fun p7 => bnd (dm_operandAt_ p7 d6) fun d8 => bnd (m_perform K d8) fun g9 => bnd (dm_stopKind_ (dm_halt g9.2) g9.2) fun d10 => bnd (dm_stopValue_ (dm_haltValue d10) d10) fun d11 => if (dm_halt d11) = 0 then (bnd (dm_stepsDone_ ((dm_stepsDone d11) + (1 : Int64)) d11) fun d12 => ((dm_halt d12), (g9.1, d12))) else (if (dm_halt d11) = (1 : Int32) then (bnd (dm_stepsDone_ ((dm_stepsDone d11) + (1 : Int64)) d11) fun d13 => ((dm_halt d13), (g9.1, d13))) else (if (dm_halt d11) = (6 : Int32) then (bnd (dm_stepsDone_ ((dm_stepsDone d11) + (1 : Int64)) d11) fun d18 => ((dm_halt d18), (g9.1, d18))) else (m_step_L207 d4 v5 g9 (mI (0 : Int32) (16 : Int32) + 1) (0 : Int32) d11)))) else (bnd (dm_kept_ (vp_updL (dm_kept dl62) w62_6.toNatClampNeg ((dm_regs dl62) w62_6.toNatClampNeg)) dl62) fun d19 => bnd (α := Int32) ((w62_6 + (1 : Int32))) fun v20 => m_step_L62 K d4 v5 n v20 d19) := rfl
def m_step (K : MK) (len : Int32) (d : MD) : Int32 × (MK × MD) := bnd (dm_thrown_ (0 : Int32) d) fun d1 => if len < (1 : Int32) then ((-1 : Int32), (K, d1)) else (if (15 : Int32) < len then ((-1 : Int32), (K, d1)) else (if (dm_stopKind d1) = (1 : Int32) then ((-1 : Int32), (K, d1)) else (if (b2i (m_isSound K)) = 0 then ((-1 : Int32), (K, d1)) else (bnd (dm_length_ len d1) fun d2 => bnd (dm_halt_ (0 : Int32) d2) fun d3 => bnd (dm_haltValue_ (0 : Int64) d3) fun d4 => bnd (α := Int64) ((m_flags d4)) fun v5 => m_step_L62 K d4 v5 (mI (0 : Int32) (16 : Int32) + 1) (0 : Int32) d4))))
abbrev rm_X5_step : Room := { frames := 6, cells := 0, slots := 0, locals := 160 }
set_option maxHeartbeats 4000000 in
set_option maxRecDepth 100000 in
theorem m_X5_step {l : Launch} {D : va_G} {ad : Nat → Nat} {ca : Nat → ClassId} (hI : mInj ad) {K : MK} {d : MD} (len : Int32) (RES : Int32 × (MK × MD)) (hr : RES = m_step K len d) (hok : m_isSound K = true → MOk K) (hio : MIO d) : g_U l yX5_step (ws_ yX5_step cX5_step 7 (some .int)) rm_X5_step [.ref (ad 0), .int len] (mKp D ca) (mB D ad ca K d) (some (.int RES.1)) (mB D ad ca RES.2.1 RES.2.2) (mA ad) := by
  refine g_ofU (by decide) (Nat.le_of_ble_eq_true rfl) ?_
  intro p e s m args below meth c ls Q hF hB hKp hl hQ
  obtain ⟨hx, hb, -, -, hml, hown, hts⟩ := id hF
  have hown : s.vm.findClass RX5 = some m.cls := hown
  have hC : CallFix p m c cX5_step 7 s args lw_all RX5 := ⟨hx, hb, hml, hown, hts⟩
  have hK : va_K D xcl (mtys ca) s := hKp
  have hP : va_P D xcl (MW ad ca K d) s.heap := hB
  have hS : va_S (mA ad) s.heap s.heap [] := va_S.rf
  have hl : lv_has ls 7 [(0, .ref (ad 0)), (1, .int len)] := hl
  unfold m_step at hr
  refine lv_aload_n hx hb dX5_step_0 rfl (lv_at hl 0 rfl) ?_
  refine lv_iconst (v := (0 : Int32)) hx hb dX5_step_1 ic_0 ?_
  refine mp_0_0 (v := (0 : Int32)) hx hb hts hown hK hI hP hS (hts _ q671) dX5_step_2 (fun d1 ed1 H locs hP hS => ?_)
  replace hr := hr.trans (bnd_eq ed1)
  refine lv_iload_n hx hb dX5_step_5 rfl (lv_at hl 1 rfl) ?_
  refine lv_iconst (v := (1 : Int32)) hx hb dX5_step_6 ic_1 ?_
  refine lv_icmp_lt (tgt := 31) hx hb dX5_step_7 (by decide) (fun c_7 => ?_) (fun c_7 => ?_)
  · replace hr := hr.trans (if_pos c_7)
    refine lv_iconst (v := (-1 : Int32)) hx hb dX5_step_31 ic_m1 ?_
    exact g_endUi (Pic := (fun u => mB D ad ca u.1 u.2)) (u := (K, d1)) hF hQ hr hP hS dX5_step_32
  · replace hr := hr.trans (if_neg c_7)
    refine lv_iload_n hx hb dX5_step_10 rfl (lv_at hl 1 rfl) ?_
    refine lv_bipush (v := (15 : Int32)) hx hb dX5_step_11 bp_15 ?_
    refine lv_icmp_gt (tgt := 31) hx hb dX5_step_13 (by decide) (fun c_13 => ?_) (fun c_13 => ?_)
    · replace hr := hr.trans (if_pos c_13)
      refine lv_iconst (v := (-1 : Int32)) hx hb dX5_step_31 ic_m1 ?_
      exact g_endUi (Pic := (fun u => mB D ad ca u.1 u.2)) (u := (K, d1)) hF hQ hr hP hS dX5_step_32
    · replace hr := hr.trans (if_neg c_13)
      refine lv_aload_n hx hb dX5_step_16 rfl (lv_at hl 0 rfl) ?_
      refine mg_0_26 hx hb hts hown hK hP (hts _ q697) dX5_step_17 ?_
      refine lv_iconst (v := (1 : Int32)) hx hb dX5_step_20 ic_1 ?_
      refine lv_icmp_eq (tgt := 31) hx hb dX5_step_21 (by decide) (fun c_21 => ?_) (fun c_21 => ?_)
      · replace hr := hr.trans (if_pos c_21)
        refine lv_iconst (v := (-1 : Int32)) hx hb dX5_step_31 ic_m1 ?_
        exact g_endUi (Pic := (fun u => mB D ad ca u.1 u.2)) (u := (K, d1)) hF hQ hr hP hS dX5_step_32
      · replace hr := hr.trans (if_neg c_21)
        refine lv_aload_n hx hb dX5_step_24 rfl (lv_at hl 0 rfl) ?_
        refine g_RV (As := []) (rest := []) hC (m_X5_isSound (K := K) (d := d1)  _ rfl) (cwV 0 hts cw_X5_371 rfl rfl rfl hd_X5_isSound ⟨Nat.le_of_ble_eq_true rfl, Nat.le_of_ble_eq_true rfl⟩) mKst (va_recv hK hP (ci := 5) (q0 := 0) rfl rfl) hP hKp ⟨Nat.zero_le _, Nat.zero_le _⟩ rfl hl.1 rfl (Nat.le_of_ble_eq_true rfl) dX5_step_25 ?_
        refine lv_if_ne (tgt := 33) hx hb dX5_step_28 (by decide) (fun c_28 => ?_) (fun c_28 => ?_)
        · replace hr := hr.trans (if_neg c_28)
          refine lv_aload_n hx hb dX5_step_33 rfl (lv_at hl 0 rfl) ?_
          refine lv_iload_n hx hb dX5_step_34 rfl (lv_at hl 1 rfl) ?_
          refine mp_0_37 (v := len) hx hb hts hown hK hI hP hS (hts _ q708) dX5_step_35 (fun d2 ed2 H locs hP hS => ?_)
          replace hr := hr.trans (bnd_eq ed2)
          refine lv_aload_n hx hb dX5_step_38 rfl (lv_at hl 0 rfl) ?_
          refine lv_iconst (v := (0 : Int32)) hx hb dX5_step_39 ic_0 ?_
          refine mp_0_27 (v := (0 : Int32)) hx hb hts hown hK hI hP hS (hts _ q698) dX5_step_40 (fun d3 ed3 H locs hP hS => ?_)
          replace hr := hr.trans (bnd_eq ed3)
          refine lv_aload_n hx hb dX5_step_43 rfl (lv_at hl 0 rfl) ?_
          refine lv_lconst (v := (0 : Int64)) hx hb dX5_step_44 lc_0 ?_
          refine mp_0_28 (v := (0 : Int64)) hx hb hts hown hK hI hP hS (hts _ q699) dX5_step_45 (fun d4 ed4 H locs hP hS => ?_)
          replace hr := hr.trans (bnd_eq ed4)
          refine lv_aload_n hx hb dX5_step_48 rfl (lv_at hl 0 rfl) ?_
          refine mg_0_18 hx hb hts hown hK hP (hts _ q689) dX5_step_49 ?_
          refine lv_lstore_n (lv' := [(2, .long (dm_ip d4)), (0, .ref (ad 0)), (1, .int len)]) hx hb dX5_step_52 rfl hl (by decide) rfl (fun ls hl => ?_)
          refine lv_aload_n hx hb dX5_step_53 rfl (lv_at hl 1 rfl) ?_
          refine g_RV (As := []) (rest := []) hC (m_X5_flags (K := K) (d := d4)  _ rfl) (cwV 0 hts cw_X5_310 rfl rfl rfl hd_X5_flags ⟨Nat.le_of_ble_eq_true rfl, Nat.le_of_ble_eq_true rfl⟩) mKst (va_recv hK hP (ci := 5) (q0 := 0) rfl rfl) hP hKp ⟨Nat.zero_le _, Nat.zero_le _⟩ rfl hl.1 rfl (Nat.le_of_ble_eq_true rfl) dX5_step_54 ?_
          refine lv_topl (fun v5 ev5 => ?_)
          replace hr := hr.trans (bnd_eq ev5)
          refine lv_lstore (lv' := [(4, .long v5), (2, .long (dm_ip d4)), (0, .ref (ad 0)), (1, .int len)]) hx hb dX5_step_57 hl (by decide) rfl (fun ls hl => ?_)
          refine lv_iconst (v := (0 : Int32)) hx hb dX5_step_59 ic_0 ?_
          refine lv_istore (lv' := [(6, .int (0 : Int32)), (4, .long v5), (2, .long (dm_ip d4)), (0, .ref (ad 0)), (1, .int len)]) hx hb dX5_step_60 hl (by decide) rfl (fun ls hl => ?_)
          have lp62 : ∀ (n : Nat) (w62_6 : Int32) (dl62 : MD) (H : Heap) (locs : List Loc) (ls : Array Slot), mI w62_6 (16 : Int32) < n → (0 ≤ w62_6) → (MIO dl62) → RES = m_step_L62 K d4 v5 n w62_6 dl62 → va_P D xcl (MW ad ca K dl62) H → va_S (mA ad) s.heap H locs → lv_has ls 7 [(6, .int w62_6), (4, .long v5), (2, .long (dm_ip d4)), (0, .ref (ad 0)), (1, .int len)] → W p l e rm_X5_step s m args below meth c H locs 0 0 Q (F0 m 62 ls []) := by
            intro n
            induction n with
            | zero =>
              intro w62_6 dl62 H locs ls hm
              exact absurd hm (Nat.not_lt_zero _)
            | succ n ih =>
              intro w62_6 dl62 H locs ls hm h0 h9 hr hP hS hl
              replace hr := hr.trans (m_step_L62_s K d4 v5 n w62_6 dl62)
              refine lv_iload hx hb dX5_step_62 (lv_at hl 0 rfl) ?_
              refine lv_bipush (v := (16 : Int32)) hx hb dX5_step_64 bp_16 ?_
              refine lv_icmp_ge (tgt := 89) hx hb dX5_step_66 (by decide) (fun c_66 => ?_) (fun c_66 => ?_)
              · replace hr := hr.trans (if_pos c_66)
                refine lv_aload_n hx hb dX5_step_89 rfl (lv_at hl 3 rfl) ?_
                refine lv_dup hx hb dX5_step_90 rfl ?_
                refine mg_0_18 hx hb hts hown hK hP (hts _ q689) dX5_step_91 ?_
                refine lv_aload_n hx hb dX5_step_94 rfl (lv_at hl 3 rfl) ?_
                refine mg_0_37 hx hb hts hown hK hP (hts _ q708) dX5_step_95 ?_
                refine lv_i2l (v := (dm_length dl62).toInt64) hx hb dX5_step_98 rfl ?_
                refine lv_ladd hx hb dX5_step_99 ?_
                refine mp_0_18 (v := ((dm_ip dl62) + ((dm_length dl62).toInt64))) hx hb hts hown hK hI hP hS (hts _ q689) dX5_step_100 (fun d6 ed6 H locs hP hS => ?_)
                replace hr := hr.trans (bnd_eq ed6)
                refine lv_aload_n hx hb dX5_step_103 rfl (lv_at hl 3 rfl) ?_
                refine lv_aload_n hx hb dX5_step_104 rfl (lv_at hl 3 rfl) ?_
                refine mg_0_39 hx hb hts hown hK hP (hts _ q710) dX5_step_105 ?_
                refine lv_iconst (v := (0 : Int32)) hx hb dX5_step_108 ic_0 ?_
                refine ml_9 hx hb hK hP (show ¬ ((0 : Int32) < 0 ∨ 3 ≤ (0 : Int32).toNatClampNeg) by decide) dX5_step_109 ?_
                refine lv_iconst (v := (2 : Int32)) hx hb dX5_step_110 ic_2 ?_
                obtain ⟨p7, ep7⟩ : ∃ z : Int64, z = (if ((km_kinds K) (0 : Int32).toNatClampNeg) = (2 : Int32) then (m_addressNow K d6) else (if ((km_kinds K) (1 : Int32).toNatClampNeg) = (2 : Int32) then (m_addressNow K d6) else (if ((km_kinds K) (2 : Int32).toNatClampNeg) = (2 : Int32) then (m_addressNow K d6) else (0 : Int64)))) := ⟨_, rfl⟩
                replace hr := hr.trans (bnd_eq ep7)
                have kp7 : ∀ (H : Heap) (locs : List Loc) (ls : Array Slot), va_P D xcl (MW ad ca K d6) H → va_S (mA ad) s.heap H locs → lv_has ls 7 [(6, .int w62_6), (4, .long v5), (2, .long (dm_ip d4)), (0, .ref (ad 0)), (1, .int len)] → W p l e rm_X5_step s m args below meth c H locs 0 0 Q (F0 m 142 ls [.long p7, .ref (ad 0)]) := by
                  intro H locs ls hP hS hl
                  refine mp_0_29 (v := p7) hx hb hts hown hK hI hP hS (hts _ q700) dX5_step_142 (fun d8 ed8 H locs hP hS => ?_)
                  replace hr := hr.trans (bnd_eq ed8)
                  refine lv_aload_n hx hb dX5_step_145 rfl (lv_at hl 3 rfl) ?_
                  obtain ⟨g9, eg9⟩ : ∃ z, z = m_perform K d8 := ⟨_, rfl⟩
                  replace hr := hr.trans (bnd_eq eg9)
                  refine g_UV0 (As := []) (rest := []) hC (m_X5_perform hI (K := K) (d := d8)  g9 eg9 (hok (b2i_t c_28)) (by rw [ed8, ed6]; exact h9)) (cwV 0 hts cw_X5_374 rfl rfl rfl hd_X5_perform ⟨Nat.le_of_ble_eq_true rfl, Nat.le_of_ble_eq_true rfl⟩) mKst (va_recv hK hP (ci := 5) (q0 := 0) rfl rfl) hP hKp ⟨Nat.zero_le _, Nat.zero_le _⟩ hS (fun _ h => h) rfl hl.1 rfl (Nat.le_of_ble_eq_true rfl) dX5_step_146 (fun H locs hP hS => ?_)
                  have hP : va_P D xcl (MW ad ca g9.1 g9.2) H := hP
                  refine lv_aload_n hx hb dX5_step_149 rfl (lv_at hl 3 rfl) ?_
                  refine lv_aload_n hx hb dX5_step_150 rfl (lv_at hl 3 rfl) ?_
                  refine mg_0_27 hx hb hts hown hK hP (hts _ q698) dX5_step_151 ?_
                  refine mp_0_26 (v := (dm_halt g9.2)) hx hb hts hown hK hI hP hS (hts _ q697) dX5_step_154 (fun d10 ed10 H locs hP hS => ?_)
                  replace hr := hr.trans (bnd_eq ed10)
                  refine lv_aload_n hx hb dX5_step_157 rfl (lv_at hl 3 rfl) ?_
                  refine lv_aload_n hx hb dX5_step_158 rfl (lv_at hl 3 rfl) ?_
                  refine mg_0_28 hx hb hts hown hK hP (hts _ q699) dX5_step_159 ?_
                  refine mp_0_19 (v := (dm_haltValue d10)) hx hb hts hown hK hI hP hS (hts _ q690) dX5_step_162 (fun d11 ed11 H locs hP hS => ?_)
                  replace hr := hr.trans (bnd_eq ed11)
                  refine lv_aload_n hx hb dX5_step_165 rfl (lv_at hl 3 rfl) ?_
                  refine mg_0_27 hx hb hts hown hK hP (hts _ q698) dX5_step_166 ?_
                  refine lv_if_eq (tgt := 189) hx hb dX5_step_169 (by decide) (fun c_169 => ?_) (fun c_169 => ?_)
                  · replace hr := hr.trans (if_pos c_169)
                    refine lv_aload_n hx hb dX5_step_189 rfl (lv_at hl 3 rfl) ?_
                    refine lv_dup hx hb dX5_step_190 rfl ?_
                    refine mg_0_20 hx hb hts hown hK hP (hts _ q691) dX5_step_191 ?_
                    refine lv_lconst (v := (1 : Int64)) hx hb dX5_step_194 lc_1 ?_
                    refine lv_ladd hx hb dX5_step_195 ?_
                    refine mp_0_20 (v := ((dm_stepsDone d11) + (1 : Int64))) hx hb hts hown hK hI hP hS (hts _ q691) dX5_step_196 (fun d12 ed12 H locs hP hS => ?_)
                    replace hr := hr.trans (bnd_eq ed12)
                    refine lv_aload_n hx hb dX5_step_199 rfl (lv_at hl 3 rfl) ?_
                    refine mg_0_27 hx hb hts hown hK hP (hts _ q698) dX5_step_200 ?_
                    exact g_endUi (Pic := (fun u => mB D ad ca u.1 u.2)) (u := (g9.1, d12)) hF hQ hr hP hS dX5_step_203
                  · replace hr := hr.trans (if_neg c_169)
                    refine lv_aload_n hx hb dX5_step_172 rfl (lv_at hl 3 rfl) ?_
                    refine mg_0_27 hx hb hts hown hK hP (hts _ q698) dX5_step_173 ?_
                    refine lv_iconst (v := (1 : Int32)) hx hb dX5_step_176 ic_1 ?_
                    refine lv_icmp_eq (tgt := 189) hx hb dX5_step_177 (by decide) (fun c_177 => ?_) (fun c_177 => ?_)
                    · replace hr := hr.trans (if_pos c_177)
                      refine lv_aload_n hx hb dX5_step_189 rfl (lv_at hl 3 rfl) ?_
                      refine lv_dup hx hb dX5_step_190 rfl ?_
                      refine mg_0_20 hx hb hts hown hK hP (hts _ q691) dX5_step_191 ?_
                      refine lv_lconst (v := (1 : Int64)) hx hb dX5_step_194 lc_1 ?_
                      refine lv_ladd hx hb dX5_step_195 ?_
                      refine mp_0_20 (v := ((dm_stepsDone d11) + (1 : Int64))) hx hb hts hown hK hI hP hS (hts _ q691) dX5_step_196 (fun d13 ed13 H locs hP hS => ?_)
                      replace hr := hr.trans (bnd_eq ed13)
                      refine lv_aload_n hx hb dX5_step_199 rfl (lv_at hl 3 rfl) ?_
                      refine mg_0_27 hx hb hts hown hK hP (hts _ q698) dX5_step_200 ?_
                      exact g_endUi (Pic := (fun u => mB D ad ca u.1 u.2)) (u := (g9.1, d13)) hF hQ hr hP hS dX5_step_203
                    · replace hr := hr.trans (if_neg c_177)
                      refine lv_aload_n hx hb dX5_step_180 rfl (lv_at hl 3 rfl) ?_
                      refine mg_0_27 hx hb hts hown hK hP (hts _ q698) dX5_step_181 ?_
                      refine lv_bipush (v := (6 : Int32)) hx hb dX5_step_184 bp_6 ?_
                      refine lv_icmp_ne (tgt := 204) hx hb dX5_step_186 (by decide) (fun c_186 => ?_) (fun c_186 => ?_)
                      · replace hr := hr.trans (if_neg c_186)
                        refine lv_iconst (v := (0 : Int32)) hx hb dX5_step_204 ic_0 ?_
                        refine lv_istore (lv' := [(6, .int (0 : Int32)), (4, .long v5), (2, .long (dm_ip d4)), (0, .ref (ad 0)), (1, .int len)]) hx hb dX5_step_205 hl (by decide) rfl (fun ls hl => ?_)
                        have lp207 : ∀ (n : Nat) (w207_6 : Int32) (dl207 : MD) (H : Heap) (locs : List Loc) (ls : Array Slot), mI w207_6 (16 : Int32) < n → (0 ≤ w207_6) → RES = m_step_L207 d4 v5 g9 n w207_6 dl207 → va_P D xcl (MW ad ca g9.1 dl207) H → va_S (mA ad) s.heap H locs → lv_has ls 7 [(6, .int w207_6), (4, .long v5), (2, .long (dm_ip d4)), (0, .ref (ad 0)), (1, .int len)] → W p l e rm_X5_step s m args below meth c H locs 0 0 Q (F0 m 207 ls []) := by
                          intro n
                          induction n with
                          | zero =>
                            intro w207_6 dl207 H locs ls hm
                            exact absurd hm (Nat.not_lt_zero _)
                          | succ n ih =>
                            intro w207_6 dl207 H locs ls hm h0 hr hP hS hl
                            replace hr := hr.trans (m_step_L207_s d4 v5 g9 n w207_6 dl207)
                            refine lv_iload hx hb dX5_step_207 (lv_at hl 0 rfl) ?_
                            refine lv_bipush (v := (16 : Int32)) hx hb dX5_step_209 bp_16 ?_
                            refine lv_icmp_ge (tgt := 234) hx hb dX5_step_211 (by decide) (fun c_211 => ?_) (fun c_211 => ?_)
                            · replace hr := hr.trans (if_pos c_211)
                              refine lv_aload_n hx hb dX5_step_234 rfl (lv_at hl 3 rfl) ?_
                              refine lv_lload hx hb dX5_step_235 (lv_at hl 1 rfl) ?_
                              obtain ⟨g14, eg14⟩ : ∃ z, z = m_setFlags v5 dl207 := ⟨_, rfl⟩
                              replace hr := hr.trans (bnd_eq eg14)
                              refine g_UV0 (As := [.long v5]) (rest := []) hC (m_X5_setFlags hI (K := g9.1) (d := dl207) v5 g14 eg14) (cwV 1 hts cw_X5_84 rfl rfl rfl hd_X5_setFlags ⟨Nat.le_of_ble_eq_true rfl, Nat.le_of_ble_eq_true rfl⟩) mKst (va_recv hK hP (ci := 5) (q0 := 0) rfl rfl) hP hKp ⟨Nat.zero_le _, Nat.zero_le _⟩ hS (fun _ h => h) rfl hl.1 rfl (Nat.le_of_ble_eq_true rfl) dX5_step_237 (fun H locs hP hS => ?_)
                              have hP : va_P D xcl (MW ad ca g9.1 g14) H := hP
                              refine lv_aload_n hx hb dX5_step_240 rfl (lv_at hl 3 rfl) ?_
                              refine lv_lload_n hx hb dX5_step_241 rfl (lv_at hl 2 rfl) ?_
                              refine mp_0_18 (v := (dm_ip d4)) hx hb hts hown hK hI hP hS (hts _ q689) dX5_step_242 (fun d15 ed15 H locs hP hS => ?_)
                              replace hr := hr.trans (bnd_eq ed15)
                              refine lv_aload_n hx hb dX5_step_245 rfl (lv_at hl 3 rfl) ?_
                              refine mg_0_27 hx hb hts hown hK hP (hts _ q698) dX5_step_246 ?_
                              exact g_endUi (Pic := (fun u => mB D ad ca u.1 u.2)) (u := (g9.1, d15)) hF hQ hr hP hS dX5_step_249
                            · replace hr := hr.trans (if_neg c_211)
                              refine lv_aload_n hx hb dX5_step_214 rfl (lv_at hl 3 rfl) ?_
                              refine mg_0_16 hx hb hts hown hK hP (hts _ q687) dX5_step_215 ?_
                              refine lv_iload hx hb dX5_step_218 (lv_at hl 0 rfl) ?_
                              refine lv_aload_n hx hb dX5_step_220 rfl (lv_at hl 3 rfl) ?_
                              refine mg_0_17 hx hb hts hown hK hP (hts _ q688) dX5_step_221 ?_
                              refine lv_iload hx hb dX5_step_224 (lv_at hl 0 rfl) ?_
                              refine ml_8 hx hb hK hP (i_in h0 c_211 (by decide)) dX5_step_226 ?_
                              refine ms_7 hx hb hK hI hP hS (i_in h0 c_211 (by decide)) dX5_step_227 (fun d16 ed16 H locs hP hS => ?_)
                              replace hr := hr.trans (bnd_eq ed16)
                              obtain ⟨v17, ev17⟩ : ∃ z : Int32, z = (w207_6 + (1 : Int32)) := ⟨_, rfl⟩
                              replace hr := hr.trans (bnd_eq ev17)
                              refine lv_iinc (v := v17) (lv' := [(6, .int v17), (4, .long v5), (2, .long (dm_ip d4)), (0, .ref (ad 0)), (1, .int len)]) hx hb dX5_step_228 hl (k := 0) rfl (by rw [ev17, ← ic_1]) (by decide) rfl (fun ls hl => ?_)
                              refine lv_goto (tgt := 207) hx hb dX5_step_231 (by decide) ?_
                              exact ih v17 d16 _ _ ls (mI_dec c_211 hm ev17) (i_nn h0 c_211 ev17) hr hP hS (lv_sub hl [0, 1, 2, 3, 4] rfl)
                        exact lp207 (mI (0 : Int32) (16 : Int32) + 1) (0 : Int32) d11 _ _ ls (Nat.lt_succ_self _) (by decide) hr hP hS (lv_sub hl [0, 1, 2, 3, 4] rfl)
                      · replace hr := hr.trans (if_pos c_186)
                        refine lv_aload_n hx hb dX5_step_189 rfl (lv_at hl 3 rfl) ?_
                        refine lv_dup hx hb dX5_step_190 rfl ?_
                        refine mg_0_20 hx hb hts hown hK hP (hts _ q691) dX5_step_191 ?_
                        refine lv_lconst (v := (1 : Int64)) hx hb dX5_step_194 lc_1 ?_
                        refine lv_ladd hx hb dX5_step_195 ?_
                        refine mp_0_20 (v := ((dm_stepsDone d11) + (1 : Int64))) hx hb hts hown hK hI hP hS (hts _ q691) dX5_step_196 (fun d18 ed18 H locs hP hS => ?_)
                        replace hr := hr.trans (bnd_eq ed18)
                        refine lv_aload_n hx hb dX5_step_199 rfl (lv_at hl 3 rfl) ?_
                        refine mg_0_27 hx hb hts hown hK hP (hts _ q698) dX5_step_200 ?_
                        exact g_endUi (Pic := (fun u => mB D ad ca u.1 u.2)) (u := (g9.1, d18)) hF hQ hr hP hS dX5_step_203
                replace hr := ep7
                refine lv_icmp_eq (tgt := 134) hx hb dX5_step_111 (by decide) (fun c_111 => ?_) (fun c_111 => ?_)
                · replace hr := hr.trans (if_pos c_111)
                  refine lv_aload_n hx hb dX5_step_134 rfl (lv_at hl 3 rfl) ?_
                  refine g_RV (As := []) (rest := [.ref (ad 0)]) hC (m_X5_addressNow (K := K) (d := d6)  _ rfl (by first | exact (hok (b2i_t c_28)).1.2.2 0 v3_0 c_111 | exact (hok (b2i_t c_28)).1.2.2 1 v3_1 c_121 | exact (hok (b2i_t c_28)).1.2.2 2 v3_2 c_131)) (cwV 0 hts cw_X5_271 rfl rfl rfl hd_X5_addressNow ⟨Nat.le_of_ble_eq_true rfl, Nat.le_of_ble_eq_true rfl⟩) mKst (va_recv hK hP (ci := 5) (q0 := 0) rfl rfl) hP hKp ⟨Nat.zero_le _, Nat.zero_le _⟩ rfl hl.1 rfl (Nat.le_of_ble_eq_true rfl) dX5_step_135 ?_
                  refine lv_goto (tgt := 142) hx hb dX5_step_138 (by decide) ?_
                  subst hr
                  exact kp7 _ _ ls hP hS (lv_sub hl [0, 1, 2, 3, 4] rfl)
                · replace hr := hr.trans (if_neg c_111)
                  refine lv_aload_n hx hb dX5_step_114 rfl (lv_at hl 3 rfl) ?_
                  refine mg_0_39 hx hb hts hown hK hP (hts _ q710) dX5_step_115 ?_
                  refine lv_iconst (v := (1 : Int32)) hx hb dX5_step_118 ic_1 ?_
                  refine ml_9 hx hb hK hP (show ¬ ((1 : Int32) < 0 ∨ 3 ≤ (1 : Int32).toNatClampNeg) by decide) dX5_step_119 ?_
                  refine lv_iconst (v := (2 : Int32)) hx hb dX5_step_120 ic_2 ?_
                  refine lv_icmp_eq (tgt := 134) hx hb dX5_step_121 (by decide) (fun c_121 => ?_) (fun c_121 => ?_)
                  · replace hr := hr.trans (if_pos c_121)
                    refine lv_aload_n hx hb dX5_step_134 rfl (lv_at hl 3 rfl) ?_
                    refine g_RV (As := []) (rest := [.ref (ad 0)]) hC (m_X5_addressNow (K := K) (d := d6)  _ rfl (by first | exact (hok (b2i_t c_28)).1.2.2 0 v3_0 c_111 | exact (hok (b2i_t c_28)).1.2.2 1 v3_1 c_121 | exact (hok (b2i_t c_28)).1.2.2 2 v3_2 c_131)) (cwV 0 hts cw_X5_271 rfl rfl rfl hd_X5_addressNow ⟨Nat.le_of_ble_eq_true rfl, Nat.le_of_ble_eq_true rfl⟩) mKst (va_recv hK hP (ci := 5) (q0 := 0) rfl rfl) hP hKp ⟨Nat.zero_le _, Nat.zero_le _⟩ rfl hl.1 rfl (Nat.le_of_ble_eq_true rfl) dX5_step_135 ?_
                    refine lv_goto (tgt := 142) hx hb dX5_step_138 (by decide) ?_
                    subst hr
                    exact kp7 _ _ ls hP hS (lv_sub hl [0, 1, 2, 3, 4] rfl)
                  · replace hr := hr.trans (if_neg c_121)
                    refine lv_aload_n hx hb dX5_step_124 rfl (lv_at hl 3 rfl) ?_
                    refine mg_0_39 hx hb hts hown hK hP (hts _ q710) dX5_step_125 ?_
                    refine lv_iconst (v := (2 : Int32)) hx hb dX5_step_128 ic_2 ?_
                    refine ml_9 hx hb hK hP (show ¬ ((2 : Int32) < 0 ∨ 3 ≤ (2 : Int32).toNatClampNeg) by decide) dX5_step_129 ?_
                    refine lv_iconst (v := (2 : Int32)) hx hb dX5_step_130 ic_2 ?_
                    refine lv_icmp_ne (tgt := 141) hx hb dX5_step_131 (by decide) (fun c_131 => ?_) (fun c_131 => ?_)
                    · replace hr := hr.trans (if_neg c_131)
                      refine lv_lconst (v := (0 : Int64)) hx hb dX5_step_141 lc_0 ?_
                      subst hr
                      exact kp7 _ _ ls hP hS (lv_sub hl [0, 1, 2, 3, 4] rfl)
                    · replace hr := hr.trans (if_pos c_131)
                      refine lv_aload_n hx hb dX5_step_134 rfl (lv_at hl 3 rfl) ?_
                      refine g_RV (As := []) (rest := [.ref (ad 0)]) hC (m_X5_addressNow (K := K) (d := d6)  _ rfl (by first | exact (hok (b2i_t c_28)).1.2.2 0 v3_0 c_111 | exact (hok (b2i_t c_28)).1.2.2 1 v3_1 c_121 | exact (hok (b2i_t c_28)).1.2.2 2 v3_2 c_131)) (cwV 0 hts cw_X5_271 rfl rfl rfl hd_X5_addressNow ⟨Nat.le_of_ble_eq_true rfl, Nat.le_of_ble_eq_true rfl⟩) mKst (va_recv hK hP (ci := 5) (q0 := 0) rfl rfl) hP hKp ⟨Nat.zero_le _, Nat.zero_le _⟩ rfl hl.1 rfl (Nat.le_of_ble_eq_true rfl) dX5_step_135 ?_
                      refine lv_goto (tgt := 142) hx hb dX5_step_138 (by decide) ?_
                      subst hr
                      exact kp7 _ _ ls hP hS (lv_sub hl [0, 1, 2, 3, 4] rfl)
              · replace hr := hr.trans (if_neg c_66)
                refine lv_aload_n hx hb dX5_step_69 rfl (lv_at hl 3 rfl) ?_
                refine mg_0_17 hx hb hts hown hK hP (hts _ q688) dX5_step_70 ?_
                refine lv_iload hx hb dX5_step_73 (lv_at hl 0 rfl) ?_
                refine lv_aload_n hx hb dX5_step_75 rfl (lv_at hl 3 rfl) ?_
                refine mg_0_16 hx hb hts hown hK hP (hts _ q687) dX5_step_76 ?_
                refine lv_iload hx hb dX5_step_79 (lv_at hl 0 rfl) ?_
                refine ml_7 hx hb hK hP (i_in h0 c_66 (by decide)) dX5_step_81 ?_
                refine ms_8 hx hb hK hI hP hS (i_in h0 c_66 (by decide)) dX5_step_82 (fun d19 ed19 H locs hP hS => ?_)
                replace hr := hr.trans (bnd_eq ed19)
                obtain ⟨v20, ev20⟩ : ∃ z : Int32, z = (w62_6 + (1 : Int32)) := ⟨_, rfl⟩
                replace hr := hr.trans (bnd_eq ev20)
                refine lv_iinc (v := v20) (lv' := [(6, .int v20), (4, .long v5), (2, .long (dm_ip d4)), (0, .ref (ad 0)), (1, .int len)]) hx hb dX5_step_83 hl (k := 0) rfl (by rw [ev20, ← ic_1]) (by decide) rfl (fun ls hl => ?_)
                refine lv_goto (tgt := 62) hx hb dX5_step_86 (by decide) ?_
                exact ih v20 d19 _ _ ls (mI_dec c_66 hm ev20) (i_nn h0 c_66 ev20) (by rw [ed19]; exact h9) hr hP hS (lv_sub hl [0, 1, 2, 3, 4] rfl)
          exact lp62 (mI (0 : Int32) (16 : Int32) + 1) (0 : Int32) d4 _ _ ls (Nat.lt_succ_self _) (by decide) (by rw [ed4, ed3, ed2, ed1]; exact hio) hr hP hS (lv_sub hl [0, 1, 2, 3, 4] rfl)
        · replace hr := hr.trans (if_pos c_28)
          refine lv_iconst (v := (-1 : Int32)) hx hb dX5_step_31 ic_m1 ?_
          exact g_endUi (Pic := (fun u => mB D ad ca u.1 u.2)) (u := (K, d1)) hF hQ hr hP hS dX5_step_32
