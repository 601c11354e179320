def m_service_L415 (K : MK) (v9 : Int64) : Nat → Int32 → MD → (MK × MD)
  | 0, w415_11, dl415 => (K, dl415)
  | n + 1, w415_11, dl415 => if (km_heapSize K) ≤ w415_11 then (bnd (km_heapSize_ (v9.toInt32) K) fun K12 => bnd (dm_regs_ (vp_updL (dm_regs dl415) (0 : Int32).toNatClampNeg ((m_heapBegin K12) + ((km_heapSize K12).toInt64))) dl415) fun d13 => (K12, d13)) else (bnd (dm_heap_ (upd (dm_heap dl415) w415_11.toNatClampNeg (vp_nar .byte (0 : Int32))) dl415) fun d14 => bnd (α := Int32) ((w415_11 + (1 : Int32))) fun v15 => m_service_L415 K v9 n v15 d14)
theorem m_service_L415_s (K : MK) (v9 : Int64) (n : Nat) (w415_11 : Int32) (dl415 : MD) : m_service_L415 K v9 (n + 1) w415_11 dl415 = if (km_heapSize K) ≤ w415_11 then (bnd (km_heapSize_ (v9.toInt32) K) fun K12 => bnd (dm_regs_ (vp_updL (dm_regs dl415) (0 : Int32).toNatClampNeg ((m_heapBegin K12) + ((km_heapSize K12).toInt64))) dl415) fun d13 => (K12, d13)) else (bnd (dm_heap_ (upd (dm_heap dl415) w415_11.toNatClampNeg (vp_nar .byte (0 : Int32))) dl415) fun d14 => bnd (α := Int32) ((w415_11 + (1 : Int32))) fun v15 => m_service_L415 K v9 n v15 d14) := rfl
def m_service_L290 (K : MK) (v5 : Int64) (v6 : Int64) (p17 : Bool) (p18 : Bool) : Nat → Int32 → MD → (MK × MD)
  | 0, w290_11, dl290 => (K, dl290)
  | n + 1, w290_11, dl290 => bnd (α := Bool) (if v6 ≤ (w290_11.toInt64) then false else (if (b2i p18) = 0 then false else true)) fun b19 => if b19 = true then (bnd (dm_shown_ (upd (dm_shown dl290) (dm_shownSize dl290).toNatClampNeg (vp_nar .byte ((m_byteAtPlace (m_find K (v5 + (w290_11.toInt64)) false) dl290).toInt8.toInt32))) dl290) fun d20 => bnd (dm_shownSize_ ((dm_shownSize d20) + (1 : Int32)) d20) fun d21 => bnd (α := Int32) ((w290_11 + (1 : Int32))) fun v22 => m_service_L290 K v5 v6 p17 p18 n v22 d21) else (if (b2i p18) = 0 then (if (b2i p17) = 0 then (bnd (dm_regs_ (vp_updL (dm_regs dl290) (0 : Int32).toNatClampNeg (-28 : Int64)) dl290) fun d23 => (K, d23)) else (bnd (dm_regs_ (vp_updL (dm_regs dl290) (0 : Int32).toNatClampNeg (-14 : Int64)) dl290) fun d24 => (K, d24))) else (bnd (dm_regs_ (vp_updL (dm_regs dl290) (0 : Int32).toNatClampNeg v6) dl290) fun d25 => (K, d25)))
theorem m_service_L290_s (K : MK) (v5 : Int64) (v6 : Int64) (p17 : Bool) (p18 : Bool) (n : Nat) (w290_11 : Int32) (dl290 : MD) : m_service_L290 K v5 v6 p17 p18 (n + 1) w290_11 dl290 = bnd (α := Bool) (if v6 ≤ (w290_11.toInt64) then false else (if (b2i p18) = 0 then false else true)) fun b19 => if b19 = true then (bnd (dm_shown_ (upd (dm_shown dl290) (dm_shownSize dl290).toNatClampNeg (vp_nar .byte ((m_byteAtPlace (m_find K (v5 + (w290_11.toInt64)) false) dl290).toInt8.toInt32))) dl290) fun d20 => bnd (dm_shownSize_ ((dm_shownSize d20) + (1 : Int32)) d20) fun d21 => bnd (α := Int32) ((w290_11 + (1 : Int32))) fun v22 => m_service_L290 K v5 v6 p17 p18 n v22 d21) else (if (b2i p18) = 0 then (if (b2i p17) = 0 then (bnd (dm_regs_ (vp_updL (dm_regs dl290) (0 : Int32).toNatClampNeg (-28 : Int64)) dl290) fun d23 => (K, d23)) else (bnd (dm_regs_ (vp_updL (dm_regs dl290) (0 : Int32).toNatClampNeg (-14 : Int64)) dl290) fun d24 => (K, d24))) else (bnd (dm_regs_ (vp_updL (dm_regs dl290) (0 : Int32).toNatClampNeg v6) dl290) fun d25 => (K, d25))) := rfl
def m_service_L148 (K : MK) (p26 : Int32) (b27 : Bool) : Nat → Int32 → MD → (MK × MD)
  | 0, w148_11, dl148 => (K, dl148)
  | n + 1, w148_11, dl148 => bnd (α := Bool) (if (dm_givenSize dl148) ≤ w148_11 then false else (if (b2i b27) = 0 then false else true)) fun b31 => if b31 = true then (bnd (dm_given_ (upd (dm_given dl148) (w148_11 - p26).toNatClampNeg (vp_nar .byte ((dm_given dl148) w148_11.toNatClampNeg))) dl148) fun d32 => bnd (α := Int32) ((w148_11 + (1 : Int32))) fun v33 => m_service_L148 K p26 b27 n v33 d32) else (bnd (α := Int32) (if (b2i b27) = 0 then (0 : Int32) else p26) fun p34 => bnd (dm_givenSize_ ((dm_givenSize dl148) - p34) dl148) fun d35 => if (b2i b27) = 0 then (bnd (dm_regs_ (vp_updL (dm_regs d35) (0 : Int32).toNatClampNeg (-14 : Int64)) d35) fun d36 => (K, d36)) else (bnd (dm_regs_ (vp_updL (dm_regs d35) (0 : Int32).toNatClampNeg (p26.toInt64)) d35) fun d37 => (K, d37)))
theorem m_service_L148_s (K : MK) (p26 : Int32) (b27 : Bool) (n : Nat) (w148_11 : Int32) (dl148 : MD) : m_service_L148 K p26 b27 (n + 1) w148_11 dl148 = bnd (α := Bool) (if (dm_givenSize dl148) ≤ w148_11 then false else (if (b2i b27) = 0 then false else true)) fun b31 => if b31 = true then (bnd (dm_given_ (upd (dm_given dl148) (w148_11 - p26).toNatClampNeg (vp_nar .byte ((dm_given dl148) w148_11.toNatClampNeg))) dl148) fun d32 => bnd (α := Int32) ((w148_11 + (1 : Int32))) fun v33 => m_service_L148 K p26 b27 n v33 d32) else (bnd (α := Int32) (if (b2i b27) = 0 then (0 : Int32) else p26) fun p34 => bnd (dm_givenSize_ ((dm_givenSize dl148) - p34) dl148) fun d35 => if (b2i b27) = 0 then (bnd (dm_regs_ (vp_updL (dm_regs d35) (0 : Int32).toNatClampNeg (-14 : Int64)) d35) fun d36 => (K, d36)) else (bnd (dm_regs_ (vp_updL (dm_regs d35) (0 : Int32).toNatClampNeg (p26.toInt64)) d35) fun d37 => (K, d37))) := rfl
def m_service_L104 (K : MK) (v5 : Int64) (p26 : Int32) (b27 : Bool) : Nat → Int32 → MD → (MK × MD)
  | 0, w104_11, dl104 => (K, dl104)
  | n + 1, w104_11, dl104 => bnd (α := Bool) (if p26 ≤ w104_11 then false else (if (b2i b27) = 0 then false else true)) fun b28 => if b28 = true then (bnd (m_setPlace (m_find K (v5 + (w104_11.toInt64)) true) ((dm_given dl104) w104_11.toNatClampNeg) dl104) fun g29 => bnd (α := Int32) ((w104_11 + (1 : Int32))) fun v30 => m_service_L104 K v5 p26 b27 n v30 g29) else (m_service_L148 K p26 b27 (mI p26 (dm_givenSize dl104) + 1) p26 dl104)
theorem m_service_L104_s (K : MK) (v5 : Int64) (p26 : Int32) (b27 : Bool) (n : Nat) (w104_11 : Int32) (dl104 : MD) : m_service_L104 K v5 p26 b27 (n + 1) w104_11 dl104 = bnd (α := Bool) (if p26 ≤ w104_11 then false else (if (b2i b27) = 0 then false else true)) fun b28 => if b28 = true then (bnd (m_setPlace (m_find K (v5 + (w104_11.toInt64)) true) ((dm_given dl104) w104_11.toNatClampNeg) dl104) fun g29 => bnd (α := Int32) ((w104_11 + (1 : Int32))) fun v30 => m_service_L104 K v5 p26 b27 n v30 g29) else (m_service_L148 K p26 b27 (mI p26 (dm_givenSize dl104) + 1) p26 dl104) := rfl
def m_service (K : MK) (d : MD) : (MK × MD) := bnd (dm_regs_ (vp_updL (dm_regs d) (1 : Int32).toNatClampNeg (dm_ip d)) d) fun d1 => bnd (dm_regs_ (vp_updL (dm_regs d1) (11 : Int32).toNatClampNeg (m_flags d1)) d1) fun d2 => bnd (α := Int64) (((dm_regs d2) (0 : Int32).toNatClampNeg)) fun v3 => bnd (α := Int64) (((dm_regs d2) (7 : Int32).toNatClampNeg)) fun v4 => bnd (α := Int64) (((dm_regs d2) (6 : Int32).toNatClampNeg)) fun v5 => bnd (α := Int64) (((dm_regs d2) (2 : Int32).toNatClampNeg)) fun v6 => if v3 = (0 : Int64) then (bnd (α := Int32) (if v6 < (0 : Int64) then (dm_givenSize d2) else (if v6 ≤ ((dm_givenSize d2).toInt64) then (v6.toInt32) else (dm_givenSize d2))) fun p26 => bnd (α := Bool) ((m_may K v5 (p26.toInt64) true)) fun b27 => m_service_L104 K v5 p26 b27 (mI (0 : Int32) p26 + 1) (0 : Int32) d2) else (if v3 = (1 : Int64) then (bnd (α := Bool) (if v6 < (0 : Int64) then false else (if ((65536 : Int64) - ((dm_shownSize d2).toInt64)) < v6 then false else true)) fun p17 => bnd (α := Bool) (if (b2i p17) = 0 then false else (if (b2i (m_may K v5 v6 false)) = 0 then false else true)) fun p18 => m_service_L290 K v5 v6 p17 p18 (mS (0 : Int32) v6 + 1) (0 : Int32) d2) else (if v3 = (12 : Int64) then (bnd (α := Int64) ((v4 - (m_heapBegin K))) fun v9 => bnd (α := Bool) (if v9 < (0 : Int64) then false else (if (65536 : Int64) < v9 then false else true)) fun b10 => if b10 = true then (bnd (α := Int32) ((v9.toInt32)) fun v11 => m_service_L415 K v9 (mI v11 (km_heapSize K) + 1) v11 d2) else (bnd (dm_regs_ (vp_updL (dm_regs d2) (0 : Int32).toNatClampNeg ((m_heapBegin K) + ((km_heapSize K).toInt64))) d2) fun d16 => (K, d16))) else (if v3 = (60 : Int64) then (bnd (m_stopWith (1 : Int32) v4 d2) fun g8 => (K, g8)) else (bnd (dm_regs_ (vp_updL (dm_regs d2) (0 : Int32).toNatClampNeg (-38 : Int64)) d2) fun d7 => (K, d7)))))
abbrev rm_X5_service : Room := { frames := 3, cells := 0, slots := 0, locals := 76 }
set_option maxHeartbeats 4000000 in
set_option maxRecDepth 100000 in
theorem m_X5_service {l : Launch} {D : va_G} {ad : Nat → Nat} {ca : Nat → ClassId} (hI : mInj ad) {K : MK} {d : MD} (RES : (MK × MD)) (hr : RES = m_service K d) (hlay : MLay K) (hio : MIO d) : g_U l yX5_service (ws_ yX5_service cX5_service 12 none) rm_X5_service [.ref (ad 0)] (mKp D ca) (mB D ad ca K d) none (mB D ad ca RES.1 RES.2) (mA ad) := by
  refine g_ofU (by decide) (Nat.le_of_ble_eq_true rfl) ?_
  intro p e s m args below meth c ls Q hF hB hKp hl hQ
  obtain ⟨hx, hb, -, -, hml, hown, hts⟩ := id hF
  have hown : s.vm.findClass RX5 = some m.cls := hown
  have hC : CallFix p m c cX5_service 12 s args lw_all RX5 := ⟨hx, hb, hml, hown, hts⟩
  have hK : va_K D xcl (mtys ca) s := hKp
  have hP : va_P D xcl (MW ad ca K d) s.heap := hB
  have hS : va_S (mA ad) s.heap s.heap [] := va_S.rf
  have hl : lv_has ls 12 [(0, .ref (ad 0))] := hl
  unfold m_service at hr
  refine lv_aload_n hx hb dX5_service_0 rfl (lv_at hl 0 rfl) ?_
  refine mg_0_16 hx hb hts hown hK hP (hts _ q687) dX5_service_1 ?_
  refine lv_iconst (v := (1 : Int32)) hx hb dX5_service_4 ic_1 ?_
  refine lv_aload_n hx hb dX5_service_5 rfl (lv_at hl 0 rfl) ?_
  refine mg_0_18 hx hb hts hown hK hP (hts _ q689) dX5_service_6 ?_
  refine ms_7 hx hb hK hI hP hS (show ¬ ((1 : Int32) < 0 ∨ 16 ≤ (1 : Int32).toNatClampNeg) by decide) dX5_service_9 (fun d1 ed1 H locs hP hS => ?_)
  replace hr := hr.trans (bnd_eq ed1)
  refine lv_aload_n hx hb dX5_service_10 rfl (lv_at hl 0 rfl) ?_
  refine mg_0_16 hx hb hts hown hK hP (hts _ q687) dX5_service_11 ?_
  refine lv_bipush (v := (11 : Int32)) hx hb dX5_service_14 bp_11 ?_
  refine lv_aload_n hx hb dX5_service_16 rfl (lv_at hl 0 rfl) ?_
  refine g_RV (As := []) (rest := [.int (11 : Int32), .ref (ad 7)]) hC (m_X5_flags (K := K) (d := d1)  _ rfl) (cwV 0 hts cw_X5_310 rfl rfl rfl hd_X5_flags ⟨Nat.le_of_ble_eq_true rfl, Nat.le_of_ble_eq_true rfl⟩) mKst (va_recv hK hP (ci := 5) (q0 := 0) rfl rfl) hP hKp ⟨Nat.zero_le _, Nat.zero_le _⟩ rfl hl.1 rfl (Nat.le_of_ble_eq_true rfl) dX5_service_17 ?_
  refine ms_7 hx hb hK hI hP hS (show ¬ ((11 : Int32) < 0 ∨ 16 ≤ (11 : Int32).toNatClampNeg) by decide) dX5_service_20 (fun d2 ed2 H locs hP hS => ?_)
  replace hr := hr.trans (bnd_eq ed2)
  refine lv_aload_n hx hb dX5_service_21 rfl (lv_at hl 0 rfl) ?_
  refine mg_0_16 hx hb hts hown hK hP (hts _ q687) dX5_service_22 ?_
  refine lv_iconst (v := (0 : Int32)) hx hb dX5_service_25 ic_0 ?_
  refine ml_7 hx hb hK hP (show ¬ ((0 : Int32) < 0 ∨ 16 ≤ (0 : Int32).toNatClampNeg) by decide) dX5_service_26 ?_
  refine lv_topl (fun v3 ev3 => ?_)
  replace hr := hr.trans (bnd_eq ev3)
  refine lv_lstore_n (lv' := [(1, .long v3), (0, .ref (ad 0))]) hx hb dX5_service_27 rfl hl (by decide) rfl (fun ls hl => ?_)
  refine lv_aload_n hx hb dX5_service_28 rfl (lv_at hl 1 rfl) ?_
  refine mg_0_16 hx hb hts hown hK hP (hts _ q687) dX5_service_29 ?_
  refine lv_bipush (v := (7 : Int32)) hx hb dX5_service_32 bp_7 ?_
  refine ml_7 hx hb hK hP (show ¬ ((7 : Int32) < 0 ∨ 16 ≤ (7 : Int32).toNatClampNeg) by decide) dX5_service_34 ?_
  refine lv_topl (fun v4 ev4 => ?_)
  replace hr := hr.trans (bnd_eq ev4)
  refine lv_lstore_n (lv' := [(3, .long v4), (1, .long v3), (0, .ref (ad 0))]) hx hb dX5_service_35 rfl hl (by decide) rfl (fun ls hl => ?_)
  refine lv_aload_n hx hb dX5_service_36 rfl (lv_at hl 2 rfl) ?_
  refine mg_0_16 hx hb hts hown hK hP (hts _ q687) dX5_service_37 ?_
  refine lv_bipush (v := (6 : Int32)) hx hb dX5_service_40 bp_6 ?_
  refine ml_7 hx hb hK hP (show ¬ ((6 : Int32) < 0 ∨ 16 ≤ (6 : Int32).toNatClampNeg) by decide) dX5_service_42 ?_
  refine lv_topl (fun v5 ev5 => ?_)
  replace hr := hr.trans (bnd_eq ev5)
  refine lv_lstore (lv' := [(5, .long v5), (3, .long v4), (1, .long v3), (0, .ref (ad 0))]) hx hb dX5_service_43 hl (by decide) rfl (fun ls hl => ?_)
  refine lv_aload_n hx hb dX5_service_45 rfl (lv_at hl 3 rfl) ?_
  refine mg_0_16 hx hb hts hown hK hP (hts _ q687) dX5_service_46 ?_
  refine lv_iconst (v := (2 : Int32)) hx hb dX5_service_49 ic_2 ?_
  refine ml_7 hx hb hK hP (show ¬ ((2 : Int32) < 0 ∨ 16 ≤ (2 : Int32).toNatClampNeg) by decide) dX5_service_50 ?_
  refine lv_topl (fun v6 ev6 => ?_)
  replace hr := hr.trans (bnd_eq ev6)
  refine lv_lstore (lv' := [(7, .long v6), (5, .long v5), (3, .long v4), (1, .long v3), (0, .ref (ad 0))]) hx hb dX5_service_51 hl (by decide) rfl (fun ls hl => ?_)
  refine lv_lload_n hx hb dX5_service_53 rfl (lv_at hl 3 rfl) ?_
  refine lv_lconst (v := (0 : Int64)) hx hb dX5_service_54 lc_0 ?_
  refine lq_ne (tgt := 228) hx hb dX5_service_55 dX5_service_56 (by decide) (fun c_55 => ?_) (fun c_55 => ?_)
  · replace hr := hr.trans (if_neg c_55)
    refine lv_lload_n hx hb dX5_service_228 rfl (lv_at hl 3 rfl) ?_
    refine lv_lconst (v := (1 : Int64)) hx hb dX5_service_229 lc_1 ?_
    refine lq_ne (tgt := 378) hx hb dX5_service_230 dX5_service_231 (by decide) (fun c_230 => ?_) (fun c_230 => ?_)
    · replace hr := hr.trans (if_neg c_230)
      refine lv_lload_n hx hb dX5_service_378 rfl (lv_at hl 3 rfl) ?_
      refine lv_ldc2 hx hb hown (hts _ q1027) dX5_service_379 ?_
      refine lq_ne (tgt := 464) hx hb dX5_service_382 dX5_service_383 (by decide) (fun c_382 => ?_) (fun c_382 => ?_)
      · replace hr := hr.trans (if_neg c_382)
        refine lv_lload_n hx hb dX5_service_464 rfl (lv_at hl 3 rfl) ?_
        refine lv_ldc2 hx hb hown (hts _ q1028) dX5_service_465 ?_
        refine lq_ne (tgt := 481) hx hb dX5_service_468 dX5_service_469 (by decide) (fun c_468 => ?_) (fun c_468 => ?_)
        · replace hr := hr.trans (if_neg c_468)
          refine lv_aload_n hx hb dX5_service_481 rfl (lv_at hl 4 rfl) ?_
          refine mg_0_16 hx hb hts hown hK hP (hts _ q687) dX5_service_482 ?_
          refine lv_iconst (v := (0 : Int32)) hx hb dX5_service_485 ic_0 ?_
          refine lv_ldc2 hx hb hown (hts _ q1029) dX5_service_486 ?_
          refine ms_7 hx hb hK hI hP hS (show ¬ ((0 : Int32) < 0 ∨ 16 ≤ (0 : Int32).toNatClampNeg) by decide) dX5_service_489 (fun d7 ed7 H locs hP hS => ?_)
          replace hr := hr.trans (bnd_eq ed7)
          exact g_endUv (Pic := (fun u => mB D ad ca u.1 u.2)) (u := (K, d7)) hF hQ hr hP hS dX5_service_490
        · replace hr := hr.trans (if_pos c_468)
          refine lv_aload_n hx hb dX5_service_472 rfl (lv_at hl 4 rfl) ?_
          refine lv_iconst (v := (1 : Int32)) hx hb dX5_service_473 ic_1 ?_
          refine lv_lload_n hx hb dX5_service_474 rfl (lv_at hl 2 rfl) ?_
          obtain ⟨g8, eg8⟩ : ∃ z, z = m_stopWith (1 : Int32) v4 d2 := ⟨_, rfl⟩
          replace hr := hr.trans (bnd_eq eg8)
          refine g_UV0 (As := [.int (1 : Int32), .long v4]) (rest := []) hC (m_X5_stopWith hI (K := K) (d := d2) (1 : Int32) v4 g8 eg8) (cwV 2 hts cw_X5_180 rfl rfl rfl hd_X5_stopWith ⟨Nat.le_of_ble_eq_true rfl, Nat.le_of_ble_eq_true rfl⟩) mKst (va_recv hK hP (ci := 5) (q0 := 0) rfl rfl) hP hKp ⟨Nat.zero_le _, Nat.zero_le _⟩ hS (fun _ h => h) rfl hl.1 rfl (Nat.le_of_ble_eq_true rfl) dX5_service_475 (fun H locs hP hS => ?_)
          have hP : va_P D xcl (MW ad ca K g8) H := hP
          refine lv_goto (tgt := 490) hx hb dX5_service_478 (by decide) ?_
          exact g_endUv (Pic := (fun u => mB D ad ca u.1 u.2)) (u := (K, g8)) hF hQ hr hP hS dX5_service_490
      · replace hr := hr.trans (if_pos c_382)
        refine lv_lload_n hx hb dX5_service_386 rfl (lv_at hl 2 rfl) ?_
        refine lv_aload_n hx hb dX5_service_387 rfl (lv_at hl 4 rfl) ?_
        refine g_RV (As := []) (rest := [.long v4]) hC (m_X5_heapBegin (K := K) (d := d2)  _ rfl) (cwV 0 hts cw_X5_159 rfl rfl rfl hd_X5_heapBegin ⟨Nat.le_of_ble_eq_true rfl, Nat.le_of_ble_eq_true rfl⟩) mKst (va_recv hK hP (ci := 5) (q0 := 0) rfl rfl) hP hKp ⟨Nat.zero_le _, Nat.zero_le _⟩ rfl hl.1 rfl (Nat.le_of_ble_eq_true rfl) dX5_service_388 ?_
        refine lv_lsub hx hb dX5_service_391 ?_
        refine lv_topl (fun v9 ev9 => ?_)
        replace hr := hr.trans (bnd_eq ev9)
        refine lv_lstore (lv' := [(9, .long v9), (7, .long v6), (5, .long v5), (3, .long v4), (1, .long v3), (0, .ref (ad 0))]) hx hb dX5_service_392 hl (by decide) rfl (fun ls hl => ?_)
        refine lv_lload hx hb dX5_service_394 (lv_at hl 0 rfl) ?_
        refine lv_lconst (v := (0 : Int64)) hx hb dX5_service_396 lc_0 ?_
        obtain ⟨b10, eb10⟩ : ∃ z : Bool, z = (if v9 < (0 : Int64) then false else (if (65536 : Int64) < v9 then false else true)) := ⟨_, rfl⟩
        replace hr := hr.trans (bnd_eq eb10)
        have kb10T : b10 = true → W p l e rm_X5_service s m args below meth c H locs 0 0 Q (F0 m 410 ls []) := by
          intro hb10
          replace hr := hr.trans (if_pos hb10)
          have er := eb10
          have c_397 : ¬ (v9 < (0 : Int64)) := fun q => absurd (hb10.symm.trans (er.trans (if_pos q))) (by decide)
          have er := er.trans (if_neg c_397)
          have c_406 : ¬ ((65536 : Int64) < v9) := fun q => absurd (hb10.symm.trans (er.trans (if_pos q))) (by decide)
          have er := er.trans (if_neg c_406)
          clear er
          refine lv_lload hx hb dX5_service_410 (lv_at hl 0 rfl) ?_
          refine lv_l2i (v := v9.toInt32) hx hb dX5_service_412 rfl ?_
          refine lv_topi (fun v11 ev11 => ?_)
          replace hr := hr.trans (bnd_eq ev11)
          refine lv_istore (lv' := [(11, .int v11), (9, .long v9), (7, .long v6), (5, .long v5), (3, .long v4), (1, .long v3), (0, .ref (ad 0))]) hx hb dX5_service_413 hl (by decide) rfl (fun ls hl => ?_)
          have lp415 : ∀ (n : Nat) (w415_11 : Int32) (dl415 : MD) (H : Heap) (locs : List Loc) (ls : Array Slot), mI w415_11 (km_heapSize K) < n → (0 ≤ w415_11) → RES = m_service_L415 K v9 n w415_11 dl415 → va_P D xcl (MW ad ca K dl415) H → va_S (mA ad) s.heap H locs → lv_has ls 12 [(11, .int w415_11), (9, .long v9), (7, .long v6), (5, .long v5), (3, .long v4), (1, .long v3), (0, .ref (ad 0))] → W p l e rm_X5_service s m args below meth c H locs 0 0 Q (F0 m 415 ls []) := by
            intro n
            induction n with
            | zero =>
              intro w415_11 dl415 H locs ls hm
              exact absurd hm (Nat.not_lt_zero _)
            | succ n ih =>
              intro w415_11 dl415 H locs ls hm h0 hr hP hS hl
              replace hr := hr.trans (m_service_L415_s K v9 n w415_11 dl415)
              refine lv_iload hx hb dX5_service_415 (lv_at hl 0 rfl) ?_
              refine lv_aload_n hx hb dX5_service_417 rfl (lv_at hl 6 rfl) ?_
              refine mg_0_13 hx hb hts hown hK hP (hts _ q684) dX5_service_418 ?_
              refine lv_icmp_ge (tgt := 438) hx hb dX5_service_421 (by decide) (fun c_421 => ?_) (fun c_421 => ?_)
              · replace hr := hr.trans (if_pos c_421)
                refine lv_aload_n hx hb dX5_service_438 rfl (lv_at hl 6 rfl) ?_
                refine lv_lload hx hb dX5_service_439 (lv_at hl 1 rfl) ?_
                refine lv_l2i (v := v9.toInt32) hx hb dX5_service_441 rfl ?_
                refine mp_0_13 (v := (v9.toInt32)) hx hb hts hown hK hI hP hS (hts _ q684) dX5_service_442 (fun K12 eK12 H locs hP hS => ?_)
                replace hr := hr.trans (bnd_eq eK12)
                refine lv_aload_n hx hb dX5_service_445 rfl (lv_at hl 6 rfl) ?_
                refine mg_0_16 hx hb hts hown hK hP (hts _ q687) dX5_service_446 ?_
                refine lv_iconst (v := (0 : Int32)) hx hb dX5_service_449 ic_0 ?_
                refine lv_aload_n hx hb dX5_service_450 rfl (lv_at hl 6 rfl) ?_
                refine g_RV (As := []) (rest := [.int (0 : Int32), .ref (ad 7)]) hC (m_X5_heapBegin (K := K12) (d := dl415)  _ rfl) (cwV 0 hts cw_X5_159 rfl rfl rfl hd_X5_heapBegin ⟨Nat.le_of_ble_eq_true rfl, Nat.le_of_ble_eq_true rfl⟩) mKst (va_recv hK hP (ci := 5) (q0 := 0) rfl rfl) hP hKp ⟨Nat.zero_le _, Nat.zero_le _⟩ rfl hl.1 rfl (Nat.le_of_ble_eq_true rfl) dX5_service_451 ?_
                refine lv_aload_n hx hb dX5_service_454 rfl (lv_at hl 6 rfl) ?_
                refine mg_0_13 hx hb hts hown hK hP (hts _ q684) dX5_service_455 ?_
                refine lv_i2l (v := (km_heapSize K12).toInt64) hx hb dX5_service_458 rfl ?_
                refine lv_ladd hx hb dX5_service_459 ?_
                refine ms_7 hx hb hK hI hP hS (show ¬ ((0 : Int32) < 0 ∨ 16 ≤ (0 : Int32).toNatClampNeg) by decide) dX5_service_460 (fun d13 ed13 H locs hP hS => ?_)
                replace hr := hr.trans (bnd_eq ed13)
                refine lv_goto (tgt := 490) hx hb dX5_service_461 (by decide) ?_
                exact g_endUv (Pic := (fun u => mB D ad ca u.1 u.2)) (u := (K12, d13)) hF hQ hr hP hS dX5_service_490
              · replace hr := hr.trans (if_neg c_421)
                refine lv_aload_n hx hb dX5_service_424 rfl (lv_at hl 6 rfl) ?_
                refine mg_0_3 hx hb hts hown hK hP (hts _ q674) dX5_service_425 ?_
                refine lv_iload hx hb dX5_service_428 (lv_at hl 0 rfl) ?_
                refine lv_iconst (v := (0 : Int32)) hx hb dX5_service_430 ic_0 ?_
                refine ms_3 hx hb hK hI hP hS (i_in h0 c_421 hlay.2.2.2) dX5_service_431 (fun d14 ed14 H locs hP hS => ?_)
                replace hr := hr.trans (bnd_eq ed14)
                obtain ⟨v15, ev15⟩ : ∃ z : Int32, z = (w415_11 + (1 : Int32)) := ⟨_, rfl⟩
                replace hr := hr.trans (bnd_eq ev15)
                refine lv_iinc (v := v15) (lv' := [(11, .int v15), (9, .long v9), (7, .long v6), (5, .long v5), (3, .long v4), (1, .long v3), (0, .ref (ad 0))]) hx hb dX5_service_432 hl (k := 0) rfl (by rw [ev15, ← ic_1]) (by decide) rfl (fun ls hl => ?_)
                refine lv_goto (tgt := 415) hx hb dX5_service_435 (by decide) ?_
                exact ih v15 d14 _ _ ls (mI_dec c_421 hm ev15) (i_nn h0 c_421 ev15) hr hP hS (lv_sub hl [0, 1, 2, 3, 4, 5, 6] rfl)
          exact lp415 (mI v11 (km_heapSize K) + 1) v11 d2 _ _ ls (Nat.lt_succ_self _) (fl_nn c_397 c_406 ev11) hr hP hS (lv_sub hl [0, 1, 2, 3, 4, 5, 6] rfl)
        have kb10F : ¬ b10 = true → W p l e rm_X5_service s m args below meth c H locs 0 0 Q (F0 m 445 ls []) := by
          intro hb10
          replace hr := hr.trans (if_neg hb10)
          refine lv_aload_n hx hb dX5_service_445 rfl (lv_at hl 5 rfl) ?_
          refine mg_0_16 hx hb hts hown hK hP (hts _ q687) dX5_service_446 ?_
          refine lv_iconst (v := (0 : Int32)) hx hb dX5_service_449 ic_0 ?_
          refine lv_aload_n hx hb dX5_service_450 rfl (lv_at hl 5 rfl) ?_
          refine g_RV (As := []) (rest := [.int (0 : Int32), .ref (ad 7)]) hC (m_X5_heapBegin (K := K) (d := d2)  _ rfl) (cwV 0 hts cw_X5_159 rfl rfl rfl hd_X5_heapBegin ⟨Nat.le_of_ble_eq_true rfl, Nat.le_of_ble_eq_true rfl⟩) mKst (va_recv hK hP (ci := 5) (q0 := 0) rfl rfl) hP hKp ⟨Nat.zero_le _, Nat.zero_le _⟩ rfl hl.1 rfl (Nat.le_of_ble_eq_true rfl) dX5_service_451 ?_
          refine lv_aload_n hx hb dX5_service_454 rfl (lv_at hl 5 rfl) ?_
          refine mg_0_13 hx hb hts hown hK hP (hts _ q684) dX5_service_455 ?_
          refine lv_i2l (v := (km_heapSize K).toInt64) hx hb dX5_service_458 rfl ?_
          refine lv_ladd hx hb dX5_service_459 ?_
          refine ms_7 hx hb hK hI hP hS (show ¬ ((0 : Int32) < 0 ∨ 16 ≤ (0 : Int32).toNatClampNeg) by decide) dX5_service_460 (fun d16 ed16 H locs hP hS => ?_)
          replace hr := hr.trans (bnd_eq ed16)
          refine lv_goto (tgt := 490) hx hb dX5_service_461 (by decide) ?_
          exact g_endUv (Pic := (fun u => mB D ad ca u.1 u.2)) (u := (K, d16)) hF hQ hr hP hS dX5_service_490
        replace hr := eb10
        refine lq_lt (tgt := 445) hx hb dX5_service_397 dX5_service_398 (by decide) (fun c_397 => ?_) (fun c_397 => ?_)
        · replace hr := hr.trans (if_pos c_397)
          exact kb10F (by rw [hr]; decide)
        · replace hr := hr.trans (if_neg c_397)
          refine lv_lload hx hb dX5_service_401 (lv_at hl 0 rfl) ?_
          refine lv_ldc2 hx hb hown (hts _ q905) dX5_service_403 ?_
          refine lq_gt (tgt := 445) hx hb dX5_service_406 dX5_service_407 (by decide) (fun c_406 => ?_) (fun c_406 => ?_)
          · replace hr := hr.trans (if_pos c_406)
            exact kb10F (by rw [hr]; decide)
          · replace hr := hr.trans (if_neg c_406)
            exact kb10T hr
    · replace hr := hr.trans (if_pos c_230)
      refine lv_lload hx hb dX5_service_234 (lv_at hl 0 rfl) ?_
      refine lv_lconst (v := (0 : Int64)) hx hb dX5_service_236 lc_0 ?_
      obtain ⟨p17, ep17⟩ : ∃ z : Bool, z = (if v6 < (0 : Int64) then false else (if ((65536 : Int64) - ((dm_shownSize d2).toInt64)) < v6 then false else true)) := ⟨_, rfl⟩
      replace hr := hr.trans (bnd_eq ep17)
      have kp17 : ∀ (H : Heap) (locs : List Loc) (ls : Array Slot), va_P D xcl (MW ad ca K d2) H → va_S (mA ad) s.heap H locs → lv_has ls 12 [(7, .long v6), (5, .long v5), (3, .long v4), (1, .long v3), (0, .ref (ad 0))] → W p l e rm_X5_service s m args below meth c H locs 0 0 Q (F0 m 261 ls [.int (b2i p17)]) := by
        intro H locs ls hP hS hl
        refine lv_istore (lv' := [(9, .int (b2i p17)), (7, .long v6), (5, .long v5), (3, .long v4), (1, .long v3), (0, .ref (ad 0))]) hx hb dX5_service_261 hl (by decide) rfl (fun ls hl => ?_)
        refine lv_iload hx hb dX5_service_263 (lv_at hl 0 rfl) ?_
        obtain ⟨p18, ep18⟩ : ∃ z : Bool, z = (if (b2i p17) = 0 then false else (if (b2i (m_may K v5 v6 false)) = 0 then false else true)) := ⟨_, rfl⟩
        replace hr := hr.trans (bnd_eq ep18)
        have kp18 : ∀ (H : Heap) (locs : List Loc) (ls : Array Slot), va_P D xcl (MW ad ca K d2) H → va_S (mA ad) s.heap H locs → lv_has ls 12 [(9, .int (b2i p17)), (7, .long v6), (5, .long v5), (3, .long v4), (1, .long v3), (0, .ref (ad 0))] → W p l e rm_X5_service s m args below meth c H locs 0 0 Q (F0 m 285 ls [.int (b2i p18)]) := by
          intro H locs ls hP hS hl
          refine lv_istore (lv' := [(10, .int (b2i p18)), (9, .int (b2i p17)), (7, .long v6), (5, .long v5), (3, .long v4), (1, .long v3), (0, .ref (ad 0))]) hx hb dX5_service_285 hl (by decide) rfl (fun ls hl => ?_)
          refine lv_iconst (v := (0 : Int32)) hx hb dX5_service_287 ic_0 ?_
          refine lv_istore (lv' := [(11, .int (0 : Int32)), (10, .int (b2i p18)), (9, .int (b2i p17)), (7, .long v6), (5, .long v5), (3, .long v4), (1, .long v3), (0, .ref (ad 0))]) hx hb dX5_service_288 hl (by decide) rfl (fun ls hl => ?_)
          have lp290 : ∀ (n : Nat) (w290_11 : Int32) (dl290 : MD) (H : Heap) (locs : List Loc) (ls : Array Slot), mS w290_11 v6 < n → (0 ≤ w290_11) → ((dm_shownSize dl290).toInt = (dm_shownSize d2).toInt + w290_11.toInt) → RES = m_service_L290 K v5 v6 p17 p18 n w290_11 dl290 → va_P D xcl (MW ad ca K dl290) H → va_S (mA ad) s.heap H locs → lv_has ls 12 [(11, .int w290_11), (10, .int (b2i p18)), (9, .int (b2i p17)), (7, .long v6), (5, .long v5), (3, .long v4), (1, .long v3), (0, .ref (ad 0))] → W p l e rm_X5_service s m args below meth c H locs 0 0 Q (F0 m 290 ls []) := by
            intro n
            induction n with
            | zero =>
              intro w290_11 dl290 H locs ls hm
              exact absurd hm (Nat.not_lt_zero _)
            | succ n ih =>
              intro w290_11 dl290 H locs ls hm h0 h5 hr hP hS hl
              replace hr := hr.trans (m_service_L290_s K v5 v6 p17 p18 n w290_11 dl290)
              refine lv_iload hx hb dX5_service_290 (lv_at hl 0 rfl) ?_
              refine lv_i2l (v := w290_11.toInt64) hx hb dX5_service_292 rfl ?_
              refine lv_lload hx hb dX5_service_293 (lv_at hl 3 rfl) ?_
              obtain ⟨b19, eb19⟩ : ∃ z : Bool, z = (if v6 ≤ (w290_11.toInt64) then false else (if (b2i p18) = 0 then false else true)) := ⟨_, rfl⟩
              replace hr := hr.trans (bnd_eq eb19)
              have kb19T : b19 = true → W p l e rm_X5_service s m args below meth c H locs 0 0 Q (F0 m 304 ls []) := by
                intro hb19
                replace hr := hr.trans (if_pos hb19)
                have er := eb19
                have c_295 : ¬ (v6 ≤ (w290_11.toInt64)) := fun q => absurd (hb19.symm.trans (er.trans (if_pos q))) (by decide)
                have er := er.trans (if_neg c_295)
                have c_301 : ¬ ((b2i p18) = 0) := fun q => absurd (hb19.symm.trans (er.trans (if_pos q))) (by decide)
                have er := er.trans (if_neg c_301)
                clear er
                refine lv_aload_n hx hb dX5_service_304 rfl (lv_at hl 7 rfl) ?_
                refine mg_0_6 hx hb hts hown hK hP (hts _ q677) dX5_service_305 ?_
                refine lv_aload_n hx hb dX5_service_308 rfl (lv_at hl 7 rfl) ?_
                refine mg_0_15 hx hb hts hown hK hP (hts _ q686) dX5_service_309 ?_
                refine lv_aload_n hx hb dX5_service_312 rfl (lv_at hl 7 rfl) ?_
                refine lv_aload_n hx hb dX5_service_313 rfl (lv_at hl 7 rfl) ?_
                refine lv_lload hx hb dX5_service_314 (lv_at hl 4 rfl) ?_
                refine lv_iload hx hb dX5_service_316 (lv_at hl 0 rfl) ?_
                refine lv_i2l (v := w290_11.toInt64) hx hb dX5_service_318 rfl ?_
                refine lv_ladd hx hb dX5_service_319 ?_
                refine lv_iconst (v := (0 : Int32)) hx hb dX5_service_320 ic_0 ?_
                refine g_RV (As := [.long (v5 + (w290_11.toInt64)), .int (b2i false)]) (rest := [.ref (ad 0), .int (dm_shownSize dl290), .ref (ad 6)]) hC (m_X5_find (K := K) (d := dl290) (v5 + (w290_11.toInt64)) false _ rfl) (cwV 2 hts cw_X5_176 rfl rfl rfl hd_X5_find ⟨Nat.le_of_ble_eq_true rfl, Nat.le_of_ble_eq_true rfl⟩) mKst (va_recv hK hP (ci := 5) (q0 := 0) rfl rfl) hP hKp ⟨Nat.zero_le _, Nat.zero_le _⟩ rfl hl.1 rfl (Nat.le_of_ble_eq_true rfl) dX5_service_321 ?_
                refine g_RV (As := [.int (m_find K (v5 + (w290_11.toInt64)) false)]) (rest := [.int (dm_shownSize dl290), .ref (ad 6)]) hC (m_X5_byteAtPlace (K := K) (d := dl290) (m_find K (v5 + (w290_11.toInt64)) false) _ rfl (m_find_in hlay (m_may_k (mso (by rw [ed2, ed1]; exact hio.2) ep17 ep18 c_301).2.2 h0 c_295))) (cwV 1 hts cw_X5_184 rfl rfl rfl hd_X5_byteAtPlace ⟨Nat.le_of_ble_eq_true rfl, Nat.le_of_ble_eq_true rfl⟩) mKst (va_recv hK hP (ci := 5) (q0 := 0) rfl rfl) hP hKp ⟨Nat.zero_le _, Nat.zero_le _⟩ rfl hl.1 rfl (Nat.le_of_ble_eq_true rfl) dX5_service_324 ?_
                refine lv_i2b (v := (m_byteAtPlace (m_find K (v5 + (w290_11.toInt64)) false) dl290).toInt8.toInt32) hx hb dX5_service_327 rfl ?_
                refine ms_6 hx hb hK hI hP hS (ms_in (by rw [ed2, ed1]; exact hio.2) (mso (by rw [ed2, ed1]; exact hio.2) ep17 ep18 c_301).1 h0 c_295 h5) dX5_service_328 (fun d20 ed20 H locs hP hS => ?_)
                replace hr := hr.trans (bnd_eq ed20)
                refine lv_aload_n hx hb dX5_service_329 rfl (lv_at hl 7 rfl) ?_
                refine lv_dup hx hb dX5_service_330 rfl ?_
                refine mg_0_15 hx hb hts hown hK hP (hts _ q686) dX5_service_331 ?_
                refine lv_iconst (v := (1 : Int32)) hx hb dX5_service_334 ic_1 ?_
                refine lv_iadd hx hb dX5_service_335 ?_
                refine mp_0_15 (v := ((dm_shownSize d20) + (1 : Int32))) hx hb hts hown hK hI hP hS (hts _ q686) dX5_service_336 (fun d21 ed21 H locs hP hS => ?_)
                replace hr := hr.trans (bnd_eq ed21)
                obtain ⟨v22, ev22⟩ : ∃ z : Int32, z = (w290_11 + (1 : Int32)) := ⟨_, rfl⟩
                replace hr := hr.trans (bnd_eq ev22)
                refine lv_iinc (v := v22) (lv' := [(11, .int v22), (10, .int (b2i p18)), (9, .int (b2i p17)), (7, .long v6), (5, .long v5), (3, .long v4), (1, .long v3), (0, .ref (ad 0))]) hx hb dX5_service_339 hl (k := 0) rfl (by rw [ev22, ← ic_1]) (by decide) rfl (fun ls hl => ?_)
                refine lv_goto (tgt := 290) hx hb dX5_service_342 (by decide) ?_
                exact ih v22 d21 _ _ ls (mS_dec (mso (by rw [ed2, ed1]; exact hio.2) ep17 ep18 c_301).2.1 c_295 hm ev22) (mS_nn (mso (by rw [ed2, ed1]; exact hio.2) ep17 ep18 c_301).2.1 h0 c_295 ev22) (ms_st (by rw [ed2, ed1]; exact hio.2) (mso (by rw [ed2, ed1]; exact hio.2) ep17 ep18 c_301).1 h0 c_295 h5 (by rw [ed21, ed20]; rfl) ev22) hr hP hS (lv_sub hl [0, 1, 2, 3, 4, 5, 6, 7] rfl)
              have kb19F : ¬ b19 = true → W p l e rm_X5_service s m args below meth c H locs 0 0 Q (F0 m 345 ls []) := by
                intro hb19
                replace hr := hr.trans (if_neg hb19)
                refine lv_aload_n hx hb dX5_service_345 rfl (lv_at hl 7 rfl) ?_
                refine mg_0_16 hx hb hts hown hK hP (hts _ q687) dX5_service_346 ?_
                refine lv_iconst (v := (0 : Int32)) hx hb dX5_service_349 ic_0 ?_
                refine lv_iload hx hb dX5_service_350 (lv_at hl 1 rfl) ?_
                refine lv_if_eq (tgt := 360) hx hb dX5_service_352 (by decide) (fun c_352 => ?_) (fun c_352 => ?_)
                · replace hr := hr.trans (if_pos c_352)
                  refine lv_iload hx hb dX5_service_360 (lv_at hl 2 rfl) ?_
                  refine lv_if_eq (tgt := 371) hx hb dX5_service_362 (by decide) (fun c_362 => ?_) (fun c_362 => ?_)
                  · replace hr := hr.trans (if_pos c_362)
                    refine lv_ldc2 hx hb hown (hts _ q1026) dX5_service_371 ?_
                    refine ms_7 hx hb hK hI hP hS (show ¬ ((0 : Int32) < 0 ∨ 16 ≤ (0 : Int32).toNatClampNeg) by decide) dX5_service_374 (fun d23 ed23 H locs hP hS => ?_)
                    replace hr := hr.trans (bnd_eq ed23)
                    refine lv_goto (tgt := 490) hx hb dX5_service_375 (by decide) ?_
                    exact g_endUv (Pic := (fun u => mB D ad ca u.1 u.2)) (u := (K, d23)) hF hQ hr hP hS dX5_service_490
                  · replace hr := hr.trans (if_neg c_362)
                    refine lv_ldc2 hx hb hown (hts _ q1025) dX5_service_365 ?_
                    refine lv_goto (tgt := 374) hx hb dX5_service_368 (by decide) ?_
                    refine ms_7 hx hb hK hI hP hS (show ¬ ((0 : Int32) < 0 ∨ 16 ≤ (0 : Int32).toNatClampNeg) by decide) dX5_service_374 (fun d24 ed24 H locs hP hS => ?_)
                    replace hr := hr.trans (bnd_eq ed24)
                    refine lv_goto (tgt := 490) hx hb dX5_service_375 (by decide) ?_
                    exact g_endUv (Pic := (fun u => mB D ad ca u.1 u.2)) (u := (K, d24)) hF hQ hr hP hS dX5_service_490
                · replace hr := hr.trans (if_neg c_352)
                  refine lv_lload hx hb dX5_service_355 (lv_at hl 3 rfl) ?_
                  refine lv_goto (tgt := 374) hx hb dX5_service_357 (by decide) ?_
                  refine ms_7 hx hb hK hI hP hS (show ¬ ((0 : Int32) < 0 ∨ 16 ≤ (0 : Int32).toNatClampNeg) by decide) dX5_service_374 (fun d25 ed25 H locs hP hS => ?_)
                  replace hr := hr.trans (bnd_eq ed25)
                  refine lv_goto (tgt := 490) hx hb dX5_service_375 (by decide) ?_
                  exact g_endUv (Pic := (fun u => mB D ad ca u.1 u.2)) (u := (K, d25)) hF hQ hr hP hS dX5_service_490
              replace hr := eb19
              refine lq_ge (tgt := 345) hx hb dX5_service_295 dX5_service_296 (by decide) (fun c_295 => ?_) (fun c_295 => ?_)
              · replace hr := hr.trans (if_pos c_295)
                exact kb19F (by rw [hr]; decide)
              · replace hr := hr.trans (if_neg c_295)
                refine lv_iload hx hb dX5_service_299 (lv_at hl 1 rfl) ?_
                refine lv_if_eq (tgt := 345) hx hb dX5_service_301 (by decide) (fun c_301 => ?_) (fun c_301 => ?_)
                · replace hr := hr.trans (if_pos c_301)
                  exact kb19F (by rw [hr]; decide)
                · replace hr := hr.trans (if_neg c_301)
                  exact kb19T hr
          exact lp290 (mS (0 : Int32) v6 + 1) (0 : Int32) d2 _ _ ls (Nat.lt_succ_self _) (by decide) (Int.add_zero _ ▸ rfl) hr hP hS (lv_sub hl [0, 1, 2, 3, 4, 5, 6, 7] rfl)
        replace hr := ep18
        refine lv_if_eq (tgt := 284) hx hb dX5_service_265 (by decide) (fun c_265 => ?_) (fun c_265 => ?_)
        · replace hr := hr.trans (if_pos c_265)
          refine lv_iconst (v := (0 : Int32)) hx hb dX5_service_284 ic_0 ?_
          subst hr
          exact kp18 _ _ ls hP hS (lv_sub hl [0, 1, 2, 3, 4, 5] rfl)
        · replace hr := hr.trans (if_neg c_265)
          refine lv_aload_n hx hb dX5_service_268 rfl (lv_at hl 5 rfl) ?_
          refine lv_lload hx hb dX5_service_269 (lv_at hl 2 rfl) ?_
          refine lv_lload hx hb dX5_service_271 (lv_at hl 1 rfl) ?_
          refine lv_iconst (v := (0 : Int32)) hx hb dX5_service_273 ic_0 ?_
          refine g_RV (As := [.long v5, .long v6, .int (b2i false)]) (rest := []) hC (m_X5_may (K := K) (d := d2) v5 v6 false _ rfl) (cwV 3 hts cw_X5_313 rfl rfl rfl hd_X5_may ⟨Nat.le_of_ble_eq_true rfl, Nat.le_of_ble_eq_true rfl⟩) mKst (va_recv hK hP (ci := 5) (q0 := 0) rfl rfl) hP hKp ⟨Nat.zero_le _, Nat.zero_le _⟩ rfl hl.1 rfl (Nat.le_of_ble_eq_true rfl) dX5_service_274 ?_
          refine lv_if_eq (tgt := 284) hx hb dX5_service_277 (by decide) (fun c_277 => ?_) (fun c_277 => ?_)
          · replace hr := hr.trans (if_pos c_277)
            refine lv_iconst (v := (0 : Int32)) hx hb dX5_service_284 ic_0 ?_
            subst hr
            exact kp18 _ _ ls hP hS (lv_sub hl [0, 1, 2, 3, 4, 5] rfl)
          · replace hr := hr.trans (if_neg c_277)
            refine lv_iconst (v := (1 : Int32)) hx hb dX5_service_280 ic_1 ?_
            refine lv_goto (tgt := 285) hx hb dX5_service_281 (by decide) ?_
            subst hr
            exact kp18 _ _ ls hP hS (lv_sub hl [0, 1, 2, 3, 4, 5] rfl)
      replace hr := ep17
      refine lq_lt (tgt := 260) hx hb dX5_service_237 dX5_service_238 (by decide) (fun c_237 => ?_) (fun c_237 => ?_)
      · replace hr := hr.trans (if_pos c_237)
        refine lv_iconst (v := (0 : Int32)) hx hb dX5_service_260 ic_0 ?_
        subst hr
        exact kp17 _ _ ls hP hS (lv_sub hl [0, 1, 2, 3, 4] rfl)
      · replace hr := hr.trans (if_neg c_237)
        refine lv_lload hx hb dX5_service_241 (lv_at hl 0 rfl) ?_
        refine lv_ldc2 hx hb hown (hts _ q905) dX5_service_243 ?_
        refine lv_aload_n hx hb dX5_service_246 rfl (lv_at hl 4 rfl) ?_
        refine mg_0_15 hx hb hts hown hK hP (hts _ q686) dX5_service_247 ?_
        refine lv_i2l (v := (dm_shownSize d2).toInt64) hx hb dX5_service_250 rfl ?_
        refine lv_lsub hx hb dX5_service_251 ?_
        refine lq_gt (tgt := 260) hx hb dX5_service_252 dX5_service_253 (by decide) (fun c_252 => ?_) (fun c_252 => ?_)
        · replace hr := hr.trans (if_pos c_252)
          refine lv_iconst (v := (0 : Int32)) hx hb dX5_service_260 ic_0 ?_
          subst hr
          exact kp17 _ _ ls hP hS (lv_sub hl [0, 1, 2, 3, 4] rfl)
        · replace hr := hr.trans (if_neg c_252)
          refine lv_iconst (v := (1 : Int32)) hx hb dX5_service_256 ic_1 ?_
          refine lv_goto (tgt := 261) hx hb dX5_service_257 (by decide) ?_
          subst hr
          exact kp17 _ _ ls hP hS (lv_sub hl [0, 1, 2, 3, 4] rfl)
  · replace hr := hr.trans (if_pos c_55)
    refine lv_lload hx hb dX5_service_59 (lv_at hl 0 rfl) ?_
    refine lv_lconst (v := (0 : Int64)) hx hb dX5_service_61 lc_0 ?_
    obtain ⟨p26, ep26⟩ : ∃ z : Int32, z = (if v6 < (0 : Int64) then (dm_givenSize d2) else (if v6 ≤ ((dm_givenSize d2).toInt64) then (v6.toInt32) else (dm_givenSize d2))) := ⟨_, rfl⟩
    replace hr := hr.trans (bnd_eq ep26)
    have kp26 : ∀ (H : Heap) (locs : List Loc) (ls : Array Slot), va_P D xcl (MW ad ca K d2) H → va_S (mA ad) s.heap H locs → lv_has ls 12 [(7, .long v6), (5, .long v5), (3, .long v4), (1, .long v3), (0, .ref (ad 0))] → W p l e rm_X5_service s m args below meth c H locs 0 0 Q (F0 m 87 ls [.int p26]) := by
      intro H locs ls hP hS hl
      refine lv_istore (lv' := [(9, .int p26), (7, .long v6), (5, .long v5), (3, .long v4), (1, .long v3), (0, .ref (ad 0))]) hx hb dX5_service_87 hl (by decide) rfl (fun ls hl => ?_)
      refine lv_aload_n hx hb dX5_service_89 rfl (lv_at hl 5 rfl) ?_
      refine lv_lload hx hb dX5_service_90 (lv_at hl 2 rfl) ?_
      refine lv_iload hx hb dX5_service_92 (lv_at hl 0 rfl) ?_
      refine lv_i2l (v := p26.toInt64) hx hb dX5_service_94 rfl ?_
      refine lv_iconst (v := (1 : Int32)) hx hb dX5_service_95 ic_1 ?_
      refine g_RV (As := [.long v5, .long (p26.toInt64), .int (b2i true)]) (rest := []) hC (m_X5_may (K := K) (d := d2) v5 (p26.toInt64) true _ rfl) (cwV 3 hts cw_X5_313 rfl rfl rfl hd_X5_may ⟨Nat.le_of_ble_eq_true rfl, Nat.le_of_ble_eq_true rfl⟩) mKst (va_recv hK hP (ci := 5) (q0 := 0) rfl rfl) hP hKp ⟨Nat.zero_le _, Nat.zero_le _⟩ rfl hl.1 rfl (Nat.le_of_ble_eq_true rfl) dX5_service_96 ?_
      obtain ⟨b27, eb27⟩ : ∃ z : Bool, z = (m_may K v5 (p26.toInt64) true) := ⟨_, rfl⟩
      rw [← eb27]
      replace hr := hr.trans (bnd_eq eb27)
      refine lv_istore (lv' := [(10, .int (b2i b27)), (9, .int p26), (7, .long v6), (5, .long v5), (3, .long v4), (1, .long v3), (0, .ref (ad 0))]) hx hb dX5_service_99 hl (by decide) rfl (fun ls hl => ?_)
      refine lv_iconst (v := (0 : Int32)) hx hb dX5_service_101 ic_0 ?_
      refine lv_istore (lv' := [(11, .int (0 : Int32)), (10, .int (b2i b27)), (9, .int p26), (7, .long v6), (5, .long v5), (3, .long v4), (1, .long v3), (0, .ref (ad 0))]) hx hb dX5_service_102 hl (by decide) rfl (fun ls hl => ?_)
      have lp104 : ∀ (n : Nat) (w104_11 : Int32) (dl104 : MD) (H : Heap) (locs : List Loc) (ls : Array Slot), mI w104_11 p26 < n → (0 ≤ w104_11) → ((dm_givenSize dl104).toInt ≤ 65536) → RES = m_service_L104 K v5 p26 b27 n w104_11 dl104 → va_P D xcl (MW ad ca K dl104) H → va_S (mA ad) s.heap H locs → lv_has ls 12 [(11, .int w104_11), (10, .int (b2i b27)), (9, .int p26), (7, .long v6), (5, .long v5), (3, .long v4), (1, .long v3), (0, .ref (ad 0))] → W p l e rm_X5_service s m args below meth c H locs 0 0 Q (F0 m 104 ls []) := by
        intro n
        induction n with
        | zero =>
          intro w104_11 dl104 H locs ls hm
          exact absurd hm (Nat.not_lt_zero _)
        | succ n ih =>
          intro w104_11 dl104 H locs ls hm h0 h2 hr hP hS hl
          replace hr := hr.trans (m_service_L104_s K v5 p26 b27 n w104_11 dl104)
          refine lv_iload hx hb dX5_service_104 (lv_at hl 0 rfl) ?_
          refine lv_iload hx hb dX5_service_106 (lv_at hl 2 rfl) ?_
          obtain ⟨b28, eb28⟩ : ∃ z : Bool, z = (if p26 ≤ w104_11 then false else (if (b2i b27) = 0 then false else true)) := ⟨_, rfl⟩
          replace hr := hr.trans (bnd_eq eb28)
          have kb28T : b28 = true → W p l e rm_X5_service s m args below meth c H locs 0 0 Q (F0 m 116 ls []) := by
            intro hb28
            replace hr := hr.trans (if_pos hb28)
            have er := eb28
            have c_108 : ¬ (p26 ≤ w104_11) := fun q => absurd (hb28.symm.trans (er.trans (if_pos q))) (by decide)
            have er := er.trans (if_neg c_108)
            have c_113 : ¬ ((b2i b27) = 0) := fun q => absurd (hb28.symm.trans (er.trans (if_pos q))) (by decide)
            have er := er.trans (if_neg c_113)
            clear er
            refine lv_aload_n hx hb dX5_service_116 rfl (lv_at hl 7 rfl) ?_
            refine lv_aload_n hx hb dX5_service_117 rfl (lv_at hl 7 rfl) ?_
            refine lv_lload hx hb dX5_service_118 (lv_at hl 4 rfl) ?_
            refine lv_iload hx hb dX5_service_120 (lv_at hl 0 rfl) ?_
            refine lv_i2l (v := w104_11.toInt64) hx hb dX5_service_122 rfl ?_
            refine lv_ladd hx hb dX5_service_123 ?_
            refine lv_iconst (v := (1 : Int32)) hx hb dX5_service_124 ic_1 ?_
            refine g_RV (As := [.long (v5 + (w104_11.toInt64)), .int (b2i true)]) (rest := [.ref (ad 0)]) hC (m_X5_find (K := K) (d := dl104) (v5 + (w104_11.toInt64)) true _ rfl) (cwV 2 hts cw_X5_176 rfl rfl rfl hd_X5_find ⟨Nat.le_of_ble_eq_true rfl, Nat.le_of_ble_eq_true rfl⟩) mKst (va_recv hK hP (ci := 5) (q0 := 0) rfl rfl) hP hKp ⟨Nat.zero_le _, Nat.zero_le _⟩ rfl hl.1 rfl (Nat.le_of_ble_eq_true rfl) dX5_service_125 ?_
            refine lv_aload_n hx hb dX5_service_128 rfl (lv_at hl 7 rfl) ?_
            refine mg_0_5 hx hb hts hown hK hP (hts _ q676) dX5_service_129 ?_
            refine lv_iload hx hb dX5_service_132 (lv_at hl 0 rfl) ?_
            refine ml_5 hx hb hK hP (i_in h0 c_108 (ri_65 (by rw [ed2, ed1]; exact hio.1) (mri_n (by rw [ed2, ed1]; exact hio.1) ep26))) dX5_service_134 ?_
            obtain ⟨g29, eg29⟩ : ∃ z, z = m_setPlace (m_find K (v5 + (w104_11.toInt64)) true) ((dm_given dl104) w104_11.toNatClampNeg) dl104 := ⟨_, rfl⟩
            replace hr := hr.trans (bnd_eq eg29)
            refine g_UV0 (As := [.int (m_find K (v5 + (w104_11.toInt64)) true), .int ((dm_given dl104) w104_11.toNatClampNeg)]) (rest := []) hC (m_X5_setPlace hI (K := K) (d := dl104) (m_find K (v5 + (w104_11.toInt64)) true) ((dm_given dl104) w104_11.toNatClampNeg) g29 eg29 (m_find_in hlay (m_may_i eb27 c_113 h0 c_108))) (cwV 2 hts cw_X5_188 rfl rfl rfl hd_X5_setPlace ⟨Nat.le_of_ble_eq_true rfl, Nat.le_of_ble_eq_true rfl⟩) mKst (va_recv hK hP (ci := 5) (q0 := 0) rfl rfl) hP hKp ⟨Nat.zero_le _, Nat.zero_le _⟩ hS (fun _ h => h) rfl hl.1 rfl (Nat.le_of_ble_eq_true rfl) dX5_service_135 (fun H locs hP hS => ?_)
            have hP : va_P D xcl (MW ad ca K g29) H := hP
            obtain ⟨v30, ev30⟩ : ∃ z : Int32, z = (w104_11 + (1 : Int32)) := ⟨_, rfl⟩
            replace hr := hr.trans (bnd_eq ev30)
            refine lv_iinc (v := v30) (lv' := [(11, .int v30), (10, .int (b2i b27)), (9, .int p26), (7, .long v6), (5, .long v5), (3, .long v4), (1, .long v3), (0, .ref (ad 0))]) hx hb dX5_service_138 hl (k := 0) rfl (by rw [ev30, ← ic_1]) (by decide) rfl (fun ls hl => ?_)
            refine lv_goto (tgt := 104) hx hb dX5_service_141 (by decide) ?_
            exact ih v30 g29 _ _ ls (mI_dec c_108 hm ev30) (i_nn h0 c_108 ev30) (by rw [eg29, m_sp_gs]; exact h2) hr hP hS (lv_sub hl [0, 1, 2, 3, 4, 5, 6, 7] rfl)
          have kb28F : ¬ b28 = true → W p l e rm_X5_service s m args below meth c H locs 0 0 Q (F0 m 144 ls []) := by
            intro hb28
            replace hr := hr.trans (if_neg hb28)
            refine lv_iload hx hb dX5_service_144 (lv_at hl 2 rfl) ?_
            refine lv_istore (lv' := [(11, .int p26), (10, .int (b2i b27)), (9, .int p26), (7, .long v6), (5, .long v5), (3, .long v4), (1, .long v3), (0, .ref (ad 0))]) hx hb dX5_service_146 hl (by decide) rfl (fun ls hl => ?_)
            have lp148 : ∀ (n : Nat) (w148_11 : Int32) (dl148 : MD) (H : Heap) (locs : List Loc) (ls : Array Slot), mI w148_11 (dm_givenSize dl148) < n → (p26 ≤ w148_11) → ((dm_givenSize dl148).toInt ≤ 65536) → RES = m_service_L148 K p26 b27 n w148_11 dl148 → va_P D xcl (MW ad ca K dl148) H → va_S (mA ad) s.heap H locs → lv_has ls 12 [(11, .int w148_11), (10, .int (b2i b27)), (9, .int p26), (7, .long v6), (5, .long v5), (3, .long v4), (1, .long v3), (0, .ref (ad 0))] → W p l e rm_X5_service s m args below meth c H locs 0 0 Q (F0 m 148 ls []) := by
              intro n
              induction n with
              | zero =>
                intro w148_11 dl148 H locs ls hm
                exact absurd hm (Nat.not_lt_zero _)
              | succ n ih =>
                intro w148_11 dl148 H locs ls hm h3 h4 hr hP hS hl
                replace hr := hr.trans (m_service_L148_s K p26 b27 n w148_11 dl148)
                refine lv_iload hx hb dX5_service_148 (lv_at hl 0 rfl) ?_
                refine lv_aload_n hx hb dX5_service_150 rfl (lv_at hl 7 rfl) ?_
                refine mg_0_14 hx hb hts hown hK hP (hts _ q685) dX5_service_151 ?_
                obtain ⟨b31, eb31⟩ : ∃ z : Bool, z = (if (dm_givenSize dl148) ≤ w148_11 then false else (if (b2i b27) = 0 then false else true)) := ⟨_, rfl⟩
                replace hr := hr.trans (bnd_eq eb31)
                have kb31T : b31 = true → W p l e rm_X5_service s m args below meth c H locs 0 0 Q (F0 m 162 ls []) := by
                  intro hb31
                  replace hr := hr.trans (if_pos hb31)
                  have er := eb31
                  have c_154 : ¬ ((dm_givenSize dl148) ≤ w148_11) := fun q => absurd (hb31.symm.trans (er.trans (if_pos q))) (by decide)
                  have er := er.trans (if_neg c_154)
                  have c_159 : ¬ ((b2i b27) = 0) := fun q => absurd (hb31.symm.trans (er.trans (if_pos q))) (by decide)
                  have er := er.trans (if_neg c_159)
                  clear er
                  refine lv_aload_n hx hb dX5_service_162 rfl (lv_at hl 7 rfl) ?_
                  refine mg_0_5 hx hb hts hown hK hP (hts _ q676) dX5_service_163 ?_
                  refine lv_iload hx hb dX5_service_166 (lv_at hl 0 rfl) ?_
                  refine lv_iload hx hb dX5_service_168 (lv_at hl 2 rfl) ?_
                  refine lv_isub hx hb dX5_service_170 ?_
                  refine lv_aload_n hx hb dX5_service_171 rfl (lv_at hl 7 rfl) ?_
                  refine mg_0_5 hx hb hts hown hK hP (hts _ q676) dX5_service_172 ?_
                  refine lv_iload hx hb dX5_service_175 (lv_at hl 0 rfl) ?_
                  refine ml_5 hx hb hK hP (dr_1 (mri_n (by rw [ed2, ed1]; exact hio.1) ep26).1 h3 c_154 h4) dX5_service_177 ?_
                  refine ms_5 hx hb hK hI hP hS (dr_2 (mri_n (by rw [ed2, ed1]; exact hio.1) ep26).1 h3 c_154 h4) dX5_service_178 (fun d32 ed32 H locs hP hS => ?_)
                  replace hr := hr.trans (bnd_eq ed32)
                  obtain ⟨v33, ev33⟩ : ∃ z : Int32, z = (w148_11 + (1 : Int32)) := ⟨_, rfl⟩
                  replace hr := hr.trans (bnd_eq ev33)
                  refine lv_iinc (v := v33) (lv' := [(11, .int v33), (10, .int (b2i b27)), (9, .int p26), (7, .long v6), (5, .long v5), (3, .long v4), (1, .long v3), (0, .ref (ad 0))]) hx hb dX5_service_179 hl (k := 0) rfl (by rw [ev33, ← ic_1]) (by decide) rfl (fun ls hl => ?_)
                  refine lv_goto (tgt := 148) hx hb dX5_service_182 (by decide) ?_
                  exact ih v33 d32 _ _ ls (by rw [ed32]; exact mI_dec c_154 hm ev33) (i_le_s h3 c_154 ev33) (by rw [ed32]; exact h4) hr hP hS (lv_sub hl [0, 1, 2, 3, 4, 5, 6, 7] rfl)
                have kb31F : ¬ b31 = true → W p l e rm_X5_service s m args below meth c H locs 0 0 Q (F0 m 185 ls []) := by
                  intro hb31
                  replace hr := hr.trans (if_neg hb31)
                  refine lv_aload_n hx hb dX5_service_185 rfl (lv_at hl 7 rfl) ?_
                  refine lv_dup hx hb dX5_service_186 rfl ?_
                  refine mg_0_14 hx hb hts hown hK hP (hts _ q685) dX5_service_187 ?_
                  refine lv_iload hx hb dX5_service_190 (lv_at hl 1 rfl) ?_
                  obtain ⟨p34, ep34⟩ : ∃ z : Int32, z = (if (b2i b27) = 0 then (0 : Int32) else p26) := ⟨_, rfl⟩
                  replace hr := hr.trans (bnd_eq ep34)
                  have kp34 : ∀ (H : Heap) (locs : List Loc) (ls : Array Slot), va_P D xcl (MW ad ca K dl148) H → va_S (mA ad) s.heap H locs → lv_has ls 12 [(11, .int w148_11), (10, .int (b2i b27)), (9, .int p26), (7, .long v6), (5, .long v5), (3, .long v4), (1, .long v3), (0, .ref (ad 0))] → W p l e rm_X5_service s m args below meth c H locs 0 0 Q (F0 m 201 ls [.int p34, .int (dm_givenSize dl148), .ref (ad 0)]) := by
                    intro H locs ls hP hS hl
                    refine lv_isub hx hb dX5_service_201 ?_
                    refine mp_0_14 (v := ((dm_givenSize dl148) - p34)) hx hb hts hown hK hI hP hS (hts _ q685) dX5_service_202 (fun d35 ed35 H locs hP hS => ?_)
                    replace hr := hr.trans (bnd_eq ed35)
                    refine lv_aload_n hx hb dX5_service_205 rfl (lv_at hl 7 rfl) ?_
                    refine mg_0_16 hx hb hts hown hK hP (hts _ q687) dX5_service_206 ?_
                    refine lv_iconst (v := (0 : Int32)) hx hb dX5_service_209 ic_0 ?_
                    refine lv_iload hx hb dX5_service_210 (lv_at hl 1 rfl) ?_
                    refine lv_if_eq (tgt := 221) hx hb dX5_service_212 (by decide) (fun c_212 => ?_) (fun c_212 => ?_)
                    · replace hr := hr.trans (if_pos c_212)
                      refine lv_ldc2 hx hb hown (hts _ q1025) dX5_service_221 ?_
                      refine ms_7 hx hb hK hI hP hS (show ¬ ((0 : Int32) < 0 ∨ 16 ≤ (0 : Int32).toNatClampNeg) by decide) dX5_service_224 (fun d36 ed36 H locs hP hS => ?_)
                      replace hr := hr.trans (bnd_eq ed36)
                      refine lv_goto (tgt := 490) hx hb dX5_service_225 (by decide) ?_
                      exact g_endUv (Pic := (fun u => mB D ad ca u.1 u.2)) (u := (K, d36)) hF hQ hr hP hS dX5_service_490
                    · replace hr := hr.trans (if_neg c_212)
                      refine lv_iload hx hb dX5_service_215 (lv_at hl 2 rfl) ?_
                      refine lv_i2l (v := p26.toInt64) hx hb dX5_service_217 rfl ?_
                      refine lv_goto (tgt := 224) hx hb dX5_service_218 (by decide) ?_
                      refine ms_7 hx hb hK hI hP hS (show ¬ ((0 : Int32) < 0 ∨ 16 ≤ (0 : Int32).toNatClampNeg) by decide) dX5_service_224 (fun d37 ed37 H locs hP hS => ?_)
                      replace hr := hr.trans (bnd_eq ed37)
                      refine lv_goto (tgt := 490) hx hb dX5_service_225 (by decide) ?_
                      exact g_endUv (Pic := (fun u => mB D ad ca u.1 u.2)) (u := (K, d37)) hF hQ hr hP hS dX5_service_490
                  replace hr := ep34
                  refine lv_if_eq (tgt := 200) hx hb dX5_service_192 (by decide) (fun c_192 => ?_) (fun c_192 => ?_)
                  · replace hr := hr.trans (if_pos c_192)
                    refine lv_iconst (v := (0 : Int32)) hx hb dX5_service_200 ic_0 ?_
                    subst hr
                    exact kp34 _ _ ls hP hS (lv_sub hl [0, 1, 2, 3, 4, 5, 6, 7] rfl)
                  · replace hr := hr.trans (if_neg c_192)
                    refine lv_iload hx hb dX5_service_195 (lv_at hl 2 rfl) ?_
                    refine lv_goto (tgt := 201) hx hb dX5_service_197 (by decide) ?_
                    subst hr
                    exact kp34 _ _ ls hP hS (lv_sub hl [0, 1, 2, 3, 4, 5, 6, 7] rfl)
                replace hr := eb31
                refine lv_icmp_ge (tgt := 185) hx hb dX5_service_154 (by decide) (fun c_154 => ?_) (fun c_154 => ?_)
                · replace hr := hr.trans (if_pos c_154)
                  exact kb31F (by rw [hr]; decide)
                · replace hr := hr.trans (if_neg c_154)
                  refine lv_iload hx hb dX5_service_157 (lv_at hl 1 rfl) ?_
                  refine lv_if_eq (tgt := 185) hx hb dX5_service_159 (by decide) (fun c_159 => ?_) (fun c_159 => ?_)
                  · replace hr := hr.trans (if_pos c_159)
                    exact kb31F (by rw [hr]; decide)
                  · replace hr := hr.trans (if_neg c_159)
                    exact kb31T hr
            exact lp148 (mI p26 (dm_givenSize dl104) + 1) p26 dl104 _ _ ls (Nat.lt_succ_self _) (Int32.le_refl _) (h2) hr hP hS (lv_sub hl [0, 1, 2, 3, 4, 5, 6, 7] rfl)
          replace hr := eb28
          refine lv_icmp_ge (tgt := 144) hx hb dX5_service_108 (by decide) (fun c_108 => ?_) (fun c_108 => ?_)
          · replace hr := hr.trans (if_pos c_108)
            exact kb28F (by rw [hr]; decide)
          · replace hr := hr.trans (if_neg c_108)
            refine lv_iload hx hb dX5_service_111 (lv_at hl 1 rfl) ?_
            refine lv_if_eq (tgt := 144) hx hb dX5_service_113 (by decide) (fun c_113 => ?_) (fun c_113 => ?_)
            · replace hr := hr.trans (if_pos c_113)
              exact kb28F (by rw [hr]; decide)
            · replace hr := hr.trans (if_neg c_113)
              exact kb28T hr
      exact lp104 (mI (0 : Int32) p26 + 1) (0 : Int32) d2 _ _ ls (Nat.lt_succ_self _) (by decide) (by rw [ed2, ed1]; exact hio.1.2) hr hP hS (lv_sub hl [0, 1, 2, 3, 4, 5, 6, 7] rfl)
    replace hr := ep26
    refine lq_lt (tgt := 77) hx hb dX5_service_62 dX5_service_63 (by decide) (fun c_62 => ?_) (fun c_62 => ?_)
    · replace hr := hr.trans (if_pos c_62)
      refine lv_aload_n hx hb dX5_service_77 rfl (lv_at hl 4 rfl) ?_
      refine mg_0_14 hx hb hts hown hK hP (hts _ q685) dX5_service_78 ?_
      refine lv_goto (tgt := 87) hx hb dX5_service_81 (by decide) ?_
      subst hr
      exact kp26 _ _ ls hP hS (lv_sub hl [0, 1, 2, 3, 4] rfl)
    · replace hr := hr.trans (if_neg c_62)
      refine lv_lload hx hb dX5_service_66 (lv_at hl 0 rfl) ?_
      refine lv_aload_n hx hb dX5_service_68 rfl (lv_at hl 4 rfl) ?_
      refine mg_0_14 hx hb hts hown hK hP (hts _ q685) dX5_service_69 ?_
      refine lv_i2l (v := (dm_givenSize d2).toInt64) hx hb dX5_service_72 rfl ?_
      refine lq_le (tgt := 84) hx hb dX5_service_73 dX5_service_74 (by decide) (fun c_73 => ?_) (fun c_73 => ?_)
      · replace hr := hr.trans (if_pos c_73)
        refine lv_lload hx hb dX5_service_84 (lv_at hl 0 rfl) ?_
        refine lv_l2i (v := v6.toInt32) hx hb dX5_service_86 rfl ?_
        subst hr
        exact kp26 _ _ ls hP hS (lv_sub hl [0, 1, 2, 3, 4] rfl)
      · replace hr := hr.trans (if_neg c_73)
        refine lv_aload_n hx hb dX5_service_77 rfl (lv_at hl 4 rfl) ?_
        refine mg_0_14 hx hb hts hown hK hP (hts _ q685) dX5_service_78 ?_
        refine lv_goto (tgt := 87) hx hb dX5_service_81 (by decide) ?_
        subst hr
        exact kp26 _ _ ls hP hS (lv_sub hl [0, 1, 2, 3, 4] rfl)
