def m_byteAtPlace (p_ : Int32) (d : MD) : Int32 := if (1048576 : Int32) ≤ p_ then (if (2097152 : Int32) ≤ p_ then (((dm_stack d) (p_ &&& (65535 : Int32)).toNatClampNeg) &&& (255 : Int32)) else (((dm_heap d) (p_ &&& (65535 : Int32)).toNatClampNeg) &&& (255 : Int32))) else (((dm_memory d) p_.toNatClampNeg) &&& (255 : Int32))
abbrev rm_X5_byteAtPlace : Room := { frames := 0, cells := 0, slots := 0, locals := 0 }
set_option maxHeartbeats 4000000 in
set_option maxRecDepth 100000 in
theorem m_X5_byteAtPlace {l : Launch} {D : va_G} {ad : Nat → Nat} {ca : Nat → ClassId} {K : MK} {d : MD} (p_ : Int32) (RES : Int32) (hr : RES = m_byteAtPlace p_ d) (hp : ¬ (1048576 : Int32) ≤ p_ → vp_in p_ 262144) : g_R l yX5_byteAtPlace (ws_ yX5_byteAtPlace cX5_byteAtPlace 2 (some .int)) rm_X5_byteAtPlace [.ref (ad 0), .int p_] (mKp D ca) (mB D ad ca K d) (.int RES) := by
  refine g_ofR (by decide) (Nat.le_of_ble_eq_true rfl) ?_
  intro p e s m args below meth c ls Q hF hB hKp hl hQ
  obtain ⟨hx, hb, -, -, hml, hown, hts⟩ := id hF
  have hown : s.vm.findClass RX5 = some m.cls := hown
  have hC : CallFix p m c cX5_byteAtPlace 2 s args lw_all RX5 := ⟨hx, hb, hml, hown, hts⟩
  have hK : va_K D xcl (mtys ca) s := hKp
  have hP : va_P D xcl (MW ad ca K d) s.heap := hB
  have hl : lv_has ls 2 [(0, .ref (ad 0)), (1, .int p_)] := hl
  unfold m_byteAtPlace at hr
  refine lv_iload_n hx hb dX5_byteAtPlace_0 rfl (lv_at hl 1 rfl) ?_
  refine lv_ldc hx hb hown (hts _ q903) dX5_byteAtPlace_1 ?_
  refine lv_icmp_ge (tgt := 15) hx hb dX5_byteAtPlace_3 (by decide) (fun c_3 => ?_) (fun c_3 => ?_)
  · replace hr := hr.trans (if_pos c_3)
    refine lv_iload_n hx hb dX5_byteAtPlace_15 rfl (lv_at hl 1 rfl) ?_
    refine lv_ldc hx hb hown (hts _ q906) dX5_byteAtPlace_16 ?_
    refine lv_icmp_ge (tgt := 33) hx hb dX5_byteAtPlace_18 (by decide) (fun c_18 => ?_) (fun c_18 => ?_)
    · replace hr := hr.trans (if_pos c_18)
      refine lv_aload_n hx hb dX5_byteAtPlace_33 rfl (lv_at hl 0 rfl) ?_
      refine mg_0_4 hx hb hts hown hK hP (hts _ q675) dX5_byteAtPlace_34 ?_
      refine lv_iload_n hx hb dX5_byteAtPlace_37 rfl (lv_at hl 1 rfl) ?_
      refine lv_ldc hx hb hown (hts _ q915) dX5_byteAtPlace_38 ?_
      refine lv_iand hx hb dX5_byteAtPlace_40 ?_
      refine ml_4 hx hb hK hP (m_and_in _) dX5_byteAtPlace_41 ?_
      refine lv_sipush (v := (255 : Int32)) hx hb dX5_byteAtPlace_42 sp_255 ?_
      refine lv_iand hx hb dX5_byteAtPlace_45 ?_
      exact g_endRi hF hQ hr dX5_byteAtPlace_46
    · replace hr := hr.trans (if_neg c_18)
      refine lv_aload_n hx hb dX5_byteAtPlace_21 rfl (lv_at hl 0 rfl) ?_
      refine mg_0_3 hx hb hts hown hK hP (hts _ q674) dX5_byteAtPlace_22 ?_
      refine lv_iload_n hx hb dX5_byteAtPlace_25 rfl (lv_at hl 1 rfl) ?_
      refine lv_ldc hx hb hown (hts _ q915) dX5_byteAtPlace_26 ?_
      refine lv_iand hx hb dX5_byteAtPlace_28 ?_
      refine ml_3 hx hb hK hP (m_and_in _) dX5_byteAtPlace_29 ?_
      refine lv_goto (tgt := 42) hx hb dX5_byteAtPlace_30 (by decide) ?_
      refine lv_sipush (v := (255 : Int32)) hx hb dX5_byteAtPlace_42 sp_255 ?_
      refine lv_iand hx hb dX5_byteAtPlace_45 ?_
      exact g_endRi hF hQ hr dX5_byteAtPlace_46
  · replace hr := hr.trans (if_neg c_3)
    refine lv_aload_n hx hb dX5_byteAtPlace_6 rfl (lv_at hl 0 rfl) ?_
    refine mg_0_2 hx hb hts hown hK hP (hts _ q673) dX5_byteAtPlace_7 ?_
    refine lv_iload_n hx hb dX5_byteAtPlace_10 rfl (lv_at hl 1 rfl) ?_
    refine ml_2 hx hb hK hP (hp c_3) dX5_byteAtPlace_11 ?_
    refine lv_goto (tgt := 42) hx hb dX5_byteAtPlace_12 (by decide) ?_
    refine lv_sipush (v := (255 : Int32)) hx hb dX5_byteAtPlace_42 sp_255 ?_
    refine lv_iand hx hb dX5_byteAtPlace_45 ?_
    exact g_endRi hF hQ hr dX5_byteAtPlace_46
def m_setPlace (p_ : Int32) (v : Int32) (d : MD) : MD := if (1048576 : Int32) ≤ p_ then (if (2097152 : Int32) ≤ p_ then (bnd (dm_stack_ (upd (dm_stack d) (p_ &&& (65535 : Int32)).toNatClampNeg (vp_nar .byte (v.toInt8.toInt32))) d) fun d1 => d1) else (bnd (dm_heap_ (upd (dm_heap d) (p_ &&& (65535 : Int32)).toNatClampNeg (vp_nar .byte (v.toInt8.toInt32))) d) fun d2 => d2)) else (bnd (dm_memory_ (upd (dm_memory d) p_.toNatClampNeg (vp_nar .byte (v.toInt8.toInt32))) d) fun d3 => d3)
abbrev rm_X5_setPlace : Room := { frames := 0, cells := 0, slots := 0, locals := 0 }
set_option maxHeartbeats 4000000 in
set_option maxRecDepth 100000 in
theorem m_X5_setPlace {l : Launch} {D : va_G} {ad : Nat → Nat} {ca : Nat → ClassId} (hI : mInj ad) {K : MK} {d : MD} (p_ : Int32) (v : Int32) (RES : MD) (hr : RES = m_setPlace p_ v d) (hp : ¬ (1048576 : Int32) ≤ p_ → vp_in p_ 262144) : g_U l yX5_setPlace (ws_ yX5_setPlace cX5_setPlace 3 none) rm_X5_setPlace [.ref (ad 0), .int p_, .int v] (mKp D ca) (mB D ad ca K d) none (mB D ad ca K RES) (mA ad) := by
  refine g_ofU (by decide) (Nat.le_of_ble_eq_true rfl) ?_
  intro p e s m args below meth c ls Q hF hB hKp hl hQ
  obtain ⟨hx, hb, -, -, hml, hown, hts⟩ := id hF
  have hown : s.vm.findClass RX5 = some m.cls := hown
  have hC : CallFix p m c cX5_setPlace 3 s args lw_all RX5 := ⟨hx, hb, hml, hown, hts⟩
  have hK : va_K D xcl (mtys ca) s := hKp
  have hP : va_P D xcl (MW ad ca K d) s.heap := hB
  have hS : va_S (mA ad) s.heap s.heap [] := va_S.rf
  have hl : lv_has ls 3 [(0, .ref (ad 0)), (1, .int p_), (2, .int v)] := hl
  unfold m_setPlace at hr
  refine lv_iload_n hx hb dX5_setPlace_0 rfl (lv_at hl 1 rfl) ?_
  refine lv_ldc hx hb hown (hts _ q903) dX5_setPlace_1 ?_
  refine lv_icmp_ge (tgt := 17) hx hb dX5_setPlace_3 (by decide) (fun c_3 => ?_) (fun c_3 => ?_)
  · replace hr := hr.trans (if_pos c_3)
    refine lv_iload_n hx hb dX5_setPlace_17 rfl (lv_at hl 1 rfl) ?_
    refine lv_ldc hx hb hown (hts _ q906) dX5_setPlace_18 ?_
    refine lv_icmp_ge (tgt := 37) hx hb dX5_setPlace_20 (by decide) (fun c_20 => ?_) (fun c_20 => ?_)
    · replace hr := hr.trans (if_pos c_20)
      refine lv_aload_n hx hb dX5_setPlace_37 rfl (lv_at hl 0 rfl) ?_
      refine mg_0_4 hx hb hts hown hK hP (hts _ q675) dX5_setPlace_38 ?_
      refine lv_iload_n hx hb dX5_setPlace_41 rfl (lv_at hl 1 rfl) ?_
      refine lv_ldc hx hb hown (hts _ q915) dX5_setPlace_42 ?_
      refine lv_iand hx hb dX5_setPlace_44 ?_
      refine lv_iload_n hx hb dX5_setPlace_45 rfl (lv_at hl 2 rfl) ?_
      refine lv_i2b (v := v.toInt8.toInt32) hx hb dX5_setPlace_46 rfl ?_
      refine ms_4 hx hb hK hI hP hS (m_and_in _) dX5_setPlace_47 (fun d1 ed1 H locs hP hS => ?_)
      replace hr := hr.trans (bnd_eq ed1)
      exact g_endUv (Pic := (fun u => mB D ad ca K u)) (u := d1) hF hQ hr hP hS dX5_setPlace_48
    · replace hr := hr.trans (if_neg c_20)
      refine lv_aload_n hx hb dX5_setPlace_23 rfl (lv_at hl 0 rfl) ?_
      refine mg_0_3 hx hb hts hown hK hP (hts _ q674) dX5_setPlace_24 ?_
      refine lv_iload_n hx hb dX5_setPlace_27 rfl (lv_at hl 1 rfl) ?_
      refine lv_ldc hx hb hown (hts _ q915) dX5_setPlace_28 ?_
      refine lv_iand hx hb dX5_setPlace_30 ?_
      refine lv_iload_n hx hb dX5_setPlace_31 rfl (lv_at hl 2 rfl) ?_
      refine lv_i2b (v := v.toInt8.toInt32) hx hb dX5_setPlace_32 rfl ?_
      refine ms_3 hx hb hK hI hP hS (m_and_in _) dX5_setPlace_33 (fun d2 ed2 H locs hP hS => ?_)
      replace hr := hr.trans (bnd_eq ed2)
      refine lv_goto (tgt := 48) hx hb dX5_setPlace_34 (by decide) ?_
      exact g_endUv (Pic := (fun u => mB D ad ca K u)) (u := d2) hF hQ hr hP hS dX5_setPlace_48
  · replace hr := hr.trans (if_neg c_3)
    refine lv_aload_n hx hb dX5_setPlace_6 rfl (lv_at hl 0 rfl) ?_
    refine mg_0_2 hx hb hts hown hK hP (hts _ q673) dX5_setPlace_7 ?_
    refine lv_iload_n hx hb dX5_setPlace_10 rfl (lv_at hl 1 rfl) ?_
    refine lv_iload_n hx hb dX5_setPlace_11 rfl (lv_at hl 2 rfl) ?_
    refine lv_i2b (v := v.toInt8.toInt32) hx hb dX5_setPlace_12 rfl ?_
    refine ms_2 hx hb hK hI hP hS (hp c_3) dX5_setPlace_13 (fun d3 ed3 H locs hP hS => ?_)
    replace hr := hr.trans (bnd_eq ed3)
    refine lv_goto (tgt := 48) hx hb dX5_setPlace_14 (by decide) ?_
    exact g_endUv (Pic := (fun u => mB D ad ca K u)) (u := d3) hF hQ hr hP hS dX5_setPlace_48
def m_stopWith (what : Int32) (v : Int64) (d : MD) : MD := if (dm_halt d) = 0 then (bnd (dm_halt_ what d) fun d1 => bnd (dm_haltValue_ v d1) fun d2 => d2) else d
abbrev rm_X5_stopWith : Room := { frames := 0, cells := 0, slots := 0, locals := 0 }
set_option maxHeartbeats 4000000 in
set_option maxRecDepth 100000 in
theorem m_X5_stopWith {l : Launch} {D : va_G} {ad : Nat → Nat} {ca : Nat → ClassId} (hI : mInj ad) {K : MK} {d : MD} (what : Int32) (v : Int64) (RES : MD) (hr : RES = m_stopWith what v d) : g_U l yX5_stopWith (ws_ yX5_stopWith cX5_stopWith 4 none) rm_X5_stopWith [.ref (ad 0), .int what, .long v] (mKp D ca) (mB D ad ca K d) none (mB D ad ca K RES) (mA ad) := by
  refine g_ofU (by decide) (Nat.le_of_ble_eq_true rfl) ?_
  intro p e s m args below meth c ls Q hF hB hKp hl hQ
  obtain ⟨hx, hb, -, -, hml, hown, hts⟩ := id hF
  have hown : s.vm.findClass RX5 = some m.cls := hown
  have hC : CallFix p m c cX5_stopWith 4 s args lw_all RX5 := ⟨hx, hb, hml, hown, hts⟩
  have hK : va_K D xcl (mtys ca) s := hKp
  have hP : va_P D xcl (MW ad ca K d) s.heap := hB
  have hS : va_S (mA ad) s.heap s.heap [] := va_S.rf
  have hl : lv_has ls 4 [(0, .ref (ad 0)), (1, .int what), (2, .long v)] := hl
  unfold m_stopWith at hr
  refine lv_aload_n hx hb dX5_stopWith_0 rfl (lv_at hl 0 rfl) ?_
  refine mg_0_27 hx hb hts hown hK hP (hts _ q698) dX5_stopWith_1 ?_
  refine lv_if_eq (tgt := 8) hx hb dX5_stopWith_4 (by decide) (fun c_4 => ?_) (fun c_4 => ?_)
  · replace hr := hr.trans (if_pos c_4)
    refine lv_aload_n hx hb dX5_stopWith_8 rfl (lv_at hl 0 rfl) ?_
    refine lv_iload_n hx hb dX5_stopWith_9 rfl (lv_at hl 1 rfl) ?_
    refine mp_0_27 (v := what) hx hb hts hown hK hI hP hS (hts _ q698) dX5_stopWith_10 (fun d1 ed1 H locs hP hS => ?_)
    replace hr := hr.trans (bnd_eq ed1)
    refine lv_aload_n hx hb dX5_stopWith_13 rfl (lv_at hl 0 rfl) ?_
    refine lv_lload_n hx hb dX5_stopWith_14 rfl (lv_at hl 2 rfl) ?_
    refine mp_0_28 (v := v) hx hb hts hown hK hI hP hS (hts _ q699) dX5_stopWith_15 (fun d2 ed2 H locs hP hS => ?_)
    replace hr := hr.trans (bnd_eq ed2)
    exact g_endUv (Pic := (fun u => mB D ad ca K u)) (u := d2) hF hQ hr hP hS dX5_stopWith_18
  · replace hr := hr.trans (if_neg c_4)
    exact g_endUv (Pic := (fun u => mB D ad ca K u)) (u := d) hF hQ hr hP hS dX5_stopWith_7
