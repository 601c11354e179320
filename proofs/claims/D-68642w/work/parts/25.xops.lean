def x_fail (kd : Int32) (v : Int64) (d : XD) : XD := if (dx_stop d) = 0 then (bnd (dx_stop_ kd d) fun d1 => bnd (dx_stopValue_ v d1) fun d2 => d2) else d
abbrev rm_X2_fail : Room := { frames := 0, cells := 0, slots := 0, locals := 0 }
set_option maxHeartbeats 4000000 in
set_option maxRecDepth 100000 in
theorem m_X2_fail {l : Launch} {D : va_G} {ad : Nat → Nat} {ca : Nat → ClassId} (hI : xInj ad) {K : XK} {d : XD} (kd : Int32) (v : Int64) (RES : XD) (hr : RES = x_fail kd v d) : g_U l yX2_fail (ws_ yX2_fail cX2_fail 4 none) rm_X2_fail [.ref (ad 4), .int kd, .long v] (xKp D ca) (xB D ad ca K d) none (xB D ad ca K RES) (xA ad) := by
  refine g_ofU (by decide) (Nat.le_of_ble_eq_true rfl) ?_
  intro p e s m args below meth c ls Q hF hB hKp hl hQ
  obtain ⟨hx, hb, -, -, hml, hown, hts⟩ := id hF
  have hown : s.vm.findClass RX2 = some m.cls := hown
  have hC : CallFix p m c cX2_fail 4 s args lw_all RX2 := ⟨hx, hb, hml, hown, hts⟩
  obtain ⟨hK, hN⟩ := id hKp
  have hP : va_P D xcl (XW ad ca K d) s.heap := hB
  have hS : va_S (xA ad) s.heap s.heap [] := va_S.rf
  have hl : lv_has ls 4 [(0, .ref (ad 4)), (1, .int kd), (2, .long v)] := hl
  unfold x_fail at hr
  refine lv_aload_n hx hb dX2_fail_0 rfl (lv_at hl 0 rfl) ?_
  refine xg_4_9 hx hb hts hown hK hP (hts _ q242) dX2_fail_1 ?_
  refine lv_if_eq (tgt := 8) hx hb dX2_fail_4 (by decide) (fun c_4 => ?_) (fun c_4 => ?_)
  · replace hr := hr.trans (if_pos c_4)
    refine lv_aload_n hx hb dX2_fail_8 rfl (lv_at hl 0 rfl) ?_
    refine lv_iload_n hx hb dX2_fail_9 rfl (lv_at hl 1 rfl) ?_
    refine xp_4_9 (v := kd) hx hb hts hown hK hI hP hS (hts _ q242) dX2_fail_10 (fun d1 ed1 H locs hP hS => ?_)
    replace hr := hr.trans (bnd_eq ed1)
    refine lv_aload_n hx hb dX2_fail_13 rfl (lv_at hl 0 rfl) ?_
    refine lv_lload_n hx hb dX2_fail_14 rfl (lv_at hl 2 rfl) ?_
    refine xp_4_7 (v := v) hx hb hts hown hK hI hP hS (hts _ q238) dX2_fail_15 (fun d2 ed2 H locs hP hS => ?_)
    replace hr := hr.trans (bnd_eq ed2)
    exact g_endUv (Pic := (fun u => xB D ad ca K u)) (u := d2) hF hQ hr hP hS dX2_fail_18
  · replace hr := hr.trans (if_neg c_4)
    exact g_endUv (Pic := (fun u => xB D ad ca K u)) (u := d) hF hQ hr hP hS dX2_fail_7
def x_address (K : XK) (d : XD) : Int64 := bnd (α := Int64) (((kx_disp K).toInt64)) fun v1 => bnd (α := Int64) (if (kx_base K) < 0 then v1 else (if (kx_base K) = (16 : Int32) then (bnd (α := Int64) ((v1 + (dx_next d))) fun v4 => v4) else (bnd (α := Int64) ((v1 + ((dx_r d) (kx_base K).toNatClampNeg))) fun v3 => v3))) fun p2 => if 0 ≤ (kx_index K) then (p2 + (((dx_r d) (kx_index K).toNatClampNeg) * ((kx_scale K).toInt64))) else p2
abbrev rm_X2_address : Room := { frames := 0, cells := 0, slots := 0, locals := 0 }
set_option maxHeartbeats 4000000 in
set_option maxRecDepth 100000 in
theorem m_X2_address {l : Launch} {D : va_G} {ad : Nat → Nat} {ca : Nat → ClassId} {K : XK} {d : XD} (RES : Int64) (hr : RES = x_address K d) (hadr : XAdr K) : g_R l yX2_address (ws_ yX2_address cX2_address 3 (some .long)) rm_X2_address [.ref (ad 4)] (xKp D ca) (xB D ad ca K d) (.long RES) := by
  refine g_ofR (by decide) (Nat.le_of_ble_eq_true rfl) ?_
  intro p e s m args below meth c ls Q hF hB hKp hl hQ
  obtain ⟨hx, hb, -, -, hml, hown, hts⟩ := id hF
  have hown : s.vm.findClass RX2 = some m.cls := hown
  have hC : CallFix p m c cX2_address 3 s args lw_all RX2 := ⟨hx, hb, hml, hown, hts⟩
  obtain ⟨hK, hN⟩ := id hKp
  have hP : va_P D xcl (XW ad ca K d) s.heap := hB
  have hl : lv_has ls 3 [(0, .ref (ad 4))] := hl
  unfold x_address at hr
  refine lv_aload_n hx hb dX2_address_0 rfl (lv_at hl 0 rfl) ?_
  refine xg_4_3 hx hb hts hown hK hP (hts _ q231) dX2_address_1 ?_
  refine xgn_9_8 hx hb hts hown hK hP (xq_q200 hN) dX2_address_4 ?_
  refine lv_i2l (v := (kx_disp K).toInt64) hx hb dX2_address_7 rfl ?_
  refine lv_topl (fun v1 ev1 => ?_)
  replace hr := hr.trans (bnd_eq ev1)
  refine lv_lstore_n (lv' := [(1, .long v1), (0, .ref (ad 4))]) hx hb dX2_address_8 rfl hl (by decide) rfl (fun ls hl => ?_)
  refine lv_aload_n hx hb dX2_address_9 rfl (lv_at hl 1 rfl) ?_
  refine xg_4_3 hx hb hts hown hK hP (hts _ q231) dX2_address_10 ?_
  refine xgn_9_5 hx hb hts hown hK hP (xq_q191 hN) dX2_address_13 ?_
  obtain ⟨p2, ep2⟩ : ∃ z : Int64, z = (if (kx_base K) < 0 then v1 else (if (kx_base K) = (16 : Int32) then (bnd (α := Int64) ((v1 + (dx_next d))) fun v4 => v4) else (bnd (α := Int64) ((v1 + ((dx_r d) (kx_base K).toNatClampNeg))) fun v3 => v3))) := ⟨_, rfl⟩
  replace hr := hr.trans (bnd_eq ep2)
  have kp2 : ∀ (ls : Array Slot), lv_has ls 3 [(1, .long p2), (0, .ref (ad 4))] → W p l e rm_X2_address s m args below meth c s.heap [] 0 0 Q (F0 m 53 ls []) := by
    intro ls hl
    refine lv_aload_n hx hb dX2_address_53 rfl (lv_at hl 1 rfl) ?_
    refine xg_4_3 hx hb hts hown hK hP (hts _ q231) dX2_address_54 ?_
    refine xgn_9_6 hx hb hts hown hK hP (xq_q194 hN) dX2_address_57 ?_
    refine lv_if_ge (tgt := 67) hx hb dX2_address_60 (by decide) (fun c_60 => ?_) (fun c_60 => ?_)
    · replace hr := hr.trans (if_pos c_60)
      refine lv_lload_n hx hb dX2_address_67 rfl (lv_at hl 0 rfl) ?_
      refine lv_aload_n hx hb dX2_address_68 rfl (lv_at hl 1 rfl) ?_
      refine xg_4_4 hx hb hts hown hK hP (hts _ q233) dX2_address_69 ?_
      refine lv_aload_n hx hb dX2_address_72 rfl (lv_at hl 1 rfl) ?_
      refine xg_4_3 hx hb hts hown hK hP (hts _ q231) dX2_address_73 ?_
      refine xgn_9_6 hx hb hts hown hK hP (xq_q194 hN) dX2_address_76 ?_
      refine xl_12 hx hb hK hP (xadr_i hadr c_60) dX2_address_79 ?_
      refine lv_aload_n hx hb dX2_address_80 rfl (lv_at hl 1 rfl) ?_
      refine xg_4_3 hx hb hts hown hK hP (hts _ q231) dX2_address_81 ?_
      refine xgn_9_7 hx hb hts hown hK hP (xq_q197 hN) dX2_address_84 ?_
      refine lv_i2l (v := (kx_scale K).toInt64) hx hb dX2_address_87 rfl ?_
      refine lv_lmul hx hb dX2_address_88 ?_
      refine lv_ladd hx hb dX2_address_89 ?_
      exact g_endRl hF hQ hr dX2_address_90
    · replace hr := hr.trans (if_neg c_60)
      refine lv_lload_n hx hb dX2_address_63 rfl (lv_at hl 0 rfl) ?_
      refine lv_goto (tgt := 90) hx hb dX2_address_64 (by decide) ?_
      exact g_endRl hF hQ hr dX2_address_90
  replace hr := ep2
  refine lv_if_lt (tgt := 53) hx hb dX2_address_16 (by decide) (fun c_16 => ?_) (fun c_16 => ?_)
  · replace hr := hr.trans (if_pos c_16)
    subst hr
    exact kp2 ls (lv_sub hl [0, 1] rfl)
  · replace hr := hr.trans (if_neg c_16)
    refine lv_lload_n hx hb dX2_address_19 rfl (lv_at hl 0 rfl) ?_
    refine lv_aload_n hx hb dX2_address_20 rfl (lv_at hl 1 rfl) ?_
    refine xg_4_3 hx hb hts hown hK hP (hts _ q231) dX2_address_21 ?_
    refine xgn_9_5 hx hb hts hown hK hP (xq_q191 hN) dX2_address_24 ?_
    refine lv_bipush (v := (16 : Int32)) hx hb dX2_address_27 bp_16 ?_
    refine lv_icmp_ne (tgt := 39) hx hb dX2_address_29 (by decide) (fun c_29 => ?_) (fun c_29 => ?_)
    · replace hr := hr.trans (if_neg c_29)
      refine lv_aload_n hx hb dX2_address_39 rfl (lv_at hl 1 rfl) ?_
      refine xg_4_4 hx hb hts hown hK hP (hts _ q233) dX2_address_40 ?_
      refine lv_aload_n hx hb dX2_address_43 rfl (lv_at hl 1 rfl) ?_
      refine xg_4_3 hx hb hts hown hK hP (hts _ q231) dX2_address_44 ?_
      refine xgn_9_5 hx hb hts hown hK hP (xq_q191 hN) dX2_address_47 ?_
      refine xl_12 hx hb hK hP (xadr_b hadr c_16 c_29) dX2_address_50 ?_
      refine lv_ladd hx hb dX2_address_51 ?_
      refine lv_topl (fun v3 ev3 => ?_)
      replace hr := hr.trans (bnd_eq ev3)
      refine lv_lstore_n (lv' := [(1, .long v3), (0, .ref (ad 4))]) hx hb dX2_address_52 rfl hl (by decide) rfl (fun ls hl => ?_)
      subst hr
      exact kp2 ls (lv_sub hl [0, 1] rfl)
    · replace hr := hr.trans (if_pos c_29)
      refine lv_aload_n hx hb dX2_address_32 rfl (lv_at hl 1 rfl) ?_
      refine xg_4_6 hx hb hts hown hK hP (hts _ q237) dX2_address_33 ?_
      refine lv_goto (tgt := 51) hx hb dX2_address_36 (by decide) ?_
      refine lv_ladd hx hb dX2_address_51 ?_
      refine lv_topl (fun v4 ev4 => ?_)
      replace hr := hr.trans (bnd_eq ev4)
      refine lv_lstore_n (lv' := [(1, .long v4), (0, .ref (ad 4))]) hx hb dX2_address_52 rfl hl (by decide) rfl (fun ls hl => ?_)
      subst hr
      exact kp2 ls (lv_sub hl [0, 1] rfl)
def x_fetch (K : XK) (a : Int64) (sz : Int32) (d : XD) : Int64 × XD := if (dx_stop d) = 0 then (if (b2i (x_has K a sz false)) = 0 then (bnd (x_fail (3 : Int32) a d) fun g2 => ((0 : Int64), g2)) else ((x_read K a sz d), d)) else (bnd (x_fail (3 : Int32) a d) fun g1 => ((0 : Int64), g1))
abbrev rm_X2_fetch : Room := { frames := 3, cells := 0, slots := 0, locals := 75 }
set_option maxHeartbeats 4000000 in
set_option maxRecDepth 100000 in
theorem m_X2_fetch {l : Launch} {D : va_G} {ad : Nat → Nat} {ca : Nat → ClassId} (hI : xInj ad) {K : XK} {d : XD} (a : Int64) (sz : Int32) (RES : Int64 × XD) (hr : RES = x_fetch K a sz d) (hlay : XLay K) : g_U l yX2_fetch (ws_ yX2_fetch cX2_fetch 4 (some .long)) rm_X2_fetch [.ref (ad 4), .long a, .int sz] (xKp D ca) (xB D ad ca K d) (some (.long RES.1)) (xB D ad ca K RES.2) (xA ad) := by
  refine g_ofU (by decide) (Nat.le_of_ble_eq_true rfl) ?_
  intro p e s m args below meth c ls Q hF hB hKp hl hQ
  obtain ⟨hx, hb, -, -, hml, hown, hts⟩ := id hF
  have hown : s.vm.findClass RX2 = some m.cls := hown
  have hC : CallFix p m c cX2_fetch 4 s args lw_all RX2 := ⟨hx, hb, hml, hown, hts⟩
  obtain ⟨hK, hN⟩ := id hKp
  have hP : va_P D xcl (XW ad ca K d) s.heap := hB
  have hS : va_S (xA ad) s.heap s.heap [] := va_S.rf
  have hl : lv_has ls 4 [(0, .ref (ad 4)), (1, .long a), (3, .int sz)] := hl
  unfold x_fetch at hr
  refine lv_aload_n hx hb dX2_fetch_0 rfl (lv_at hl 0 rfl) ?_
  refine xg_4_9 hx hb hts hown hK hP (hts _ q242) dX2_fetch_1 ?_
  refine lv_if_ne (tgt := 30) hx hb dX2_fetch_4 (by decide) (fun c_4 => ?_) (fun c_4 => ?_)
  · replace hr := hr.trans (if_neg c_4)
    refine lv_aload_n hx hb dX2_fetch_30 rfl (lv_at hl 0 rfl) ?_
    refine lv_iconst (v := (3 : Int32)) hx hb dX2_fetch_31 ic_3 ?_
    refine lv_lload_n hx hb dX2_fetch_32 rfl (lv_at hl 1 rfl) ?_
    obtain ⟨g1, eg1⟩ : ∃ z, z = x_fail (3 : Int32) a d := ⟨_, rfl⟩
    replace hr := hr.trans (bnd_eq eg1)
    refine g_UV0 (As := [.int (3 : Int32), .long a]) (rest := []) hC (m_X2_fail hI (K := K) (d := d) (3 : Int32) a g1 eg1) (cwV 2 hts cw_X2_85 rfl rfl rfl hd_X2_fail ⟨Nat.le_of_ble_eq_true rfl, Nat.le_of_ble_eq_true rfl⟩) xKst (va_recv hK hP (ci := 2) (q0 := 4) rfl rfl) hP hKp ⟨Nat.zero_le _, Nat.zero_le _⟩ hS (fun _ h => h) rfl hl.1 rfl (Nat.le_of_ble_eq_true rfl) dX2_fetch_33 (fun H locs hP hS => ?_)
    have hP : va_P D xcl (XW ad ca K g1) H := hP
    refine lv_lconst (v := (0 : Int64)) hx hb dX2_fetch_36 lc_0 ?_
    exact g_endUl (Pic := (fun u => xB D ad ca K u)) (u := g1) hF hQ hr hP hS dX2_fetch_37
  · replace hr := hr.trans (if_pos c_4)
    refine lv_aload_n hx hb dX2_fetch_7 rfl (lv_at hl 0 rfl) ?_
    refine xg_4_0 hx hb hts hown hK hP (hts _ q226) dX2_fetch_8 ?_
    refine lv_lload_n hx hb dX2_fetch_11 rfl (lv_at hl 1 rfl) ?_
    refine lv_iload_n hx hb dX2_fetch_12 rfl (lv_at hl 2 rfl) ?_
    refine lv_iconst (v := (0 : Int32)) hx hb dX2_fetch_13 ic_0 ?_
    refine g_RV (As := [.long a, .int sz, .int (b2i false)]) (rest := []) hC (m_X1_has (K := K) (d := d) a sz false _ rfl) (cwV 3 hts cw_X2_77 rfl rfl rfl hd_X1_has ⟨Nat.le_of_ble_eq_true rfl, Nat.le_of_ble_eq_true rfl⟩) xKst (va_recv hK hP (ci := 1) (q0 := 2) rfl rfl) hP hKp ⟨Nat.zero_le _, Nat.zero_le _⟩ rfl hl.1 rfl (Nat.le_of_ble_eq_true rfl) dX2_fetch_14 ?_
    refine lv_if_eq (tgt := 30) hx hb dX2_fetch_17 (by decide) (fun c_17 => ?_) (fun c_17 => ?_)
    · replace hr := hr.trans (if_pos c_17)
      refine lv_aload_n hx hb dX2_fetch_30 rfl (lv_at hl 0 rfl) ?_
      refine lv_iconst (v := (3 : Int32)) hx hb dX2_fetch_31 ic_3 ?_
      refine lv_lload_n hx hb dX2_fetch_32 rfl (lv_at hl 1 rfl) ?_
      obtain ⟨g2, eg2⟩ : ∃ z, z = x_fail (3 : Int32) a d := ⟨_, rfl⟩
      replace hr := hr.trans (bnd_eq eg2)
      refine g_UV0 (As := [.int (3 : Int32), .long a]) (rest := []) hC (m_X2_fail hI (K := K) (d := d) (3 : Int32) a g2 eg2) (cwV 2 hts cw_X2_85 rfl rfl rfl hd_X2_fail ⟨Nat.le_of_ble_eq_true rfl, Nat.le_of_ble_eq_true rfl⟩) xKst (va_recv hK hP (ci := 2) (q0 := 4) rfl rfl) hP hKp ⟨Nat.zero_le _, Nat.zero_le _⟩ hS (fun _ h => h) rfl hl.1 rfl (Nat.le_of_ble_eq_true rfl) dX2_fetch_33 (fun H locs hP hS => ?_)
      have hP : va_P D xcl (XW ad ca K g2) H := hP
      refine lv_lconst (v := (0 : Int64)) hx hb dX2_fetch_36 lc_0 ?_
      exact g_endUl (Pic := (fun u => xB D ad ca K u)) (u := g2) hF hQ hr hP hS dX2_fetch_37
    · replace hr := hr.trans (if_neg c_17)
      refine lv_aload_n hx hb dX2_fetch_20 rfl (lv_at hl 0 rfl) ?_
      refine xg_4_0 hx hb hts hown hK hP (hts _ q226) dX2_fetch_21 ?_
      refine lv_lload_n hx hb dX2_fetch_24 rfl (lv_at hl 1 rfl) ?_
      refine lv_iload_n hx hb dX2_fetch_25 rfl (lv_at hl 2 rfl) ?_
      refine g_RV (As := [.long a, .int sz]) (rest := []) hC (m_X1_read (K := K) (d := d) a sz _ rfl hlay (x_has_all c_17)) (cwV 2 hts cw_X2_81 rfl rfl rfl hd_X1_read ⟨Nat.le_of_ble_eq_true rfl, Nat.le_of_ble_eq_true rfl⟩) xKst (va_recv hK hP (ci := 1) (q0 := 2) rfl rfl) hP hKp ⟨Nat.zero_le _, Nat.zero_le _⟩ rfl hl.1 rfl (Nat.le_of_ble_eq_true rfl) dX2_fetch_26 ?_
      exact g_endUl (Pic := (fun u => xB D ad ca K u)) (u := d) hF hQ hr hP hS dX2_fetch_29
def x_store (K : XK) (a : Int64) (sz : Int32) (v : Int64) (d : XD) : XD := if (dx_stop d) = 0 then (if (b2i (x_has K a sz true)) = 0 then (bnd (x_fail (3 : Int32) a d) fun g2 => g2) else (bnd (x_write K a sz v d) fun g3 => g3)) else (bnd (x_fail (3 : Int32) a d) fun g1 => g1)
abbrev rm_X2_store : Room := { frames := 3, cells := 0, slots := 0, locals := 75 }
set_option maxHeartbeats 4000000 in
set_option maxRecDepth 100000 in
theorem m_X2_store {l : Launch} {D : va_G} {ad : Nat → Nat} {ca : Nat → ClassId} (hI : xInj ad) {K : XK} {d : XD} (a : Int64) (sz : Int32) (v : Int64) (RES : XD) (hr : RES = x_store K a sz v d) (hlay : XLay K) : g_U l yX2_store (ws_ yX2_store cX2_store 6 none) rm_X2_store [.ref (ad 4), .long a, .int sz, .long v] (xKp D ca) (xB D ad ca K d) none (xB D ad ca K RES) (xA ad) := by
  refine g_ofU (by decide) (Nat.le_of_ble_eq_true rfl) ?_
  intro p e s m args below meth c ls Q hF hB hKp hl hQ
  obtain ⟨hx, hb, -, -, hml, hown, hts⟩ := id hF
  have hown : s.vm.findClass RX2 = some m.cls := hown
  have hC : CallFix p m c cX2_store 6 s args lw_all RX2 := ⟨hx, hb, hml, hown, hts⟩
  obtain ⟨hK, hN⟩ := id hKp
  have hP : va_P D xcl (XW ad ca K d) s.heap := hB
  have hS : va_S (xA ad) s.heap s.heap [] := va_S.rf
  have hl : lv_has ls 6 [(0, .ref (ad 4)), (1, .long a), (3, .int sz), (4, .long v)] := hl
  unfold x_store at hr
  refine lv_aload_n hx hb dX2_store_0 rfl (lv_at hl 0 rfl) ?_
  refine xg_4_9 hx hb hts hown hK hP (hts _ q242) dX2_store_1 ?_
  refine lv_if_ne (tgt := 34) hx hb dX2_store_4 (by decide) (fun c_4 => ?_) (fun c_4 => ?_)
  · replace hr := hr.trans (if_neg c_4)
    refine lv_aload_n hx hb dX2_store_34 rfl (lv_at hl 0 rfl) ?_
    refine lv_iconst (v := (3 : Int32)) hx hb dX2_store_35 ic_3 ?_
    refine lv_lload_n hx hb dX2_store_36 rfl (lv_at hl 1 rfl) ?_
    obtain ⟨g1, eg1⟩ : ∃ z, z = x_fail (3 : Int32) a d := ⟨_, rfl⟩
    replace hr := hr.trans (bnd_eq eg1)
    refine g_UV0 (As := [.int (3 : Int32), .long a]) (rest := []) hC (m_X2_fail hI (K := K) (d := d) (3 : Int32) a g1 eg1) (cwV 2 hts cw_X2_85 rfl rfl rfl hd_X2_fail ⟨Nat.le_of_ble_eq_true rfl, Nat.le_of_ble_eq_true rfl⟩) xKst (va_recv hK hP (ci := 2) (q0 := 4) rfl rfl) hP hKp ⟨Nat.zero_le _, Nat.zero_le _⟩ hS (fun _ h => h) rfl hl.1 rfl (Nat.le_of_ble_eq_true rfl) dX2_store_37 (fun H locs hP hS => ?_)
    have hP : va_P D xcl (XW ad ca K g1) H := hP
    exact g_endUv (Pic := (fun u => xB D ad ca K u)) (u := g1) hF hQ hr hP hS dX2_store_40
  · replace hr := hr.trans (if_pos c_4)
    refine lv_aload_n hx hb dX2_store_7 rfl (lv_at hl 0 rfl) ?_
    refine xg_4_0 hx hb hts hown hK hP (hts _ q226) dX2_store_8 ?_
    refine lv_lload_n hx hb dX2_store_11 rfl (lv_at hl 1 rfl) ?_
    refine lv_iload_n hx hb dX2_store_12 rfl (lv_at hl 2 rfl) ?_
    refine lv_iconst (v := (1 : Int32)) hx hb dX2_store_13 ic_1 ?_
    refine g_RV (As := [.long a, .int sz, .int (b2i true)]) (rest := []) hC (m_X1_has (K := K) (d := d) a sz true _ rfl) (cwV 3 hts cw_X2_77 rfl rfl rfl hd_X1_has ⟨Nat.le_of_ble_eq_true rfl, Nat.le_of_ble_eq_true rfl⟩) xKst (va_recv hK hP (ci := 1) (q0 := 2) rfl rfl) hP hKp ⟨Nat.zero_le _, Nat.zero_le _⟩ rfl hl.1 rfl (Nat.le_of_ble_eq_true rfl) dX2_store_14 ?_
    refine lv_if_eq (tgt := 34) hx hb dX2_store_17 (by decide) (fun c_17 => ?_) (fun c_17 => ?_)
    · replace hr := hr.trans (if_pos c_17)
      refine lv_aload_n hx hb dX2_store_34 rfl (lv_at hl 0 rfl) ?_
      refine lv_iconst (v := (3 : Int32)) hx hb dX2_store_35 ic_3 ?_
      refine lv_lload_n hx hb dX2_store_36 rfl (lv_at hl 1 rfl) ?_
      obtain ⟨g2, eg2⟩ : ∃ z, z = x_fail (3 : Int32) a d := ⟨_, rfl⟩
      replace hr := hr.trans (bnd_eq eg2)
      refine g_UV0 (As := [.int (3 : Int32), .long a]) (rest := []) hC (m_X2_fail hI (K := K) (d := d) (3 : Int32) a g2 eg2) (cwV 2 hts cw_X2_85 rfl rfl rfl hd_X2_fail ⟨Nat.le_of_ble_eq_true rfl, Nat.le_of_ble_eq_true rfl⟩) xKst (va_recv hK hP (ci := 2) (q0 := 4) rfl rfl) hP hKp ⟨Nat.zero_le _, Nat.zero_le _⟩ hS (fun _ h => h) rfl hl.1 rfl (Nat.le_of_ble_eq_true rfl) dX2_store_37 (fun H locs hP hS => ?_)
      have hP : va_P D xcl (XW ad ca K g2) H := hP
      exact g_endUv (Pic := (fun u => xB D ad ca K u)) (u := g2) hF hQ hr hP hS dX2_store_40
    · replace hr := hr.trans (if_neg c_17)
      refine lv_aload_n hx hb dX2_store_20 rfl (lv_at hl 0 rfl) ?_
      refine xg_4_0 hx hb hts hown hK hP (hts _ q226) dX2_store_21 ?_
      refine lv_lload_n hx hb dX2_store_24 rfl (lv_at hl 1 rfl) ?_
      refine lv_iload_n hx hb dX2_store_25 rfl (lv_at hl 2 rfl) ?_
      refine lv_lload hx hb dX2_store_26 (lv_at hl 3 rfl) ?_
      obtain ⟨g3, eg3⟩ : ∃ z, z = x_write K a sz v d := ⟨_, rfl⟩
      replace hr := hr.trans (bnd_eq eg3)
      refine g_UV0 (As := [.long a, .int sz, .long v]) (rest := []) hC (m_X1_write hI (K := K) (d := d) a sz v g3 eg3 hlay (x_has_all c_17)) (cwV 3 hts cw_X2_89 rfl rfl rfl hd_X1_write ⟨Nat.le_of_ble_eq_true rfl, Nat.le_of_ble_eq_true rfl⟩) xKst (va_recv hK hP (ci := 1) (q0 := 2) rfl rfl) hP hKp ⟨Nat.zero_le _, Nat.zero_le _⟩ hS (fun _ h => h) rfl hl.1 rfl (Nat.le_of_ble_eq_true rfl) dX2_store_28 (fun H locs hP hS => ?_)
      have hP : va_P D xcl (XW ad ca K g3) H := hP
      refine lv_goto (tgt := 40) hx hb dX2_store_31 (by decide) ?_
      exact g_endUv (Pic := (fun u => xB D ad ca K u)) (u := g3) hF hQ hr hP hS dX2_store_40
def x_get (K : XK) (k : Int32) (sz : Int32) (d : XD) : Int64 × XD := if ((kx_kinds K) k.toNatClampNeg) = (2 : Int32) then (bnd (x_fetch K (x_address K d) sz d) fun g1 => (g1.1, g1.2)) else (if ((kx_kinds K) k.toNatClampNeg) = (1 : Int32) then ((x_cut ((dx_r d) ((kx_regs K) k.toNatClampNeg).toNatClampNeg) sz), d) else ((x_cut (kx_number K) sz), d))
abbrev rm_X2_get : Room := { frames := 4, cells := 0, slots := 0, locals := 98 }
set_option maxHeartbeats 4000000 in
set_option maxRecDepth 100000 in
theorem m_X2_get {l : Launch} {D : va_G} {ad : Nat → Nat} {ca : Nat → ClassId} (hI : xInj ad) {K : XK} {d : XD} (k : Int32) (sz : Int32) (RES : Int64 × XD) (hr : RES = x_get K k sz d) (hk : vp_in k 3) (hgd : XGd K) : g_U l yX2_get (ws_ yX2_get cX2_get 3 (some .long)) rm_X2_get [.ref (ad 4), .int k, .int sz] (xKp D ca) (xB D ad ca K d) (some (.long RES.1)) (xB D ad ca K RES.2) (xA ad) := by
  refine g_ofU (by decide) (Nat.le_of_ble_eq_true rfl) ?_
  intro p e s m args below meth c ls Q hF hB hKp hl hQ
  obtain ⟨hx, hb, -, -, hml, hown, hts⟩ := id hF
  have hown : s.vm.findClass RX2 = some m.cls := hown
  have hC : CallFix p m c cX2_get 3 s args lw_all RX2 := ⟨hx, hb, hml, hown, hts⟩
  obtain ⟨hK, hN⟩ := id hKp
  have hP : va_P D xcl (XW ad ca K d) s.heap := hB
  have hS : va_S (xA ad) s.heap s.heap [] := va_S.rf
  have hl : lv_has ls 3 [(0, .ref (ad 4)), (1, .int k), (2, .int sz)] := hl
  unfold x_get at hr
  refine lv_aload_n hx hb dX2_get_0 rfl (lv_at hl 0 rfl) ?_
  refine xg_4_3 hx hb hts hown hK hP (hts _ q231) dX2_get_1 ?_
  refine xgn_9_3 hx hb hts hown hK hP (xq_q186 hN) dX2_get_4 ?_
  refine lv_iload_n hx hb dX2_get_7 rfl (lv_at hl 1 rfl) ?_
  refine xl_10 hx hb hK hP hk dX2_get_8 ?_
  refine lv_iconst (v := (2 : Int32)) hx hb dX2_get_9 ic_2 ?_
  refine lv_icmp_ne (tgt := 23) hx hb dX2_get_10 (by decide) (fun c_10 => ?_) (fun c_10 => ?_)
  · replace hr := hr.trans (if_neg c_10)
    refine lv_aload_n hx hb dX2_get_23 rfl (lv_at hl 0 rfl) ?_
    refine xg_4_3 hx hb hts hown hK hP (hts _ q231) dX2_get_24 ?_
    refine xgn_9_3 hx hb hts hown hK hP (xq_q186 hN) dX2_get_27 ?_
    refine lv_iload_n hx hb dX2_get_30 rfl (lv_at hl 1 rfl) ?_
    refine xl_10 hx hb hK hP hk dX2_get_31 ?_
    refine lv_iconst (v := (1 : Int32)) hx hb dX2_get_32 ic_1 ?_
    refine lv_icmp_ne (tgt := 53) hx hb dX2_get_33 (by decide) (fun c_33 => ?_) (fun c_33 => ?_)
    · replace hr := hr.trans (if_neg c_33)
      refine lv_aload_n hx hb dX2_get_53 rfl (lv_at hl 0 rfl) ?_
      refine xg_4_3 hx hb hts hown hK hP (hts _ q231) dX2_get_54 ?_
      refine xgn_9_9 hx hb hts hown hK hP (xq_q203 hN) dX2_get_57 ?_
      refine lv_iload_n hx hb dX2_get_60 rfl (lv_at hl 2 rfl) ?_
      refine g_RS (As := [.long (kx_number K), .int sz]) (rest := []) hC (m_X2_cut (kx_number K) sz _ rfl) (va_cwS 2 hts cw_X2_110 rfl rfl rfl hd_X2_cut ⟨Nat.le_of_ble_eq_true rfl, Nat.le_of_ble_eq_true rfl⟩) g_Kst0 trivial trivial ⟨Nat.zero_le _, Nat.zero_le _⟩ rfl hl.1 rfl (Nat.le_of_ble_eq_true rfl) dX2_get_61 ?_
      exact g_endUl (Pic := (fun u => xB D ad ca K u)) (u := d) hF hQ hr hP hS dX2_get_64
    · replace hr := hr.trans (if_pos c_33)
      refine lv_aload_n hx hb dX2_get_36 rfl (lv_at hl 0 rfl) ?_
      refine xg_4_4 hx hb hts hown hK hP (hts _ q233) dX2_get_37 ?_
      refine lv_aload_n hx hb dX2_get_40 rfl (lv_at hl 0 rfl) ?_
      refine xg_4_3 hx hb hts hown hK hP (hts _ q231) dX2_get_41 ?_
      refine xgn_9_4 hx hb hts hown hK hP (xq_q189 hN) dX2_get_44 ?_
      refine lv_iload_n hx hb dX2_get_47 rfl (lv_at hl 1 rfl) ?_
      refine xl_11 hx hb hK hP hk dX2_get_48 ?_
      refine xl_12 hx hb hK hP (hgd.2.1 _ hk) dX2_get_49 ?_
      refine lv_goto (tgt := 60) hx hb dX2_get_50 (by decide) ?_
      refine lv_iload_n hx hb dX2_get_60 rfl (lv_at hl 2 rfl) ?_
      refine g_RS (As := [.long ((dx_r d) ((kx_regs K) k.toNatClampNeg).toNatClampNeg), .int sz]) (rest := []) hC (m_X2_cut ((dx_r d) ((kx_regs K) k.toNatClampNeg).toNatClampNeg) sz _ rfl) (va_cwS 2 hts cw_X2_110 rfl rfl rfl hd_X2_cut ⟨Nat.le_of_ble_eq_true rfl, Nat.le_of_ble_eq_true rfl⟩) g_Kst0 trivial trivial ⟨Nat.zero_le _, Nat.zero_le _⟩ rfl hl.1 rfl (Nat.le_of_ble_eq_true rfl) dX2_get_61 ?_
      exact g_endUl (Pic := (fun u => xB D ad ca K u)) (u := d) hF hQ hr hP hS dX2_get_64
  · replace hr := hr.trans (if_pos c_10)
    refine lv_aload_n hx hb dX2_get_13 rfl (lv_at hl 0 rfl) ?_
    refine lv_aload_n hx hb dX2_get_14 rfl (lv_at hl 0 rfl) ?_
    refine g_RV (As := []) (rest := [.ref (ad 4)]) hC (m_X2_address (K := K) (d := d)  _ rfl (hgd.2.2 _ hk c_10)) (cwV 0 hts cw_X2_97 rfl rfl rfl hd_X2_address ⟨Nat.le_of_ble_eq_true rfl, Nat.le_of_ble_eq_true rfl⟩) xKst (va_recv hK hP (ci := 2) (q0 := 4) rfl rfl) hP hKp ⟨Nat.zero_le _, Nat.zero_le _⟩ rfl hl.1 rfl (Nat.le_of_ble_eq_true rfl) dX2_get_15 ?_
    refine lv_iload_n hx hb dX2_get_18 rfl (lv_at hl 2 rfl) ?_
    obtain ⟨g1, eg1⟩ : ∃ z, z = x_fetch K (x_address K d) sz d := ⟨_, rfl⟩
    replace hr := hr.trans (bnd_eq eg1)
    refine g_UV1 (As := [.long (x_address K d), .int sz]) (rest := []) hC (m_X2_fetch hI (K := K) (d := d) (x_address K d) sz g1 eg1 hgd.1) (cwV 2 hts cw_X2_101 rfl rfl rfl hd_X2_fetch ⟨Nat.le_of_ble_eq_true rfl, Nat.le_of_ble_eq_true rfl⟩) xKst (va_recv hK hP (ci := 2) (q0 := 4) rfl rfl) hP hKp ⟨Nat.zero_le _, Nat.zero_le _⟩ hS (fun _ h => h) rfl hl.1 rfl (Nat.le_of_ble_eq_true rfl) dX2_get_19 (fun H locs hP hS => ?_)
    have hP : va_P D xcl (XW ad ca K g1.2) H := hP
    exact g_endUl (Pic := (fun u => xB D ad ca K u)) (u := g1.2) hF hQ hr hP hS dX2_get_22
def x_setRegister (k : Int32) (sz : Int32) (v : Int64) (d : XD) : XD := if sz = (1 : Int32) then (bnd (dx_r_ (vp_updL (dx_r d) k.toNatClampNeg ((((dx_r d) k.toNatClampNeg) &&& (-256 : Int64)) ||| (v &&& (255 : Int64)))) d) fun d2 => d2) else (bnd (dx_r_ (vp_updL (dx_r d) k.toNatClampNeg (x_cut v sz)) d) fun d1 => d1)
abbrev rm_X2_setRegister : Room := { frames := 1, cells := 0, slots := 0, locals := 22 }
set_option maxHeartbeats 4000000 in
set_option maxRecDepth 100000 in
theorem m_X2_setRegister {l : Launch} {D : va_G} {ad : Nat → Nat} {ca : Nat → ClassId} (hI : xInj ad) {K : XK} {d : XD} (k : Int32) (sz : Int32) (v : Int64) (RES : XD) (hr : RES = x_setRegister k sz v d) (hk : vp_in k 16) : g_U l yX2_setRegister (ws_ yX2_setRegister cX2_setRegister 5 none) rm_X2_setRegister [.ref (ad 4), .int k, .int sz, .long v] (xKp D ca) (xB D ad ca K d) none (xB D ad ca K RES) (xA ad) := by
  refine g_ofU (by decide) (Nat.le_of_ble_eq_true rfl) ?_
  intro p e s m args below meth c ls Q hF hB hKp hl hQ
  obtain ⟨hx, hb, -, -, hml, hown, hts⟩ := id hF
  have hown : s.vm.findClass RX2 = some m.cls := hown
  have hC : CallFix p m c cX2_setRegister 5 s args lw_all RX2 := ⟨hx, hb, hml, hown, hts⟩
  obtain ⟨hK, hN⟩ := id hKp
  have hP : va_P D xcl (XW ad ca K d) s.heap := hB
  have hS : va_S (xA ad) s.heap s.heap [] := va_S.rf
  have hl : lv_has ls 5 [(0, .ref (ad 4)), (1, .int k), (2, .int sz), (3, .long v)] := hl
  unfold x_setRegister at hr
  refine lv_aload_n hx hb dX2_setRegister_0 rfl (lv_at hl 0 rfl) ?_
  refine xg_4_4 hx hb hts hown hK hP (hts _ q233) dX2_setRegister_1 ?_
  refine lv_iload_n hx hb dX2_setRegister_4 rfl (lv_at hl 1 rfl) ?_
  refine lv_iload_n hx hb dX2_setRegister_5 rfl (lv_at hl 2 rfl) ?_
  refine lv_iconst (v := (1 : Int32)) hx hb dX2_setRegister_6 ic_1 ?_
  refine lv_icmp_ne (tgt := 29) hx hb dX2_setRegister_7 (by decide) (fun c_7 => ?_) (fun c_7 => ?_)
  · replace hr := hr.trans (if_neg c_7)
    refine lv_lload_n hx hb dX2_setRegister_29 rfl (lv_at hl 3 rfl) ?_
    refine lv_iload_n hx hb dX2_setRegister_30 rfl (lv_at hl 2 rfl) ?_
    refine g_RS (As := [.long v, .int sz]) (rest := [.int k, .ref (ad 12)]) hC (m_X2_cut v sz _ rfl) (va_cwS 2 hts cw_X2_110 rfl rfl rfl hd_X2_cut ⟨Nat.le_of_ble_eq_true rfl, Nat.le_of_ble_eq_true rfl⟩) g_Kst0 trivial trivial ⟨Nat.zero_le _, Nat.zero_le _⟩ rfl hl.1 rfl (Nat.le_of_ble_eq_true rfl) dX2_setRegister_31 ?_
    refine xs_12 hx hb hK hI hP hS hk dX2_setRegister_34 (fun d1 ed1 H locs hP hS => ?_)
    replace hr := hr.trans (bnd_eq ed1)
    exact g_endUv (Pic := (fun u => xB D ad ca K u)) (u := d1) hF hQ hr hP hS dX2_setRegister_35
  · replace hr := hr.trans (if_pos c_7)
    refine lv_aload_n hx hb dX2_setRegister_10 rfl (lv_at hl 0 rfl) ?_
    refine xg_4_4 hx hb hts hown hK hP (hts _ q233) dX2_setRegister_11 ?_
    refine lv_iload_n hx hb dX2_setRegister_14 rfl (lv_at hl 1 rfl) ?_
    refine xl_12 hx hb hK hP hk dX2_setRegister_15 ?_
    refine lv_ldc2 hx hb hown (hts _ q474) dX2_setRegister_16 ?_
    refine lv_land hx hb dX2_setRegister_19 ?_
    refine lv_lload_n hx hb dX2_setRegister_20 rfl (lv_at hl 3 rfl) ?_
    refine lv_ldc2 hx hb hown (hts _ q423) dX2_setRegister_21 ?_
    refine lv_land hx hb dX2_setRegister_24 ?_
    refine lv_lor hx hb dX2_setRegister_25 ?_
    refine lv_goto (tgt := 34) hx hb dX2_setRegister_26 (by decide) ?_
    refine xs_12 hx hb hK hI hP hS hk dX2_setRegister_34 (fun d2 ed2 H locs hP hS => ?_)
    replace hr := hr.trans (bnd_eq ed2)
    exact g_endUv (Pic := (fun u => xB D ad ca K u)) (u := d2) hF hQ hr hP hS dX2_setRegister_35
def x_put (K : XK) (k : Int32) (sz : Int32) (v : Int64) (d : XD) : XD := if ((kx_kinds K) k.toNatClampNeg) = (2 : Int32) then (bnd (x_store K (x_address K d) sz v d) fun g2 => g2) else (if (dx_stop d) = 0 then (bnd (x_setRegister ((kx_regs K) k.toNatClampNeg) sz v d) fun g1 => g1) else d)
abbrev rm_X2_put : Room := { frames := 4, cells := 0, slots := 0, locals := 100 }
set_option maxHeartbeats 4000000 in
set_option maxRecDepth 100000 in
theorem m_X2_put {l : Launch} {D : va_G} {ad : Nat → Nat} {ca : Nat → ClassId} (hI : xInj ad) {K : XK} {d : XD} (k : Int32) (sz : Int32) (v : Int64) (RES : XD) (hr : RES = x_put K k sz v d) (hk : vp_in k 3) (hgd : XGd K) : g_U l yX2_put (ws_ yX2_put cX2_put 5 none) rm_X2_put [.ref (ad 4), .int k, .int sz, .long v] (xKp D ca) (xB D ad ca K d) none (xB D ad ca K RES) (xA ad) := by
  refine g_ofU (by decide) (Nat.le_of_ble_eq_true rfl) ?_
  intro p e s m args below meth c ls Q hF hB hKp hl hQ
  obtain ⟨hx, hb, -, -, hml, hown, hts⟩ := id hF
  have hown : s.vm.findClass RX2 = some m.cls := hown
  have hC : CallFix p m c cX2_put 5 s args lw_all RX2 := ⟨hx, hb, hml, hown, hts⟩
  obtain ⟨hK, hN⟩ := id hKp
  have hP : va_P D xcl (XW ad ca K d) s.heap := hB
  have hS : va_S (xA ad) s.heap s.heap [] := va_S.rf
  have hl : lv_has ls 5 [(0, .ref (ad 4)), (1, .int k), (2, .int sz), (3, .long v)] := hl
  unfold x_put at hr
  refine lv_aload_n hx hb dX2_put_0 rfl (lv_at hl 0 rfl) ?_
  refine xg_4_3 hx hb hts hown hK hP (hts _ q231) dX2_put_1 ?_
  refine xgn_9_3 hx hb hts hown hK hP (xq_q186 hN) dX2_put_4 ?_
  refine lv_iload_n hx hb dX2_put_7 rfl (lv_at hl 1 rfl) ?_
  refine xl_10 hx hb hK hP hk dX2_put_8 ?_
  refine lv_iconst (v := (2 : Int32)) hx hb dX2_put_9 ic_2 ?_
  refine lv_icmp_ne (tgt := 26) hx hb dX2_put_10 (by decide) (fun c_10 => ?_) (fun c_10 => ?_)
  · replace hr := hr.trans (if_neg c_10)
    refine lv_aload_n hx hb dX2_put_26 rfl (lv_at hl 0 rfl) ?_
    refine xg_4_9 hx hb hts hown hK hP (hts _ q242) dX2_put_27 ?_
    refine lv_if_ne (tgt := 48) hx hb dX2_put_30 (by decide) (fun c_30 => ?_) (fun c_30 => ?_)
    · replace hr := hr.trans (if_neg c_30)
      exact g_endUv (Pic := (fun u => xB D ad ca K u)) (u := d) hF hQ hr hP hS dX2_put_48
    · replace hr := hr.trans (if_pos c_30)
      refine lv_aload_n hx hb dX2_put_33 rfl (lv_at hl 0 rfl) ?_
      refine lv_aload_n hx hb dX2_put_34 rfl (lv_at hl 0 rfl) ?_
      refine xg_4_3 hx hb hts hown hK hP (hts _ q231) dX2_put_35 ?_
      refine xgn_9_4 hx hb hts hown hK hP (xq_q189 hN) dX2_put_38 ?_
      refine lv_iload_n hx hb dX2_put_41 rfl (lv_at hl 1 rfl) ?_
      refine xl_11 hx hb hK hP hk dX2_put_42 ?_
      refine lv_iload_n hx hb dX2_put_43 rfl (lv_at hl 2 rfl) ?_
      refine lv_lload_n hx hb dX2_put_44 rfl (lv_at hl 3 rfl) ?_
      obtain ⟨g1, eg1⟩ : ∃ z, z = x_setRegister ((kx_regs K) k.toNatClampNeg) sz v d := ⟨_, rfl⟩
      replace hr := hr.trans (bnd_eq eg1)
      refine g_UV0 (As := [.int ((kx_regs K) k.toNatClampNeg), .int sz, .long v]) (rest := []) hC (m_X2_setRegister hI (K := K) (d := d) ((kx_regs K) k.toNatClampNeg) sz v g1 eg1 (hgd.2.1 _ hk)) (cwV 3 hts cw_X2_118 rfl rfl rfl hd_X2_setRegister ⟨Nat.le_of_ble_eq_true rfl, Nat.le_of_ble_eq_true rfl⟩) xKst (va_recv hK hP (ci := 2) (q0 := 4) rfl rfl) hP hKp ⟨Nat.zero_le _, Nat.zero_le _⟩ hS (fun _ h => h) rfl hl.1 rfl (Nat.le_of_ble_eq_true rfl) dX2_put_45 (fun H locs hP hS => ?_)
      have hP : va_P D xcl (XW ad ca K g1) H := hP
      exact g_endUv (Pic := (fun u => xB D ad ca K u)) (u := g1) hF hQ hr hP hS dX2_put_48
  · replace hr := hr.trans (if_pos c_10)
    refine lv_aload_n hx hb dX2_put_13 rfl (lv_at hl 0 rfl) ?_
    refine lv_aload_n hx hb dX2_put_14 rfl (lv_at hl 0 rfl) ?_
    refine g_RV (As := []) (rest := [.ref (ad 4)]) hC (m_X2_address (K := K) (d := d)  _ rfl (hgd.2.2 _ hk c_10)) (cwV 0 hts cw_X2_97 rfl rfl rfl hd_X2_address ⟨Nat.le_of_ble_eq_true rfl, Nat.le_of_ble_eq_true rfl⟩) xKst (va_recv hK hP (ci := 2) (q0 := 4) rfl rfl) hP hKp ⟨Nat.zero_le _, Nat.zero_le _⟩ rfl hl.1 rfl (Nat.le_of_ble_eq_true rfl) dX2_put_15 ?_
    refine lv_iload_n hx hb dX2_put_18 rfl (lv_at hl 2 rfl) ?_
    refine lv_lload_n hx hb dX2_put_19 rfl (lv_at hl 3 rfl) ?_
    obtain ⟨g2, eg2⟩ : ∃ z, z = x_store K (x_address K d) sz v d := ⟨_, rfl⟩
    replace hr := hr.trans (bnd_eq eg2)
    refine g_UV0 (As := [.long (x_address K d), .int sz, .long v]) (rest := []) hC (m_X2_store hI (K := K) (d := d) (x_address K d) sz v g2 eg2 hgd.1) (cwV 3 hts cw_X2_115 rfl rfl rfl hd_X2_store ⟨Nat.le_of_ble_eq_true rfl, Nat.le_of_ble_eq_true rfl⟩) xKst (va_recv hK hP (ci := 2) (q0 := 4) rfl rfl) hP hKp ⟨Nat.zero_le _, Nat.zero_le _⟩ hS (fun _ h => h) rfl hl.1 rfl (Nat.le_of_ble_eq_true rfl) dX2_put_20 (fun H locs hP hS => ?_)
    have hP : va_P D xcl (XW ad ca K g2) H := hP
    refine lv_goto (tgt := 48) hx hb dX2_put_23 (by decide) ?_
    exact g_endUv (Pic := (fun u => xB D ad ca K u)) (u := g2) hF hQ hr hP hS dX2_put_48
def x_mark (mk : Int32) (b : Bool) (d : XD) : XD := if (b2i b) = 0 then (bnd (dx_flags_ ((dx_flags d) &&& (mk ^^^ (-1 : Int32))) d) fun d1 => d1) else (bnd (dx_flags_ ((dx_flags d) ||| mk) d) fun d2 => d2)
abbrev rm_X2_mark : Room := { frames := 0, cells := 0, slots := 0, locals := 0 }
set_option maxHeartbeats 4000000 in
set_option maxRecDepth 100000 in
theorem m_X2_mark {l : Launch} {D : va_G} {ad : Nat → Nat} {ca : Nat → ClassId} (hI : xInj ad) {K : XK} {d : XD} (mk : Int32) (b : Bool) (RES : XD) (hr : RES = x_mark mk b d) : g_U l yX2_mark (ws_ yX2_mark cX2_mark 3 none) rm_X2_mark [.ref (ad 4), .int mk, .int (b2i b)] (xKp D ca) (xB D ad ca K d) none (xB D ad ca K RES) (xA ad) := by
  refine g_ofU (by decide) (Nat.le_of_ble_eq_true rfl) ?_
  intro p e s m args below meth c ls Q hF hB hKp hl hQ
  obtain ⟨hx, hb, -, -, hml, hown, hts⟩ := id hF
  have hown : s.vm.findClass RX2 = some m.cls := hown
  have hC : CallFix p m c cX2_mark 3 s args lw_all RX2 := ⟨hx, hb, hml, hown, hts⟩
  obtain ⟨hK, hN⟩ := id hKp
  have hP : va_P D xcl (XW ad ca K d) s.heap := hB
  have hS : va_S (xA ad) s.heap s.heap [] := va_S.rf
  have hl : lv_has ls 3 [(0, .ref (ad 4)), (1, .int mk), (2, .int (b2i b))] := hl
  unfold x_mark at hr
  refine lv_aload_n hx hb dX2_mark_0 rfl (lv_at hl 0 rfl) ?_
  refine lv_iload_n hx hb dX2_mark_1 rfl (lv_at hl 2 rfl) ?_
  refine lv_if_eq (tgt := 14) hx hb dX2_mark_2 (by decide) (fun c_2 => ?_) (fun c_2 => ?_)
  · replace hr := hr.trans (if_pos c_2)
    refine lv_aload_n hx hb dX2_mark_14 rfl (lv_at hl 0 rfl) ?_
    refine xg_4_8 hx hb hts hown hK hP (hts _ q240) dX2_mark_15 ?_
    refine lv_iload_n hx hb dX2_mark_18 rfl (lv_at hl 1 rfl) ?_
    refine lv_iconst (v := (-1 : Int32)) hx hb dX2_mark_19 ic_m1 ?_
    refine lv_ixor hx hb dX2_mark_20 ?_
    refine lv_iand hx hb dX2_mark_21 ?_
    refine xp_4_8 (v := ((dx_flags d) &&& (mk ^^^ (-1 : Int32)))) hx hb hts hown hK hI hP hS (hts _ q240) dX2_mark_22 (fun d1 ed1 H locs hP hS => ?_)
    replace hr := hr.trans (bnd_eq ed1)
    exact g_endUv (Pic := (fun u => xB D ad ca K u)) (u := d1) hF hQ hr hP hS dX2_mark_25
  · replace hr := hr.trans (if_neg c_2)
    refine lv_aload_n hx hb dX2_mark_5 rfl (lv_at hl 0 rfl) ?_
    refine xg_4_8 hx hb hts hown hK hP (hts _ q240) dX2_mark_6 ?_
    refine lv_iload_n hx hb dX2_mark_9 rfl (lv_at hl 1 rfl) ?_
    refine lv_ior hx hb dX2_mark_10 ?_
    refine lv_goto (tgt := 22) hx hb dX2_mark_11 (by decide) ?_
    refine xp_4_8 (v := ((dx_flags d) ||| mk)) hx hb hts hown hK hI hP hS (hts _ q240) dX2_mark_22 (fun d2 ed2 H locs hP hS => ?_)
    replace hr := hr.trans (bnd_eq ed2)
    exact g_endUv (Pic := (fun u => xB D ad ca K u)) (u := d2) hF hQ hr hP hS dX2_mark_25
def x_is (mk : Int32) (d : XD) : Bool := if ((dx_flags d) &&& mk) = 0 then false else true
abbrev rm_X2_is : Room := { frames := 0, cells := 0, slots := 0, locals := 0 }
set_option maxHeartbeats 4000000 in
set_option maxRecDepth 100000 in
theorem m_X2_is {l : Launch} {D : va_G} {ad : Nat → Nat} {ca : Nat → ClassId} {K : XK} {d : XD} (mk : Int32) (RES : Bool) (hr : RES = x_is mk d) : g_R l yX2_is (ws_ yX2_is cX2_is 2 (some .boolean)) rm_X2_is [.ref (ad 4), .int mk] (xKp D ca) (xB D ad ca K d) (.int (b2i RES)) := by
  refine g_ofR (by decide) (Nat.le_of_ble_eq_true rfl) ?_
  intro p e s m args below meth c ls Q hF hB hKp hl hQ
  obtain ⟨hx, hb, -, -, hml, hown, hts⟩ := id hF
  have hown : s.vm.findClass RX2 = some m.cls := hown
  have hC : CallFix p m c cX2_is 2 s args lw_all RX2 := ⟨hx, hb, hml, hown, hts⟩
  obtain ⟨hK, hN⟩ := id hKp
  have hP : va_P D xcl (XW ad ca K d) s.heap := hB
  have hl : lv_has ls 2 [(0, .ref (ad 4)), (1, .int mk)] := hl
  unfold x_is at hr
  refine lv_aload_n hx hb dX2_is_0 rfl (lv_at hl 0 rfl) ?_
  refine xg_4_8 hx hb hts hown hK hP (hts _ q240) dX2_is_1 ?_
  refine lv_iload_n hx hb dX2_is_4 rfl (lv_at hl 1 rfl) ?_
  refine lv_iand hx hb dX2_is_5 ?_
  refine lv_if_eq (tgt := 13) hx hb dX2_is_6 (by decide) (fun c_6 => ?_) (fun c_6 => ?_)
  · replace hr := hr.trans (if_pos c_6)
    refine lv_iconst (v := (0 : Int32)) hx hb dX2_is_13 ic_0 ?_
    exact g_endRz hF hQ hr rfl dX2_is_14
  · replace hr := hr.trans (if_neg c_6)
    refine lv_iconst (v := (1 : Int32)) hx hb dX2_is_9 ic_1 ?_
    refine lv_goto (tgt := 14) hx hb dX2_is_10 (by decide) ?_
    exact g_endRz hF hQ hr rfl dX2_is_14
def x_follow (v : Int64) (sz : Int32) (d : XD) : XD := bnd (α := Bool) (if (x_cut v sz) = (0 : Int64) then true else false) fun p1 => bnd (x_mark (64 : Int32) p1 d) fun g2 => bnd (x_mark (128 : Int32) (x_isNegative v sz) g2) fun g3 => bnd (α := Int32) (((v.toInt32) &&& (255 : Int32))) fun v4 => bnd (α := Int32) ((v4 ^^^ (v4 >>> ((4 : Int32) &&& 31)))) fun v5 => bnd (α := Int32) ((v5 ^^^ (v5 >>> ((2 : Int32) &&& 31)))) fun v6 => bnd (α := Int32) ((v6 ^^^ (v6 >>> ((1 : Int32) &&& 31)))) fun v7 => if (v7 &&& (1 : Int32)) = 0 then (bnd (x_mark (4 : Int32) true g3) fun g9 => g9) else (bnd (x_mark (4 : Int32) false g3) fun g8 => g8)
abbrev rm_X2_follow : Room := { frames := 2, cells := 0, slots := 0, locals := 44 }
set_option maxHeartbeats 4000000 in
set_option maxRecDepth 100000 in
theorem m_X2_follow {l : Launch} {D : va_G} {ad : Nat → Nat} {ca : Nat → ClassId} (hI : xInj ad) {K : XK} {d : XD} (v : Int64) (sz : Int32) (RES : XD) (hr : RES = x_follow v sz d) : g_U l yX2_follow (ws_ yX2_follow cX2_follow 5 none) rm_X2_follow [.ref (ad 4), .long v, .int sz] (xKp D ca) (xB D ad ca K d) none (xB D ad ca K RES) (xA ad) := by
  refine g_ofU (by decide) (Nat.le_of_ble_eq_true rfl) ?_
  intro p e s m args below meth c ls Q hF hB hKp hl hQ
  obtain ⟨hx, hb, -, -, hml, hown, hts⟩ := id hF
  have hown : s.vm.findClass RX2 = some m.cls := hown
  have hC : CallFix p m c cX2_follow 5 s args lw_all RX2 := ⟨hx, hb, hml, hown, hts⟩
  obtain ⟨hK, hN⟩ := id hKp
  have hP : va_P D xcl (XW ad ca K d) s.heap := hB
  have hS : va_S (xA ad) s.heap s.heap [] := va_S.rf
  have hl : lv_has ls 5 [(0, .ref (ad 4)), (1, .long v), (3, .int sz)] := hl
  unfold x_follow at hr
  refine lv_aload_n hx hb dX2_follow_0 rfl (lv_at hl 0 rfl) ?_
  refine lv_bipush (v := (64 : Int32)) hx hb dX2_follow_1 bp_64 ?_
  refine lv_lload_n hx hb dX2_follow_3 rfl (lv_at hl 1 rfl) ?_
  refine lv_iload_n hx hb dX2_follow_4 rfl (lv_at hl 2 rfl) ?_
  refine g_RS (As := [.long v, .int sz]) (rest := [.int (64 : Int32), .ref (ad 4)]) hC (m_X2_cut v sz _ rfl) (va_cwS 2 hts cw_X2_110 rfl rfl rfl hd_X2_cut ⟨Nat.le_of_ble_eq_true rfl, Nat.le_of_ble_eq_true rfl⟩) g_Kst0 trivial trivial ⟨Nat.zero_le _, Nat.zero_le _⟩ rfl hl.1 rfl (Nat.le_of_ble_eq_true rfl) dX2_follow_5 ?_
  refine lv_lconst (v := (0 : Int64)) hx hb dX2_follow_8 lc_0 ?_
  obtain ⟨p1, ep1⟩ : ∃ z : Bool, z = (if (x_cut v sz) = (0 : Int64) then true else false) := ⟨_, rfl⟩
  replace hr := hr.trans (bnd_eq ep1)
  have kp1 : ∀ (H : Heap) (locs : List Loc) (ls : Array Slot), va_P D xcl (XW ad ca K d) H → va_S (xA ad) s.heap H locs → lv_has ls 5 [(0, .ref (ad 4)), (1, .long v), (3, .int sz)] → W p l e rm_X2_follow s m args below meth c H locs 0 0 Q (F0 m 18 ls [.int (b2i p1), .int (64 : Int32), .ref (ad 4)]) := by
    intro H locs ls hP hS hl
    obtain ⟨g2, eg2⟩ : ∃ z, z = x_mark (64 : Int32) p1 d := ⟨_, rfl⟩
    replace hr := hr.trans (bnd_eq eg2)
    refine g_UV0 (As := [.int (64 : Int32), .int (b2i p1)]) (rest := []) hC (m_X2_mark hI (K := K) (d := d) (64 : Int32) p1 g2 eg2) (cwV 2 hts cw_X2_125 rfl rfl rfl hd_X2_mark ⟨Nat.le_of_ble_eq_true rfl, Nat.le_of_ble_eq_true rfl⟩) xKst (va_recv hK hP (ci := 2) (q0 := 4) rfl rfl) hP hKp ⟨Nat.zero_le _, Nat.zero_le _⟩ hS (fun _ h => h) rfl hl.1 rfl (Nat.le_of_ble_eq_true rfl) dX2_follow_18 (fun H locs hP hS => ?_)
    have hP : va_P D xcl (XW ad ca K g2) H := hP
    refine lv_aload_n hx hb dX2_follow_21 rfl (lv_at hl 0 rfl) ?_
    refine lv_sipush (v := (128 : Int32)) hx hb dX2_follow_22 sp_128 ?_
    refine lv_lload_n hx hb dX2_follow_25 rfl (lv_at hl 1 rfl) ?_
    refine lv_iload_n hx hb dX2_follow_26 rfl (lv_at hl 2 rfl) ?_
    refine g_RS (As := [.long v, .int sz]) (rest := [.int (128 : Int32), .ref (ad 4)]) hC (m_X2_isNegative v sz _ rfl) (va_cwS 2 hts cw_X2_129 rfl rfl rfl hd_X2_isNegative ⟨Nat.le_of_ble_eq_true rfl, Nat.le_of_ble_eq_true rfl⟩) g_Kst0 trivial trivial ⟨Nat.zero_le _, Nat.zero_le _⟩ rfl hl.1 rfl (Nat.le_of_ble_eq_true rfl) dX2_follow_27 ?_
    obtain ⟨g3, eg3⟩ : ∃ z, z = x_mark (128 : Int32) (x_isNegative v sz) g2 := ⟨_, rfl⟩
    replace hr := hr.trans (bnd_eq eg3)
    refine g_UV0 (As := [.int (128 : Int32), .int (b2i (x_isNegative v sz))]) (rest := []) hC (m_X2_mark hI (K := K) (d := g2) (128 : Int32) (x_isNegative v sz) g3 eg3) (cwV 2 hts cw_X2_125 rfl rfl rfl hd_X2_mark ⟨Nat.le_of_ble_eq_true rfl, Nat.le_of_ble_eq_true rfl⟩) xKst (va_recv hK hP (ci := 2) (q0 := 4) rfl rfl) hP hKp ⟨Nat.zero_le _, Nat.zero_le _⟩ hS (fun _ h => h) rfl hl.1 rfl (Nat.le_of_ble_eq_true rfl) dX2_follow_30 (fun H locs hP hS => ?_)
    have hP : va_P D xcl (XW ad ca K g3) H := hP
    refine lv_lload_n hx hb dX2_follow_33 rfl (lv_at hl 1 rfl) ?_
    refine lv_l2i (v := v.toInt32) hx hb dX2_follow_34 rfl ?_
    refine lv_sipush (v := (255 : Int32)) hx hb dX2_follow_35 sp_255 ?_
    refine lv_iand hx hb dX2_follow_38 ?_
    refine lv_topi (fun v4 ev4 => ?_)
    replace hr := hr.trans (bnd_eq ev4)
    refine lv_istore (lv' := [(4, .int v4), (0, .ref (ad 4)), (1, .long v), (3, .int sz)]) hx hb dX2_follow_39 hl (by decide) rfl (fun ls hl => ?_)
    refine lv_iload hx hb dX2_follow_41 (lv_at hl 0 rfl) ?_
    refine lv_iload hx hb dX2_follow_43 (lv_at hl 0 rfl) ?_
    refine lv_iconst (v := (4 : Int32)) hx hb dX2_follow_45 ic_4 ?_
    refine lv_ishr hx hb dX2_follow_46 ?_
    refine lv_ixor hx hb dX2_follow_47 ?_
    refine lv_topi (fun v5 ev5 => ?_)
    replace hr := hr.trans (bnd_eq ev5)
    refine lv_istore (lv' := [(4, .int v5), (0, .ref (ad 4)), (1, .long v), (3, .int sz)]) hx hb dX2_follow_48 hl (by decide) rfl (fun ls hl => ?_)
    refine lv_iload hx hb dX2_follow_50 (lv_at hl 0 rfl) ?_
    refine lv_iload hx hb dX2_follow_52 (lv_at hl 0 rfl) ?_
    refine lv_iconst (v := (2 : Int32)) hx hb dX2_follow_54 ic_2 ?_
    refine lv_ishr hx hb dX2_follow_55 ?_
    refine lv_ixor hx hb dX2_follow_56 ?_
    refine lv_topi (fun v6 ev6 => ?_)
    replace hr := hr.trans (bnd_eq ev6)
    refine lv_istore (lv' := [(4, .int v6), (0, .ref (ad 4)), (1, .long v), (3, .int sz)]) hx hb dX2_follow_57 hl (by decide) rfl (fun ls hl => ?_)
    refine lv_iload hx hb dX2_follow_59 (lv_at hl 0 rfl) ?_
    refine lv_iload hx hb dX2_follow_61 (lv_at hl 0 rfl) ?_
    refine lv_iconst (v := (1 : Int32)) hx hb dX2_follow_63 ic_1 ?_
    refine lv_ishr hx hb dX2_follow_64 ?_
    refine lv_ixor hx hb dX2_follow_65 ?_
    refine lv_topi (fun v7 ev7 => ?_)
    replace hr := hr.trans (bnd_eq ev7)
    refine lv_istore (lv' := [(4, .int v7), (0, .ref (ad 4)), (1, .long v), (3, .int sz)]) hx hb dX2_follow_66 hl (by decide) rfl (fun ls hl => ?_)
    refine lv_aload_n hx hb dX2_follow_68 rfl (lv_at hl 1 rfl) ?_
    refine lv_iconst (v := (4 : Int32)) hx hb dX2_follow_69 ic_4 ?_
    refine lv_iload hx hb dX2_follow_70 (lv_at hl 0 rfl) ?_
    refine lv_iconst (v := (1 : Int32)) hx hb dX2_follow_72 ic_1 ?_
    refine lv_iand hx hb dX2_follow_73 ?_
    refine lv_if_ne (tgt := 81) hx hb dX2_follow_74 (by decide) (fun c_74 => ?_) (fun c_74 => ?_)
    · replace hr := hr.trans (if_neg c_74)
      refine lv_iconst (v := (0 : Int32)) hx hb dX2_follow_81 ic_0 ?_
      obtain ⟨g8, eg8⟩ : ∃ z, z = x_mark (4 : Int32) false g3 := ⟨_, rfl⟩
      replace hr := hr.trans (bnd_eq eg8)
      refine g_UV0 (As := [.int (4 : Int32), .int (b2i false)]) (rest := []) hC (m_X2_mark hI (K := K) (d := g3) (4 : Int32) false g8 eg8) (cwV 2 hts cw_X2_125 rfl rfl rfl hd_X2_mark ⟨Nat.le_of_ble_eq_true rfl, Nat.le_of_ble_eq_true rfl⟩) xKst (va_recv hK hP (ci := 2) (q0 := 4) rfl rfl) hP hKp ⟨Nat.zero_le _, Nat.zero_le _⟩ hS (fun _ h => h) rfl hl.1 rfl (Nat.le_of_ble_eq_true rfl) dX2_follow_82 (fun H locs hP hS => ?_)
      have hP : va_P D xcl (XW ad ca K g8) H := hP
      exact g_endUv (Pic := (fun u => xB D ad ca K u)) (u := g8) hF hQ hr hP hS dX2_follow_85
    · replace hr := hr.trans (if_pos c_74)
      refine lv_iconst (v := (1 : Int32)) hx hb dX2_follow_77 ic_1 ?_
      refine lv_goto (tgt := 82) hx hb dX2_follow_78 (by decide) ?_
      obtain ⟨g9, eg9⟩ : ∃ z, z = x_mark (4 : Int32) true g3 := ⟨_, rfl⟩
      replace hr := hr.trans (bnd_eq eg9)
      refine g_UV0 (As := [.int (4 : Int32), .int (b2i true)]) (rest := []) hC (m_X2_mark hI (K := K) (d := g3) (4 : Int32) true g9 eg9) (cwV 2 hts cw_X2_125 rfl rfl rfl hd_X2_mark ⟨Nat.le_of_ble_eq_true rfl, Nat.le_of_ble_eq_true rfl⟩) xKst (va_recv hK hP (ci := 2) (q0 := 4) rfl rfl) hP hKp ⟨Nat.zero_le _, Nat.zero_le _⟩ hS (fun _ h => h) rfl hl.1 rfl (Nat.le_of_ble_eq_true rfl) dX2_follow_82 (fun H locs hP hS => ?_)
      have hP : va_P D xcl (XW ad ca K g9) H := hP
      exact g_endUv (Pic := (fun u => xB D ad ca K u)) (u := g9) hF hQ hr hP hS dX2_follow_85
  replace hr := ep1
  refine lq_ne (tgt := 17) hx hb dX2_follow_9 dX2_follow_10 (by decide) (fun c_9 => ?_) (fun c_9 => ?_)
  · replace hr := hr.trans (if_neg c_9)
    refine lv_iconst (v := (0 : Int32)) hx hb dX2_follow_17 ic_0 ?_
    subst hr
    exact kp1 _ _ ls hP hS (lv_sub hl [0, 1, 2] rfl)
  · replace hr := hr.trans (if_pos c_9)
    refine lv_iconst (v := (1 : Int32)) hx hb dX2_follow_13 ic_1 ?_
    refine lv_goto (tgt := 18) hx hb dX2_follow_14 (by decide) ?_
    subst hr
    exact kp1 _ _ ls hP hS (lv_sub hl [0, 1, 2] rfl)
def x_sum (x : Int64) (y : Int64) (cy : Bool) (sz : Int32) (d : XD) : Int64 × XD := bnd (α := Int64) (if (b2i cy) = 0 then (0 : Int64) else (1 : Int64)) fun p1 => bnd (α := Int64) (((x + y) + p1)) fun v2 => bnd (x_mark (1 : Int32) (x_bit ((x &&& y) ||| ((x ||| y) &&& (v2 ^^^ (-1 : Int64)))) (((8 : Int32) * sz) - (1 : Int32))) d) fun g3 => bnd (x_mark (2048 : Int32) (x_bit ((x ^^^ v2) &&& (y ^^^ v2)) (((8 : Int32) * sz) - (1 : Int32))) g3) fun g4 => bnd (x_follow v2 sz g4) fun g5 => (v2, g5)
abbrev rm_X2_sum : Room := { frames := 3, cells := 0, slots := 0, locals := 68 }
set_option maxHeartbeats 4000000 in
set_option maxRecDepth 100000 in
theorem m_X2_sum {l : Launch} {D : va_G} {ad : Nat → Nat} {ca : Nat → ClassId} (hI : xInj ad) {K : XK} {d : XD} (x : Int64) (y : Int64) (cy : Bool) (sz : Int32) (RES : Int64 × XD) (hr : RES = x_sum x y cy sz d) : g_U l yX2_sum (ws_ yX2_sum cX2_sum 9 (some .long)) rm_X2_sum [.ref (ad 4), .long x, .long y, .int (b2i cy), .int sz] (xKp D ca) (xB D ad ca K d) (some (.long RES.1)) (xB D ad ca K RES.2) (xA ad) := by
  refine g_ofU (by decide) (Nat.le_of_ble_eq_true rfl) ?_
  intro p e s m args below meth c ls Q hF hB hKp hl hQ
  obtain ⟨hx, hb, -, -, hml, hown, hts⟩ := id hF
  have hown : s.vm.findClass RX2 = some m.cls := hown
  have hC : CallFix p m c cX2_sum 9 s args lw_all RX2 := ⟨hx, hb, hml, hown, hts⟩
  obtain ⟨hK, hN⟩ := id hKp
  have hP : va_P D xcl (XW ad ca K d) s.heap := hB
  have hS : va_S (xA ad) s.heap s.heap [] := va_S.rf
  have hl : lv_has ls 9 [(0, .ref (ad 4)), (1, .long x), (3, .long y), (5, .int (b2i cy)), (6, .int sz)] := hl
  unfold x_sum at hr
  refine lv_lload_n hx hb dX2_sum_0 rfl (lv_at hl 1 rfl) ?_
  refine lv_lload_n hx hb dX2_sum_1 rfl (lv_at hl 2 rfl) ?_
  refine lv_ladd hx hb dX2_sum_2 ?_
  refine lv_iload hx hb dX2_sum_3 (lv_at hl 3 rfl) ?_
  obtain ⟨p1, ep1⟩ : ∃ z : Int64, z = (if (b2i cy) = 0 then (0 : Int64) else (1 : Int64)) := ⟨_, rfl⟩
  replace hr := hr.trans (bnd_eq ep1)
  have kp1 : ∀ (H : Heap) (locs : List Loc) (ls : Array Slot), va_P D xcl (XW ad ca K d) H → va_S (xA ad) s.heap H locs → lv_has ls 9 [(0, .ref (ad 4)), (1, .long x), (3, .long y), (5, .int (b2i cy)), (6, .int sz)] → W p l e rm_X2_sum s m args below meth c H locs 0 0 Q (F0 m 13 ls [.long p1, .long (x + y)]) := by
    intro H locs ls hP hS hl
    refine lv_ladd hx hb dX2_sum_13 ?_
    refine lv_topl (fun v2 ev2 => ?_)
    replace hr := hr.trans (bnd_eq ev2)
    refine lv_lstore (lv' := [(7, .long v2), (0, .ref (ad 4)), (1, .long x), (3, .long y), (5, .int (b2i cy)), (6, .int sz)]) hx hb dX2_sum_14 hl (by decide) rfl (fun ls hl => ?_)
    refine lv_aload_n hx hb dX2_sum_16 rfl (lv_at hl 1 rfl) ?_
    refine lv_iconst (v := (1 : Int32)) hx hb dX2_sum_17 ic_1 ?_
    refine lv_lload_n hx hb dX2_sum_18 rfl (lv_at hl 2 rfl) ?_
    refine lv_lload_n hx hb dX2_sum_19 rfl (lv_at hl 3 rfl) ?_
    refine lv_land hx hb dX2_sum_20 ?_
    refine lv_lload_n hx hb dX2_sum_21 rfl (lv_at hl 2 rfl) ?_
    refine lv_lload_n hx hb dX2_sum_22 rfl (lv_at hl 3 rfl) ?_
    refine lv_lor hx hb dX2_sum_23 ?_
    refine lv_lload hx hb dX2_sum_24 (lv_at hl 0 rfl) ?_
    refine lv_ldc2 hx hb hown (hts _ q432) dX2_sum_26 ?_
    refine lv_lxor hx hb dX2_sum_29 ?_
    refine lv_land hx hb dX2_sum_30 ?_
    refine lv_lor hx hb dX2_sum_31 ?_
    refine lv_bipush (v := (8 : Int32)) hx hb dX2_sum_32 bp_8 ?_
    refine lv_iload hx hb dX2_sum_34 (lv_at hl 5 rfl) ?_
    refine lv_imul hx hb dX2_sum_36 ?_
    refine lv_iconst (v := (1 : Int32)) hx hb dX2_sum_37 ic_1 ?_
    refine lv_isub hx hb dX2_sum_38 ?_
    refine g_RS (As := [.long ((x &&& y) ||| ((x ||| y) &&& (v2 ^^^ (-1 : Int64)))), .int (((8 : Int32) * sz) - (1 : Int32))]) (rest := [.int (1 : Int32), .ref (ad 4)]) hC (m_X2_bit ((x &&& y) ||| ((x ||| y) &&& (v2 ^^^ (-1 : Int64)))) (((8 : Int32) * sz) - (1 : Int32)) _ rfl) (va_cwS 2 hts cw_X2_135 rfl rfl rfl hd_X2_bit ⟨Nat.le_of_ble_eq_true rfl, Nat.le_of_ble_eq_true rfl⟩) g_Kst0 trivial trivial ⟨Nat.zero_le _, Nat.zero_le _⟩ rfl hl.1 rfl (Nat.le_of_ble_eq_true rfl) dX2_sum_39 ?_
    obtain ⟨g3, eg3⟩ : ∃ z, z = x_mark (1 : Int32) (x_bit ((x &&& y) ||| ((x ||| y) &&& (v2 ^^^ (-1 : Int64)))) (((8 : Int32) * sz) - (1 : Int32))) d := ⟨_, rfl⟩
    replace hr := hr.trans (bnd_eq eg3)
    refine g_UV0 (As := [.int (1 : Int32), .int (b2i (x_bit ((x &&& y) ||| ((x ||| y) &&& (v2 ^^^ (-1 : Int64)))) (((8 : Int32) * sz) - (1 : Int32))))]) (rest := []) hC (m_X2_mark hI (K := K) (d := d) (1 : Int32) (x_bit ((x &&& y) ||| ((x ||| y) &&& (v2 ^^^ (-1 : Int64)))) (((8 : Int32) * sz) - (1 : Int32))) g3 eg3) (cwV 2 hts cw_X2_125 rfl rfl rfl hd_X2_mark ⟨Nat.le_of_ble_eq_true rfl, Nat.le_of_ble_eq_true rfl⟩) xKst (va_recv hK hP (ci := 2) (q0 := 4) rfl rfl) hP hKp ⟨Nat.zero_le _, Nat.zero_le _⟩ hS (fun _ h => h) rfl hl.1 rfl (Nat.le_of_ble_eq_true rfl) dX2_sum_42 (fun H locs hP hS => ?_)
    have hP : va_P D xcl (XW ad ca K g3) H := hP
    refine lv_aload_n hx hb dX2_sum_45 rfl (lv_at hl 1 rfl) ?_
    refine lv_sipush (v := (2048 : Int32)) hx hb dX2_sum_46 sp_2048 ?_
    refine lv_lload_n hx hb dX2_sum_49 rfl (lv_at hl 2 rfl) ?_
    refine lv_lload hx hb dX2_sum_50 (lv_at hl 0 rfl) ?_
    refine lv_lxor hx hb dX2_sum_52 ?_
    refine lv_lload_n hx hb dX2_sum_53 rfl (lv_at hl 3 rfl) ?_
    refine lv_lload hx hb dX2_sum_54 (lv_at hl 0 rfl) ?_
    refine lv_lxor hx hb dX2_sum_56 ?_
    refine lv_land hx hb dX2_sum_57 ?_
    refine lv_bipush (v := (8 : Int32)) hx hb dX2_sum_58 bp_8 ?_
    refine lv_iload hx hb dX2_sum_60 (lv_at hl 5 rfl) ?_
    refine lv_imul hx hb dX2_sum_62 ?_
    refine lv_iconst (v := (1 : Int32)) hx hb dX2_sum_63 ic_1 ?_
    refine lv_isub hx hb dX2_sum_64 ?_
    refine g_RS (As := [.long ((x ^^^ v2) &&& (y ^^^ v2)), .int (((8 : Int32) * sz) - (1 : Int32))]) (rest := [.int (2048 : Int32), .ref (ad 4)]) hC (m_X2_bit ((x ^^^ v2) &&& (y ^^^ v2)) (((8 : Int32) * sz) - (1 : Int32)) _ rfl) (va_cwS 2 hts cw_X2_135 rfl rfl rfl hd_X2_bit ⟨Nat.le_of_ble_eq_true rfl, Nat.le_of_ble_eq_true rfl⟩) g_Kst0 trivial trivial ⟨Nat.zero_le _, Nat.zero_le _⟩ rfl hl.1 rfl (Nat.le_of_ble_eq_true rfl) dX2_sum_65 ?_
    obtain ⟨g4, eg4⟩ : ∃ z, z = x_mark (2048 : Int32) (x_bit ((x ^^^ v2) &&& (y ^^^ v2)) (((8 : Int32) * sz) - (1 : Int32))) g3 := ⟨_, rfl⟩
    replace hr := hr.trans (bnd_eq eg4)
    refine g_UV0 (As := [.int (2048 : Int32), .int (b2i (x_bit ((x ^^^ v2) &&& (y ^^^ v2)) (((8 : Int32) * sz) - (1 : Int32))))]) (rest := []) hC (m_X2_mark hI (K := K) (d := g3) (2048 : Int32) (x_bit ((x ^^^ v2) &&& (y ^^^ v2)) (((8 : Int32) * sz) - (1 : Int32))) g4 eg4) (cwV 2 hts cw_X2_125 rfl rfl rfl hd_X2_mark ⟨Nat.le_of_ble_eq_true rfl, Nat.le_of_ble_eq_true rfl⟩) xKst (va_recv hK hP (ci := 2) (q0 := 4) rfl rfl) hP hKp ⟨Nat.zero_le _, Nat.zero_le _⟩ hS (fun _ h => h) rfl hl.1 rfl (Nat.le_of_ble_eq_true rfl) dX2_sum_68 (fun H locs hP hS => ?_)
    have hP : va_P D xcl (XW ad ca K g4) H := hP
    refine lv_aload_n hx hb dX2_sum_71 rfl (lv_at hl 1 rfl) ?_
    refine lv_lload hx hb dX2_sum_72 (lv_at hl 0 rfl) ?_
    refine lv_iload hx hb dX2_sum_74 (lv_at hl 5 rfl) ?_
    obtain ⟨g5, eg5⟩ : ∃ z, z = x_follow v2 sz g4 := ⟨_, rfl⟩
    replace hr := hr.trans (bnd_eq eg5)
    refine g_UV0 (As := [.long v2, .int sz]) (rest := []) hC (m_X2_follow hI (K := K) (d := g4) v2 sz g5 eg5) (cwV 2 hts cw_X2_138 rfl rfl rfl hd_X2_follow ⟨Nat.le_of_ble_eq_true rfl, Nat.le_of_ble_eq_true rfl⟩) xKst (va_recv hK hP (ci := 2) (q0 := 4) rfl rfl) hP hKp ⟨Nat.zero_le _, Nat.zero_le _⟩ hS (fun _ h => h) rfl hl.1 rfl (Nat.le_of_ble_eq_true rfl) dX2_sum_76 (fun H locs hP hS => ?_)
    have hP : va_P D xcl (XW ad ca K g5) H := hP
    refine lv_lload hx hb dX2_sum_79 (lv_at hl 0 rfl) ?_
    exact g_endUl (Pic := (fun u => xB D ad ca K u)) (u := g5) hF hQ hr hP hS dX2_sum_81
  replace hr := ep1
  refine lv_if_eq (tgt := 12) hx hb dX2_sum_5 (by decide) (fun c_5 => ?_) (fun c_5 => ?_)
  · replace hr := hr.trans (if_pos c_5)
    refine lv_lconst (v := (0 : Int64)) hx hb dX2_sum_12 lc_0 ?_
    subst hr
    exact kp1 _ _ ls hP hS (lv_sub hl [0, 1, 2, 3, 4] rfl)
  · replace hr := hr.trans (if_neg c_5)
    refine lv_lconst (v := (1 : Int64)) hx hb dX2_sum_8 lc_1 ?_
    refine lv_goto (tgt := 13) hx hb dX2_sum_9 (by decide) ?_
    subst hr
    exact kp1 _ _ ls hP hS (lv_sub hl [0, 1, 2, 3, 4] rfl)
def x_difference (x : Int64) (y : Int64) (cy : Bool) (sz : Int32) (d : XD) : Int64 × XD := bnd (α := Int64) (if (b2i cy) = 0 then (0 : Int64) else (1 : Int64)) fun p1 => bnd (α := Int64) (((x - y) - p1)) fun v2 => bnd (x_mark (1 : Int32) (x_bit (((x ^^^ (-1 : Int64)) &&& y) ||| (((x ^^^ (-1 : Int64)) ||| y) &&& v2)) (((8 : Int32) * sz) - (1 : Int32))) d) fun g3 => bnd (x_mark (2048 : Int32) (x_bit ((x ^^^ y) &&& (x ^^^ v2)) (((8 : Int32) * sz) - (1 : Int32))) g3) fun g4 => bnd (x_follow v2 sz g4) fun g5 => (v2, g5)
abbrev rm_X2_difference : Room := { frames := 3, cells := 0, slots := 0, locals := 68 }
set_option maxHeartbeats 4000000 in
set_option maxRecDepth 100000 in
theorem m_X2_difference {l : Launch} {D : va_G} {ad : Nat → Nat} {ca : Nat → ClassId} (hI : xInj ad) {K : XK} {d : XD} (x : Int64) (y : Int64) (cy : Bool) (sz : Int32) (RES : Int64 × XD) (hr : RES = x_difference x y cy sz d) : g_U l yX2_difference (ws_ yX2_difference cX2_difference 9 (some .long)) rm_X2_difference [.ref (ad 4), .long x, .long y, .int (b2i cy), .int sz] (xKp D ca) (xB D ad ca K d) (some (.long RES.1)) (xB D ad ca K RES.2) (xA ad) := by
  refine g_ofU (by decide) (Nat.le_of_ble_eq_true rfl) ?_
  intro p e s m args below meth c ls Q hF hB hKp hl hQ
  obtain ⟨hx, hb, -, -, hml, hown, hts⟩ := id hF
  have hown : s.vm.findClass RX2 = some m.cls := hown
  have hC : CallFix p m c cX2_difference 9 s args lw_all RX2 := ⟨hx, hb, hml, hown, hts⟩
  obtain ⟨hK, hN⟩ := id hKp
  have hP : va_P D xcl (XW ad ca K d) s.heap := hB
  have hS : va_S (xA ad) s.heap s.heap [] := va_S.rf
  have hl : lv_has ls 9 [(0, .ref (ad 4)), (1, .long x), (3, .long y), (5, .int (b2i cy)), (6, .int sz)] := hl
  unfold x_difference at hr
  refine lv_lload_n hx hb dX2_difference_0 rfl (lv_at hl 1 rfl) ?_
  refine lv_lload_n hx hb dX2_difference_1 rfl (lv_at hl 2 rfl) ?_
  refine lv_lsub hx hb dX2_difference_2 ?_
  refine lv_iload hx hb dX2_difference_3 (lv_at hl 3 rfl) ?_
  obtain ⟨p1, ep1⟩ : ∃ z : Int64, z = (if (b2i cy) = 0 then (0 : Int64) else (1 : Int64)) := ⟨_, rfl⟩
  replace hr := hr.trans (bnd_eq ep1)
  have kp1 : ∀ (H : Heap) (locs : List Loc) (ls : Array Slot), va_P D xcl (XW ad ca K d) H → va_S (xA ad) s.heap H locs → lv_has ls 9 [(0, .ref (ad 4)), (1, .long x), (3, .long y), (5, .int (b2i cy)), (6, .int sz)] → W p l e rm_X2_difference s m args below meth c H locs 0 0 Q (F0 m 13 ls [.long p1, .long (x - y)]) := by
    intro H locs ls hP hS hl
    refine lv_lsub hx hb dX2_difference_13 ?_
    refine lv_topl (fun v2 ev2 => ?_)
    replace hr := hr.trans (bnd_eq ev2)
    refine lv_lstore (lv' := [(7, .long v2), (0, .ref (ad 4)), (1, .long x), (3, .long y), (5, .int (b2i cy)), (6, .int sz)]) hx hb dX2_difference_14 hl (by decide) rfl (fun ls hl => ?_)
    refine lv_aload_n hx hb dX2_difference_16 rfl (lv_at hl 1 rfl) ?_
    refine lv_iconst (v := (1 : Int32)) hx hb dX2_difference_17 ic_1 ?_
    refine lv_lload_n hx hb dX2_difference_18 rfl (lv_at hl 2 rfl) ?_
    refine lv_ldc2 hx hb hown (hts _ q432) dX2_difference_19 ?_
    refine lv_lxor hx hb dX2_difference_22 ?_
    refine lv_lload_n hx hb dX2_difference_23 rfl (lv_at hl 3 rfl) ?_
    refine lv_land hx hb dX2_difference_24 ?_
    refine lv_lload_n hx hb dX2_difference_25 rfl (lv_at hl 2 rfl) ?_
    refine lv_ldc2 hx hb hown (hts _ q432) dX2_difference_26 ?_
    refine lv_lxor hx hb dX2_difference_29 ?_
    refine lv_lload_n hx hb dX2_difference_30 rfl (lv_at hl 3 rfl) ?_
    refine lv_lor hx hb dX2_difference_31 ?_
    refine lv_lload hx hb dX2_difference_32 (lv_at hl 0 rfl) ?_
    refine lv_land hx hb dX2_difference_34 ?_
    refine lv_lor hx hb dX2_difference_35 ?_
    refine lv_bipush (v := (8 : Int32)) hx hb dX2_difference_36 bp_8 ?_
    refine lv_iload hx hb dX2_difference_38 (lv_at hl 5 rfl) ?_
    refine lv_imul hx hb dX2_difference_40 ?_
    refine lv_iconst (v := (1 : Int32)) hx hb dX2_difference_41 ic_1 ?_
    refine lv_isub hx hb dX2_difference_42 ?_
    refine g_RS (As := [.long (((x ^^^ (-1 : Int64)) &&& y) ||| (((x ^^^ (-1 : Int64)) ||| y) &&& v2)), .int (((8 : Int32) * sz) - (1 : Int32))]) (rest := [.int (1 : Int32), .ref (ad 4)]) hC (m_X2_bit (((x ^^^ (-1 : Int64)) &&& y) ||| (((x ^^^ (-1 : Int64)) ||| y) &&& v2)) (((8 : Int32) * sz) - (1 : Int32)) _ rfl) (va_cwS 2 hts cw_X2_135 rfl rfl rfl hd_X2_bit ⟨Nat.le_of_ble_eq_true rfl, Nat.le_of_ble_eq_true rfl⟩) g_Kst0 trivial trivial ⟨Nat.zero_le _, Nat.zero_le _⟩ rfl hl.1 rfl (Nat.le_of_ble_eq_true rfl) dX2_difference_43 ?_
    obtain ⟨g3, eg3⟩ : ∃ z, z = x_mark (1 : Int32) (x_bit (((x ^^^ (-1 : Int64)) &&& y) ||| (((x ^^^ (-1 : Int64)) ||| y) &&& v2)) (((8 : Int32) * sz) - (1 : Int32))) d := ⟨_, rfl⟩
    replace hr := hr.trans (bnd_eq eg3)
    refine g_UV0 (As := [.int (1 : Int32), .int (b2i (x_bit (((x ^^^ (-1 : Int64)) &&& y) ||| (((x ^^^ (-1 : Int64)) ||| y) &&& v2)) (((8 : Int32) * sz) - (1 : Int32))))]) (rest := []) hC (m_X2_mark hI (K := K) (d := d) (1 : Int32) (x_bit (((x ^^^ (-1 : Int64)) &&& y) ||| (((x ^^^ (-1 : Int64)) ||| y) &&& v2)) (((8 : Int32) * sz) - (1 : Int32))) g3 eg3) (cwV 2 hts cw_X2_125 rfl rfl rfl hd_X2_mark ⟨Nat.le_of_ble_eq_true rfl, Nat.le_of_ble_eq_true rfl⟩) xKst (va_recv hK hP (ci := 2) (q0 := 4) rfl rfl) hP hKp ⟨Nat.zero_le _, Nat.zero_le _⟩ hS (fun _ h => h) rfl hl.1 rfl (Nat.le_of_ble_eq_true rfl) dX2_difference_46 (fun H locs hP hS => ?_)
    have hP : va_P D xcl (XW ad ca K g3) H := hP
    refine lv_aload_n hx hb dX2_difference_49 rfl (lv_at hl 1 rfl) ?_
    refine lv_sipush (v := (2048 : Int32)) hx hb dX2_difference_50 sp_2048 ?_
    refine lv_lload_n hx hb dX2_difference_53 rfl (lv_at hl 2 rfl) ?_
    refine lv_lload_n hx hb dX2_difference_54 rfl (lv_at hl 3 rfl) ?_
    refine lv_lxor hx hb dX2_difference_55 ?_
    refine lv_lload_n hx hb dX2_difference_56 rfl (lv_at hl 2 rfl) ?_
    refine lv_lload hx hb dX2_difference_57 (lv_at hl 0 rfl) ?_
    refine lv_lxor hx hb dX2_difference_59 ?_
    refine lv_land hx hb dX2_difference_60 ?_
    refine lv_bipush (v := (8 : Int32)) hx hb dX2_difference_61 bp_8 ?_
    refine lv_iload hx hb dX2_difference_63 (lv_at hl 5 rfl) ?_
    refine lv_imul hx hb dX2_difference_65 ?_
    refine lv_iconst (v := (1 : Int32)) hx hb dX2_difference_66 ic_1 ?_
    refine lv_isub hx hb dX2_difference_67 ?_
    refine g_RS (As := [.long ((x ^^^ y) &&& (x ^^^ v2)), .int (((8 : Int32) * sz) - (1 : Int32))]) (rest := [.int (2048 : Int32), .ref (ad 4)]) hC (m_X2_bit ((x ^^^ y) &&& (x ^^^ v2)) (((8 : Int32) * sz) - (1 : Int32)) _ rfl) (va_cwS 2 hts cw_X2_135 rfl rfl rfl hd_X2_bit ⟨Nat.le_of_ble_eq_true rfl, Nat.le_of_ble_eq_true rfl⟩) g_Kst0 trivial trivial ⟨Nat.zero_le _, Nat.zero_le _⟩ rfl hl.1 rfl (Nat.le_of_ble_eq_true rfl) dX2_difference_68 ?_
    obtain ⟨g4, eg4⟩ : ∃ z, z = x_mark (2048 : Int32) (x_bit ((x ^^^ y) &&& (x ^^^ v2)) (((8 : Int32) * sz) - (1 : Int32))) g3 := ⟨_, rfl⟩
    replace hr := hr.trans (bnd_eq eg4)
    refine g_UV0 (As := [.int (2048 : Int32), .int (b2i (x_bit ((x ^^^ y) &&& (x ^^^ v2)) (((8 : Int32) * sz) - (1 : Int32))))]) (rest := []) hC (m_X2_mark hI (K := K) (d := g3) (2048 : Int32) (x_bit ((x ^^^ y) &&& (x ^^^ v2)) (((8 : Int32) * sz) - (1 : Int32))) g4 eg4) (cwV 2 hts cw_X2_125 rfl rfl rfl hd_X2_mark ⟨Nat.le_of_ble_eq_true rfl, Nat.le_of_ble_eq_true rfl⟩) xKst (va_recv hK hP (ci := 2) (q0 := 4) rfl rfl) hP hKp ⟨Nat.zero_le _, Nat.zero_le _⟩ hS (fun _ h => h) rfl hl.1 rfl (Nat.le_of_ble_eq_true rfl) dX2_difference_71 (fun H locs hP hS => ?_)
    have hP : va_P D xcl (XW ad ca K g4) H := hP
    refine lv_aload_n hx hb dX2_difference_74 rfl (lv_at hl 1 rfl) ?_
    refine lv_lload hx hb dX2_difference_75 (lv_at hl 0 rfl) ?_
    refine lv_iload hx hb dX2_difference_77 (lv_at hl 5 rfl) ?_
    obtain ⟨g5, eg5⟩ : ∃ z, z = x_follow v2 sz g4 := ⟨_, rfl⟩
    replace hr := hr.trans (bnd_eq eg5)
    refine g_UV0 (As := [.long v2, .int sz]) (rest := []) hC (m_X2_follow hI (K := K) (d := g4) v2 sz g5 eg5) (cwV 2 hts cw_X2_138 rfl rfl rfl hd_X2_follow ⟨Nat.le_of_ble_eq_true rfl, Nat.le_of_ble_eq_true rfl⟩) xKst (va_recv hK hP (ci := 2) (q0 := 4) rfl rfl) hP hKp ⟨Nat.zero_le _, Nat.zero_le _⟩ hS (fun _ h => h) rfl hl.1 rfl (Nat.le_of_ble_eq_true rfl) dX2_difference_79 (fun H locs hP hS => ?_)
    have hP : va_P D xcl (XW ad ca K g5) H := hP
    refine lv_lload hx hb dX2_difference_82 (lv_at hl 0 rfl) ?_
    exact g_endUl (Pic := (fun u => xB D ad ca K u)) (u := g5) hF hQ hr hP hS dX2_difference_84
  replace hr := ep1
  refine lv_if_eq (tgt := 12) hx hb dX2_difference_5 (by decide) (fun c_5 => ?_) (fun c_5 => ?_)
  · replace hr := hr.trans (if_pos c_5)
    refine lv_lconst (v := (0 : Int64)) hx hb dX2_difference_12 lc_0 ?_
    subst hr
    exact kp1 _ _ ls hP hS (lv_sub hl [0, 1, 2, 3, 4] rfl)
  · replace hr := hr.trans (if_neg c_5)
    refine lv_lconst (v := (1 : Int64)) hx hb dX2_difference_8 lc_1 ?_
    refine lv_goto (tgt := 13) hx hb dX2_difference_9 (by decide) ?_
    subst hr
    exact kp1 _ _ ls hP hS (lv_sub hl [0, 1, 2, 3, 4] rfl)
def x_logic (o : Int32) (x : Int64) (y : Int64) (sz : Int32) (d : XD) : Int64 × XD := bnd (α := Int64) (if o = (1 : Int32) then (x ||| y) else (if o = (6 : Int32) then (x ^^^ y) else (x &&& y))) fun p1 => bnd (x_mark (2049 : Int32) false d) fun g2 => bnd (x_follow p1 sz g2) fun g3 => (p1, g3)
abbrev rm_X2_logic : Room := { frames := 3, cells := 0, slots := 0, locals := 68 }
set_option maxHeartbeats 4000000 in
set_option maxRecDepth 100000 in
theorem m_X2_logic {l : Launch} {D : va_G} {ad : Nat → Nat} {ca : Nat → ClassId} (hI : xInj ad) {K : XK} {d : XD} (o : Int32) (x : Int64) (y : Int64) (sz : Int32) (RES : Int64 × XD) (hr : RES = x_logic o x y sz d) : g_U l yX2_logic (ws_ yX2_logic cX2_logic 9 (some .long)) rm_X2_logic [.ref (ad 4), .int o, .long x, .long y, .int sz] (xKp D ca) (xB D ad ca K d) (some (.long RES.1)) (xB D ad ca K RES.2) (xA ad) := by
  refine g_ofU (by decide) (Nat.le_of_ble_eq_true rfl) ?_
  intro p e s m args below meth c ls Q hF hB hKp hl hQ
  obtain ⟨hx, hb, -, -, hml, hown, hts⟩ := id hF
  have hown : s.vm.findClass RX2 = some m.cls := hown
  have hC : CallFix p m c cX2_logic 9 s args lw_all RX2 := ⟨hx, hb, hml, hown, hts⟩
  obtain ⟨hK, hN⟩ := id hKp
  have hP : va_P D xcl (XW ad ca K d) s.heap := hB
  have hS : va_S (xA ad) s.heap s.heap [] := va_S.rf
  have hl : lv_has ls 9 [(0, .ref (ad 4)), (1, .int o), (2, .long x), (4, .long y), (6, .int sz)] := hl
  unfold x_logic at hr
  refine lv_iload_n hx hb dX2_logic_0 rfl (lv_at hl 1 rfl) ?_
  refine lv_iconst (v := (1 : Int32)) hx hb dX2_logic_1 ic_1 ?_
  obtain ⟨p1, ep1⟩ : ∃ z : Int64, z = (if o = (1 : Int32) then (x ||| y) else (if o = (6 : Int32) then (x ^^^ y) else (x &&& y))) := ⟨_, rfl⟩
  replace hr := hr.trans (bnd_eq ep1)
  have kp1 : ∀ (H : Heap) (locs : List Loc) (ls : Array Slot), va_P D xcl (XW ad ca K d) H → va_S (xA ad) s.heap H locs → lv_has ls 9 [(0, .ref (ad 4)), (1, .int o), (2, .long x), (4, .long y), (6, .int sz)] → W p l e rm_X2_logic s m args below meth c H locs 0 0 Q (F0 m 29 ls [.long p1]) := by
    intro H locs ls hP hS hl
    refine lv_lstore (lv' := [(7, .long p1), (0, .ref (ad 4)), (1, .int o), (2, .long x), (4, .long y), (6, .int sz)]) hx hb dX2_logic_29 hl (by decide) rfl (fun ls hl => ?_)
    refine lv_aload_n hx hb dX2_logic_31 rfl (lv_at hl 1 rfl) ?_
    refine lv_sipush (v := (2049 : Int32)) hx hb dX2_logic_32 sp_2049 ?_
    refine lv_iconst (v := (0 : Int32)) hx hb dX2_logic_35 ic_0 ?_
    obtain ⟨g2, eg2⟩ : ∃ z, z = x_mark (2049 : Int32) false d := ⟨_, rfl⟩
    replace hr := hr.trans (bnd_eq eg2)
    refine g_UV0 (As := [.int (2049 : Int32), .int (b2i false)]) (rest := []) hC (m_X2_mark hI (K := K) (d := d) (2049 : Int32) false g2 eg2) (cwV 2 hts cw_X2_125 rfl rfl rfl hd_X2_mark ⟨Nat.le_of_ble_eq_true rfl, Nat.le_of_ble_eq_true rfl⟩) xKst (va_recv hK hP (ci := 2) (q0 := 4) rfl rfl) hP hKp ⟨Nat.zero_le _, Nat.zero_le _⟩ hS (fun _ h => h) rfl hl.1 rfl (Nat.le_of_ble_eq_true rfl) dX2_logic_36 (fun H locs hP hS => ?_)
    have hP : va_P D xcl (XW ad ca K g2) H := hP
    refine lv_aload_n hx hb dX2_logic_39 rfl (lv_at hl 1 rfl) ?_
    refine lv_lload hx hb dX2_logic_40 (lv_at hl 0 rfl) ?_
    refine lv_iload hx hb dX2_logic_42 (lv_at hl 5 rfl) ?_
    obtain ⟨g3, eg3⟩ : ∃ z, z = x_follow p1 sz g2 := ⟨_, rfl⟩
    replace hr := hr.trans (bnd_eq eg3)
    refine g_UV0 (As := [.long p1, .int sz]) (rest := []) hC (m_X2_follow hI (K := K) (d := g2) p1 sz g3 eg3) (cwV 2 hts cw_X2_138 rfl rfl rfl hd_X2_follow ⟨Nat.le_of_ble_eq_true rfl, Nat.le_of_ble_eq_true rfl⟩) xKst (va_recv hK hP (ci := 2) (q0 := 4) rfl rfl) hP hKp ⟨Nat.zero_le _, Nat.zero_le _⟩ hS (fun _ h => h) rfl hl.1 rfl (Nat.le_of_ble_eq_true rfl) dX2_logic_44 (fun H locs hP hS => ?_)
    have hP : va_P D xcl (XW ad ca K g3) H := hP
    refine lv_lload hx hb dX2_logic_47 (lv_at hl 0 rfl) ?_
    exact g_endUl (Pic := (fun u => xB D ad ca K u)) (u := g3) hF hQ hr hP hS dX2_logic_49
  replace hr := ep1
  refine lv_icmp_ne (tgt := 12) hx hb dX2_logic_2 (by decide) (fun c_2 => ?_) (fun c_2 => ?_)
  · replace hr := hr.trans (if_neg c_2)
    refine lv_iload_n hx hb dX2_logic_12 rfl (lv_at hl 1 rfl) ?_
    refine lv_bipush (v := (6 : Int32)) hx hb dX2_logic_13 bp_6 ?_
    refine lv_icmp_ne (tgt := 25) hx hb dX2_logic_15 (by decide) (fun c_15 => ?_) (fun c_15 => ?_)
    · replace hr := hr.trans (if_neg c_15)
      refine lv_lload_n hx hb dX2_logic_25 rfl (lv_at hl 2 rfl) ?_
      refine lv_lload hx hb dX2_logic_26 (lv_at hl 3 rfl) ?_
      refine lv_land hx hb dX2_logic_28 ?_
      subst hr
      exact kp1 _ _ ls hP hS (lv_sub hl [0, 1, 2, 3, 4] rfl)
    · replace hr := hr.trans (if_pos c_15)
      refine lv_lload_n hx hb dX2_logic_18 rfl (lv_at hl 2 rfl) ?_
      refine lv_lload hx hb dX2_logic_19 (lv_at hl 3 rfl) ?_
      refine lv_lxor hx hb dX2_logic_21 ?_
      refine lv_goto (tgt := 29) hx hb dX2_logic_22 (by decide) ?_
      subst hr
      exact kp1 _ _ ls hP hS (lv_sub hl [0, 1, 2, 3, 4] rfl)
  · replace hr := hr.trans (if_pos c_2)
    refine lv_lload_n hx hb dX2_logic_5 rfl (lv_at hl 2 rfl) ?_
    refine lv_lload hx hb dX2_logic_6 (lv_at hl 3 rfl) ?_
    refine lv_lor hx hb dX2_logic_8 ?_
    refine lv_goto (tgt := 29) hx hb dX2_logic_9 (by decide) ?_
    subst hr
    exact kp1 _ _ ls hP hS (lv_sub hl [0, 1, 2, 3, 4] rfl)
def x_holds (cd : Int32) (d : XD) : Bool := bnd (α := Bool) (if (cd >>> ((1 : Int32) &&& 31)) = (0 : Int32) then (bnd (α := Bool) ((x_is (2048 : Int32) d)) fun b2 => b2) else if (cd >>> ((1 : Int32) &&& 31)) = (1 : Int32) then (bnd (α := Bool) ((x_is (1 : Int32) d)) fun b3 => b3) else if (cd >>> ((1 : Int32) &&& 31)) = (2 : Int32) then (bnd (α := Bool) ((x_is (64 : Int32) d)) fun b4 => b4) else if (cd >>> ((1 : Int32) &&& 31)) = (3 : Int32) then (bnd (α := Bool) (if (b2i (x_is (1 : Int32) d)) = 0 then (if (b2i (x_is (64 : Int32) d)) = 0 then false else true) else true) fun b5 => if b5 = true then true else false) else if (cd >>> ((1 : Int32) &&& 31)) = (4 : Int32) then (bnd (α := Bool) ((x_is (128 : Int32) d)) fun b6 => b6) else if (cd >>> ((1 : Int32) &&& 31)) = (5 : Int32) then (bnd (α := Bool) ((x_is (4 : Int32) d)) fun b7 => b7) else if (cd >>> ((1 : Int32) &&& 31)) = (6 : Int32) then (if (b2i (x_is (128 : Int32) d)) = (b2i (x_is (2048 : Int32) d)) then false else true) else (if (b2i (x_is (64 : Int32) d)) = 0 then (if (b2i (x_is (128 : Int32) d)) = (b2i (x_is (2048 : Int32) d)) then false else true) else true)) fun p1 => bnd (α := Bool) (if (cd &&& (1 : Int32)) = (1 : Int32) then true else false) fun p8 => if (b2i p1) = (b2i p8) then false else true
abbrev rm_X2_holds : Room := { frames := 1, cells := 0, slots := 0, locals := 21 }
set_option maxHeartbeats 4000000 in
set_option maxRecDepth 100000 in
theorem m_X2_holds {l : Launch} {D : va_G} {ad : Nat → Nat} {ca : Nat → ClassId} {K : XK} {d : XD} (cd : Int32) (RES : Bool) (hr : RES = x_holds cd d) : g_R l yX2_holds (ws_ yX2_holds cX2_holds 3 (some .boolean)) rm_X2_holds [.ref (ad 4), .int cd] (xKp D ca) (xB D ad ca K d) (.int (b2i RES)) := by
  refine g_ofR (by decide) (Nat.le_of_ble_eq_true rfl) ?_
  intro p e s m args below meth c ls Q hF hB hKp hl hQ
  obtain ⟨hx, hb, -, -, hml, hown, hts⟩ := id hF
  have hown : s.vm.findClass RX2 = some m.cls := hown
  have hC : CallFix p m c cX2_holds 3 s args lw_all RX2 := ⟨hx, hb, hml, hown, hts⟩
  obtain ⟨hK, hN⟩ := id hKp
  have hP : va_P D xcl (XW ad ca K d) s.heap := hB
  have hl : lv_has ls 3 [(0, .ref (ad 4)), (1, .int cd)] := hl
  unfold x_holds at hr
  refine lv_iload_n hx hb dX2_holds_0 rfl (lv_at hl 1 rfl) ?_
  refine lv_iconst (v := (1 : Int32)) hx hb dX2_holds_1 ic_1 ?_
  refine lv_ishr hx hb dX2_holds_2 ?_
  obtain ⟨p1, ep1⟩ : ∃ z : Bool, z = (if (cd >>> ((1 : Int32) &&& 31)) = (0 : Int32) then (bnd (α := Bool) ((x_is (2048 : Int32) d)) fun b2 => b2) else if (cd >>> ((1 : Int32) &&& 31)) = (1 : Int32) then (bnd (α := Bool) ((x_is (1 : Int32) d)) fun b3 => b3) else if (cd >>> ((1 : Int32) &&& 31)) = (2 : Int32) then (bnd (α := Bool) ((x_is (64 : Int32) d)) fun b4 => b4) else if (cd >>> ((1 : Int32) &&& 31)) = (3 : Int32) then (bnd (α := Bool) (if (b2i (x_is (1 : Int32) d)) = 0 then (if (b2i (x_is (64 : Int32) d)) = 0 then false else true) else true) fun b5 => if b5 = true then true else false) else if (cd >>> ((1 : Int32) &&& 31)) = (4 : Int32) then (bnd (α := Bool) ((x_is (128 : Int32) d)) fun b6 => b6) else if (cd >>> ((1 : Int32) &&& 31)) = (5 : Int32) then (bnd (α := Bool) ((x_is (4 : Int32) d)) fun b7 => b7) else if (cd >>> ((1 : Int32) &&& 31)) = (6 : Int32) then (if (b2i (x_is (128 : Int32) d)) = (b2i (x_is (2048 : Int32) d)) then false else true) else (if (b2i (x_is (64 : Int32) d)) = 0 then (if (b2i (x_is (128 : Int32) d)) = (b2i (x_is (2048 : Int32) d)) then false else true) else true)) := ⟨_, rfl⟩
  replace hr := hr.trans (bnd_eq ep1)
  have kp1 : ∀ (ls : Array Slot), lv_has ls 3 [(2, .int (b2i p1)), (0, .ref (ad 4)), (1, .int cd)] → W p l e rm_X2_holds s m args below meth c s.heap [] 0 0 Q (F0 m 178 ls []) := by
    intro ls hl
    refine lv_iload_n hx hb dX2_holds_178 rfl (lv_at hl 0 rfl) ?_
    refine lv_iload_n hx hb dX2_holds_179 rfl (lv_at hl 2 rfl) ?_
    refine lv_iconst (v := (1 : Int32)) hx hb dX2_holds_180 ic_1 ?_
    refine lv_iand hx hb dX2_holds_181 ?_
    refine lv_iconst (v := (1 : Int32)) hx hb dX2_holds_182 ic_1 ?_
    obtain ⟨p8, ep8⟩ : ∃ z : Bool, z = (if (cd &&& (1 : Int32)) = (1 : Int32) then true else false) := ⟨_, rfl⟩
    replace hr := hr.trans (bnd_eq ep8)
    have kp8 : ∀ (ls : Array Slot), lv_has ls 3 [(2, .int (b2i p1)), (0, .ref (ad 4)), (1, .int cd)] → W p l e rm_X2_holds s m args below meth c s.heap [] 0 0 Q (F0 m 191 ls [.int (b2i p8), .int (b2i p1)]) := by
      intro ls hl
      refine lv_icmp_eq (tgt := 198) hx hb dX2_holds_191 (by decide) (fun c_191 => ?_) (fun c_191 => ?_)
      · replace hr := hr.trans (if_pos c_191)
        refine lv_iconst (v := (0 : Int32)) hx hb dX2_holds_198 ic_0 ?_
        exact g_endRz hF hQ hr rfl dX2_holds_199
      · replace hr := hr.trans (if_neg c_191)
        refine lv_iconst (v := (1 : Int32)) hx hb dX2_holds_194 ic_1 ?_
        refine lv_goto (tgt := 199) hx hb dX2_holds_195 (by decide) ?_
        exact g_endRz hF hQ hr rfl dX2_holds_199
    replace hr := ep8
    refine lv_icmp_ne (tgt := 190) hx hb dX2_holds_183 (by decide) (fun c_183 => ?_) (fun c_183 => ?_)
    · replace hr := hr.trans (if_neg c_183)
      refine lv_iconst (v := (0 : Int32)) hx hb dX2_holds_190 ic_0 ?_
      subst hr
      exact kp8 ls (lv_sub hl [0, 1, 2] rfl)
    · replace hr := hr.trans (if_pos c_183)
      refine lv_iconst (v := (1 : Int32)) hx hb dX2_holds_186 ic_1 ?_
      refine lv_goto (tgt := 191) hx hb dX2_holds_187 (by decide) ?_
      subst hr
      exact kp8 ls (lv_sub hl [0, 1, 2] rfl)
  replace hr := ep1
  by_cases c_3_0 : (cd >>> ((1 : Int32) &&& 31)) = (0 : Int32)
  · replace hr := hr.trans (if_pos c_3_0)
    refine lv_tableIn (off := 41) (tgt := 44) hx hb dX2_holds_3 (by rw [c_3_0]; decide) (by rw [c_3_0]; decide) (by rw [c_3_0]; rfl) (by decide) ?_
    refine lv_aload_n hx hb dX2_holds_44 rfl (lv_at hl 0 rfl) ?_
    refine lv_sipush (v := (2048 : Int32)) hx hb dX2_holds_45 sp_2048 ?_
    refine g_RV (As := [.int (2048 : Int32)]) (rest := []) hC (m_X2_is (K := K) (d := d) (2048 : Int32) _ rfl) (cwV 1 hts cw_X2_142 rfl rfl rfl hd_X2_is ⟨Nat.le_of_ble_eq_true rfl, Nat.le_of_ble_eq_true rfl⟩) xKst (va_recv hK hP (ci := 2) (q0 := 4) rfl rfl) hP hKp ⟨Nat.zero_le _, Nat.zero_le _⟩ rfl hl.1 rfl (Nat.le_of_ble_eq_true rfl) dX2_holds_48 ?_
    obtain ⟨b2, eb2⟩ : ∃ z : Bool, z = (x_is (2048 : Int32) d) := ⟨_, rfl⟩
    rw [← eb2]
    replace hr := hr.trans (bnd_eq eb2)
    refine lv_istore_n (lv' := [(2, .int (b2i b2)), (0, .ref (ad 4)), (1, .int cd)]) hx hb dX2_holds_51 rfl hl (by decide) rfl (fun ls hl => ?_)
    refine lv_goto (tgt := 178) hx hb dX2_holds_52 (by decide) ?_
    subst hr
    exact kp1 ls (lv_sub hl [0, 1, 2] rfl)
  · replace hr := hr.trans (if_neg c_3_0)
    by_cases c_3_1 : (cd >>> ((1 : Int32) &&& 31)) = (1 : Int32)
    · replace hr := hr.trans (if_pos c_3_1)
      refine lv_tableIn (off := 52) (tgt := 55) hx hb dX2_holds_3 (by rw [c_3_1]; decide) (by rw [c_3_1]; decide) (by rw [c_3_1]; rfl) (by decide) ?_
      refine lv_aload_n hx hb dX2_holds_55 rfl (lv_at hl 0 rfl) ?_
      refine lv_iconst (v := (1 : Int32)) hx hb dX2_holds_56 ic_1 ?_
      refine g_RV (As := [.int (1 : Int32)]) (rest := []) hC (m_X2_is (K := K) (d := d) (1 : Int32) _ rfl) (cwV 1 hts cw_X2_142 rfl rfl rfl hd_X2_is ⟨Nat.le_of_ble_eq_true rfl, Nat.le_of_ble_eq_true rfl⟩) xKst (va_recv hK hP (ci := 2) (q0 := 4) rfl rfl) hP hKp ⟨Nat.zero_le _, Nat.zero_le _⟩ rfl hl.1 rfl (Nat.le_of_ble_eq_true rfl) dX2_holds_57 ?_
      obtain ⟨b3, eb3⟩ : ∃ z : Bool, z = (x_is (1 : Int32) d) := ⟨_, rfl⟩
      rw [← eb3]
      replace hr := hr.trans (bnd_eq eb3)
      refine lv_istore_n (lv' := [(2, .int (b2i b3)), (0, .ref (ad 4)), (1, .int cd)]) hx hb dX2_holds_60 rfl hl (by decide) rfl (fun ls hl => ?_)
      refine lv_goto (tgt := 178) hx hb dX2_holds_61 (by decide) ?_
      subst hr
      exact kp1 ls (lv_sub hl [0, 1, 2] rfl)
    · replace hr := hr.trans (if_neg c_3_1)
      by_cases c_3_2 : (cd >>> ((1 : Int32) &&& 31)) = (2 : Int32)
      · replace hr := hr.trans (if_pos c_3_2)
        refine lv_tableIn (off := 61) (tgt := 64) hx hb dX2_holds_3 (by rw [c_3_2]; decide) (by rw [c_3_2]; decide) (by rw [c_3_2]; rfl) (by decide) ?_
        refine lv_aload_n hx hb dX2_holds_64 rfl (lv_at hl 0 rfl) ?_
        refine lv_bipush (v := (64 : Int32)) hx hb dX2_holds_65 bp_64 ?_
        refine g_RV (As := [.int (64 : Int32)]) (rest := []) hC (m_X2_is (K := K) (d := d) (64 : Int32) _ rfl) (cwV 1 hts cw_X2_142 rfl rfl rfl hd_X2_is ⟨Nat.le_of_ble_eq_true rfl, Nat.le_of_ble_eq_true rfl⟩) xKst (va_recv hK hP (ci := 2) (q0 := 4) rfl rfl) hP hKp ⟨Nat.zero_le _, Nat.zero_le _⟩ rfl hl.1 rfl (Nat.le_of_ble_eq_true rfl) dX2_holds_67 ?_
        obtain ⟨b4, eb4⟩ : ∃ z : Bool, z = (x_is (64 : Int32) d) := ⟨_, rfl⟩
        rw [← eb4]
        replace hr := hr.trans (bnd_eq eb4)
        refine lv_istore_n (lv' := [(2, .int (b2i b4)), (0, .ref (ad 4)), (1, .int cd)]) hx hb dX2_holds_70 rfl hl (by decide) rfl (fun ls hl => ?_)
        refine lv_goto (tgt := 178) hx hb dX2_holds_71 (by decide) ?_
        subst hr
        exact kp1 ls (lv_sub hl [0, 1, 2] rfl)
      · replace hr := hr.trans (if_neg c_3_2)
        by_cases c_3_3 : (cd >>> ((1 : Int32) &&& 31)) = (3 : Int32)
        · replace hr := hr.trans (if_pos c_3_3)
          refine lv_tableIn (off := 71) (tgt := 74) hx hb dX2_holds_3 (by rw [c_3_3]; decide) (by rw [c_3_3]; decide) (by rw [c_3_3]; rfl) (by decide) ?_
          refine lv_aload_n hx hb dX2_holds_74 rfl (lv_at hl 0 rfl) ?_
          refine lv_iconst (v := (1 : Int32)) hx hb dX2_holds_75 ic_1 ?_
          refine g_RV (As := [.int (1 : Int32)]) (rest := []) hC (m_X2_is (K := K) (d := d) (1 : Int32) _ rfl) (cwV 1 hts cw_X2_142 rfl rfl rfl hd_X2_is ⟨Nat.le_of_ble_eq_true rfl, Nat.le_of_ble_eq_true rfl⟩) xKst (va_recv hK hP (ci := 2) (q0 := 4) rfl rfl) hP hKp ⟨Nat.zero_le _, Nat.zero_le _⟩ rfl hl.1 rfl (Nat.le_of_ble_eq_true rfl) dX2_holds_76 ?_
          obtain ⟨b5, eb5⟩ : ∃ z : Bool, z = (if (b2i (x_is (1 : Int32) d)) = 0 then (if (b2i (x_is (64 : Int32) d)) = 0 then false else true) else true) := ⟨_, rfl⟩
          replace hr := hr.trans (bnd_eq eb5)
          have kb5T : b5 = true → W p l e rm_X2_holds s m args below meth c s.heap [] 0 0 Q (F0 m 91 ls []) := by
            intro hb5
            replace hr := hr.trans (if_pos hb5)
            refine lv_iconst (v := (1 : Int32)) hx hb dX2_holds_91 ic_1 ?_
            refine lv_goto (tgt := 96) hx hb dX2_holds_92 (by decide) ?_
            refine lv_istore_n (lv' := [(2, .int (1 : Int32)), (0, .ref (ad 4)), (1, .int cd)]) hx hb dX2_holds_96 rfl hl (by decide) rfl (fun ls hl => ?_)
            refine lv_goto (tgt := 178) hx hb dX2_holds_97 (by decide) ?_
            subst hr
            exact kp1 ls (lv_sub hl [0, 1, 2] rfl)
          have kb5F : ¬ b5 = true → W p l e rm_X2_holds s m args below meth c s.heap [] 0 0 Q (F0 m 95 ls []) := by
            intro hb5
            replace hr := hr.trans (if_neg hb5)
            have er := eb5
            have hf := Bool.eq_false_iff.mpr hb5
            have c_79 : (b2i (x_is (1 : Int32) d)) = 0 := Decidable.byContradiction (fun q => absurd (hf.symm.trans (er.trans (if_neg q))) (by decide))
            have er := er.trans (if_pos c_79)
            have c_88 : (b2i (x_is (64 : Int32) d)) = 0 := Decidable.byContradiction (fun q => absurd (hf.symm.trans (er.trans (if_neg q))) (by decide))
            have er := er.trans (if_pos c_88)
            clear er
            refine lv_iconst (v := (0 : Int32)) hx hb dX2_holds_95 ic_0 ?_
            refine lv_istore_n (lv' := [(2, .int (0 : Int32)), (0, .ref (ad 4)), (1, .int cd)]) hx hb dX2_holds_96 rfl hl (by decide) rfl (fun ls hl => ?_)
            refine lv_goto (tgt := 178) hx hb dX2_holds_97 (by decide) ?_
            subst hr
            exact kp1 ls (lv_sub hl [0, 1, 2] rfl)
          replace hr := eb5
          refine lv_if_ne (tgt := 91) hx hb dX2_holds_79 (by decide) (fun c_79 => ?_) (fun c_79 => ?_)
          · replace hr := hr.trans (if_neg c_79)
            exact kb5T hr
          · replace hr := hr.trans (if_pos c_79)
            refine lv_aload_n hx hb dX2_holds_82 rfl (lv_at hl 0 rfl) ?_
            refine lv_bipush (v := (64 : Int32)) hx hb dX2_holds_83 bp_64 ?_
            refine g_RV (As := [.int (64 : Int32)]) (rest := []) hC (m_X2_is (K := K) (d := d) (64 : Int32) _ rfl) (cwV 1 hts cw_X2_142 rfl rfl rfl hd_X2_is ⟨Nat.le_of_ble_eq_true rfl, Nat.le_of_ble_eq_true rfl⟩) xKst (va_recv hK hP (ci := 2) (q0 := 4) rfl rfl) hP hKp ⟨Nat.zero_le _, Nat.zero_le _⟩ rfl hl.1 rfl (Nat.le_of_ble_eq_true rfl) dX2_holds_85 ?_
            refine lv_if_eq (tgt := 95) hx hb dX2_holds_88 (by decide) (fun c_88 => ?_) (fun c_88 => ?_)
            · replace hr := hr.trans (if_pos c_88)
              exact kb5F (by rw [hr]; decide)
            · replace hr := hr.trans (if_neg c_88)
              exact kb5T hr
        · replace hr := hr.trans (if_neg c_3_3)
          by_cases c_3_4 : (cd >>> ((1 : Int32) &&& 31)) = (4 : Int32)
          · replace hr := hr.trans (if_pos c_3_4)
            refine lv_tableIn (off := 97) (tgt := 100) hx hb dX2_holds_3 (by rw [c_3_4]; decide) (by rw [c_3_4]; decide) (by rw [c_3_4]; rfl) (by decide) ?_
            refine lv_aload_n hx hb dX2_holds_100 rfl (lv_at hl 0 rfl) ?_
            refine lv_sipush (v := (128 : Int32)) hx hb dX2_holds_101 sp_128 ?_
            refine g_RV (As := [.int (128 : Int32)]) (rest := []) hC (m_X2_is (K := K) (d := d) (128 : Int32) _ rfl) (cwV 1 hts cw_X2_142 rfl rfl rfl hd_X2_is ⟨Nat.le_of_ble_eq_true rfl, Nat.le_of_ble_eq_true rfl⟩) xKst (va_recv hK hP (ci := 2) (q0 := 4) rfl rfl) hP hKp ⟨Nat.zero_le _, Nat.zero_le _⟩ rfl hl.1 rfl (Nat.le_of_ble_eq_true rfl) dX2_holds_104 ?_
            obtain ⟨b6, eb6⟩ : ∃ z : Bool, z = (x_is (128 : Int32) d) := ⟨_, rfl⟩
            rw [← eb6]
            replace hr := hr.trans (bnd_eq eb6)
            refine lv_istore_n (lv' := [(2, .int (b2i b6)), (0, .ref (ad 4)), (1, .int cd)]) hx hb dX2_holds_107 rfl hl (by decide) rfl (fun ls hl => ?_)
            refine lv_goto (tgt := 178) hx hb dX2_holds_108 (by decide) ?_
            subst hr
            exact kp1 ls (lv_sub hl [0, 1, 2] rfl)
          · replace hr := hr.trans (if_neg c_3_4)
            by_cases c_3_5 : (cd >>> ((1 : Int32) &&& 31)) = (5 : Int32)
            · replace hr := hr.trans (if_pos c_3_5)
              refine lv_tableIn (off := 108) (tgt := 111) hx hb dX2_holds_3 (by rw [c_3_5]; decide) (by rw [c_3_5]; decide) (by rw [c_3_5]; rfl) (by decide) ?_
              refine lv_aload_n hx hb dX2_holds_111 rfl (lv_at hl 0 rfl) ?_
              refine lv_iconst (v := (4 : Int32)) hx hb dX2_holds_112 ic_4 ?_
              refine g_RV (As := [.int (4 : Int32)]) (rest := []) hC (m_X2_is (K := K) (d := d) (4 : Int32) _ rfl) (cwV 1 hts cw_X2_142 rfl rfl rfl hd_X2_is ⟨Nat.le_of_ble_eq_true rfl, Nat.le_of_ble_eq_true rfl⟩) xKst (va_recv hK hP (ci := 2) (q0 := 4) rfl rfl) hP hKp ⟨Nat.zero_le _, Nat.zero_le _⟩ rfl hl.1 rfl (Nat.le_of_ble_eq_true rfl) dX2_holds_113 ?_
              obtain ⟨b7, eb7⟩ : ∃ z : Bool, z = (x_is (4 : Int32) d) := ⟨_, rfl⟩
              rw [← eb7]
              replace hr := hr.trans (bnd_eq eb7)
              refine lv_istore_n (lv' := [(2, .int (b2i b7)), (0, .ref (ad 4)), (1, .int cd)]) hx hb dX2_holds_116 rfl hl (by decide) rfl (fun ls hl => ?_)
              refine lv_goto (tgt := 178) hx hb dX2_holds_117 (by decide) ?_
              subst hr
              exact kp1 ls (lv_sub hl [0, 1, 2] rfl)
            · replace hr := hr.trans (if_neg c_3_5)
              by_cases c_3_6 : (cd >>> ((1 : Int32) &&& 31)) = (6 : Int32)
              · replace hr := hr.trans (if_pos c_3_6)
                refine lv_tableIn (off := 117) (tgt := 120) hx hb dX2_holds_3 (by rw [c_3_6]; decide) (by rw [c_3_6]; decide) (by rw [c_3_6]; rfl) (by decide) ?_
                refine lv_aload_n hx hb dX2_holds_120 rfl (lv_at hl 0 rfl) ?_
                refine lv_sipush (v := (128 : Int32)) hx hb dX2_holds_121 sp_128 ?_
                refine g_RV (As := [.int (128 : Int32)]) (rest := []) hC (m_X2_is (K := K) (d := d) (128 : Int32) _ rfl) (cwV 1 hts cw_X2_142 rfl rfl rfl hd_X2_is ⟨Nat.le_of_ble_eq_true rfl, Nat.le_of_ble_eq_true rfl⟩) xKst (va_recv hK hP (ci := 2) (q0 := 4) rfl rfl) hP hKp ⟨Nat.zero_le _, Nat.zero_le _⟩ rfl hl.1 rfl (Nat.le_of_ble_eq_true rfl) dX2_holds_124 ?_
                refine lv_aload_n hx hb dX2_holds_127 rfl (lv_at hl 0 rfl) ?_
                refine lv_sipush (v := (2048 : Int32)) hx hb dX2_holds_128 sp_2048 ?_
                refine g_RV (As := [.int (2048 : Int32)]) (rest := [.int (b2i (x_is (128 : Int32) d))]) hC (m_X2_is (K := K) (d := d) (2048 : Int32) _ rfl) (cwV 1 hts cw_X2_142 rfl rfl rfl hd_X2_is ⟨Nat.le_of_ble_eq_true rfl, Nat.le_of_ble_eq_true rfl⟩) xKst (va_recv hK hP (ci := 2) (q0 := 4) rfl rfl) hP hKp ⟨Nat.zero_le _, Nat.zero_le _⟩ rfl hl.1 rfl (Nat.le_of_ble_eq_true rfl) dX2_holds_131 ?_
                refine lv_icmp_eq (tgt := 141) hx hb dX2_holds_134 (by decide) (fun c_134 => ?_) (fun c_134 => ?_)
                · replace hr := hr.trans (if_pos c_134)
                  refine lv_iconst (v := (0 : Int32)) hx hb dX2_holds_141 ic_0 ?_
                  refine lv_istore_n (lv' := [(2, .int (0 : Int32)), (0, .ref (ad 4)), (1, .int cd)]) hx hb dX2_holds_142 rfl hl (by decide) rfl (fun ls hl => ?_)
                  refine lv_goto (tgt := 178) hx hb dX2_holds_143 (by decide) ?_
                  subst hr
                  exact kp1 ls (lv_sub hl [0, 1, 2] rfl)
                · replace hr := hr.trans (if_neg c_134)
                  refine lv_iconst (v := (1 : Int32)) hx hb dX2_holds_137 ic_1 ?_
                  refine lv_goto (tgt := 142) hx hb dX2_holds_138 (by decide) ?_
                  refine lv_istore_n (lv' := [(2, .int (1 : Int32)), (0, .ref (ad 4)), (1, .int cd)]) hx hb dX2_holds_142 rfl hl (by decide) rfl (fun ls hl => ?_)
                  refine lv_goto (tgt := 178) hx hb dX2_holds_143 (by decide) ?_
                  subst hr
                  exact kp1 ls (lv_sub hl [0, 1, 2] rfl)
              · replace hr := hr.trans (if_neg c_3_6)
                refine lv_tableOut (tgt := 146) hx hb dX2_holds_3 (by have z0 := lv_neT c_3_0 (a := 0) (by decide); have z1 := lv_neT c_3_1 (a := 1) (by decide); have z2 := lv_neT c_3_2 (a := 2) (by decide); have z3 := lv_neT c_3_3 (a := 3) (by decide); have z4 := lv_neT c_3_4 (a := 4) (by decide); have z5 := lv_neT c_3_5 (a := 5) (by decide); have z6 := lv_neT c_3_6 (a := 6) (by decide); omega) (by decide) ?_
                refine lv_aload_n hx hb dX2_holds_146 rfl (lv_at hl 0 rfl) ?_
                refine lv_bipush (v := (64 : Int32)) hx hb dX2_holds_147 bp_64 ?_
                refine g_RV (As := [.int (64 : Int32)]) (rest := []) hC (m_X2_is (K := K) (d := d) (64 : Int32) _ rfl) (cwV 1 hts cw_X2_142 rfl rfl rfl hd_X2_is ⟨Nat.le_of_ble_eq_true rfl, Nat.le_of_ble_eq_true rfl⟩) xKst (va_recv hK hP (ci := 2) (q0 := 4) rfl rfl) hP hKp ⟨Nat.zero_le _, Nat.zero_le _⟩ rfl hl.1 rfl (Nat.le_of_ble_eq_true rfl) dX2_holds_149 ?_
                refine lv_if_ne (tgt := 172) hx hb dX2_holds_152 (by decide) (fun c_152 => ?_) (fun c_152 => ?_)
                · replace hr := hr.trans (if_neg c_152)
                  refine lv_iconst (v := (1 : Int32)) hx hb dX2_holds_172 ic_1 ?_
                  refine lv_goto (tgt := 177) hx hb dX2_holds_173 (by decide) ?_
                  refine lv_istore_n (lv' := [(2, .int (1 : Int32)), (0, .ref (ad 4)), (1, .int cd)]) hx hb dX2_holds_177 rfl hl (by decide) rfl (fun ls hl => ?_)
                  subst hr
                  exact kp1 ls (lv_sub hl [0, 1, 2] rfl)
                · replace hr := hr.trans (if_pos c_152)
                  refine lv_aload_n hx hb dX2_holds_155 rfl (lv_at hl 0 rfl) ?_
                  refine lv_sipush (v := (128 : Int32)) hx hb dX2_holds_156 sp_128 ?_
                  refine g_RV (As := [.int (128 : Int32)]) (rest := []) hC (m_X2_is (K := K) (d := d) (128 : Int32) _ rfl) (cwV 1 hts cw_X2_142 rfl rfl rfl hd_X2_is ⟨Nat.le_of_ble_eq_true rfl, Nat.le_of_ble_eq_true rfl⟩) xKst (va_recv hK hP (ci := 2) (q0 := 4) rfl rfl) hP hKp ⟨Nat.zero_le _, Nat.zero_le _⟩ rfl hl.1 rfl (Nat.le_of_ble_eq_true rfl) dX2_holds_159 ?_
                  refine lv_aload_n hx hb dX2_holds_162 rfl (lv_at hl 0 rfl) ?_
                  refine lv_sipush (v := (2048 : Int32)) hx hb dX2_holds_163 sp_2048 ?_
                  refine g_RV (As := [.int (2048 : Int32)]) (rest := [.int (b2i (x_is (128 : Int32) d))]) hC (m_X2_is (K := K) (d := d) (2048 : Int32) _ rfl) (cwV 1 hts cw_X2_142 rfl rfl rfl hd_X2_is ⟨Nat.le_of_ble_eq_true rfl, Nat.le_of_ble_eq_true rfl⟩) xKst (va_recv hK hP (ci := 2) (q0 := 4) rfl rfl) hP hKp ⟨Nat.zero_le _, Nat.zero_le _⟩ rfl hl.1 rfl (Nat.le_of_ble_eq_true rfl) dX2_holds_166 ?_
                  refine lv_icmp_eq (tgt := 176) hx hb dX2_holds_169 (by decide) (fun c_169 => ?_) (fun c_169 => ?_)
                  · replace hr := hr.trans (if_pos c_169)
                    refine lv_iconst (v := (0 : Int32)) hx hb dX2_holds_176 ic_0 ?_
                    refine lv_istore_n (lv' := [(2, .int (0 : Int32)), (0, .ref (ad 4)), (1, .int cd)]) hx hb dX2_holds_177 rfl hl (by decide) rfl (fun ls hl => ?_)
                    subst hr
                    exact kp1 ls (lv_sub hl [0, 1, 2] rfl)
                  · replace hr := hr.trans (if_neg c_169)
                    refine lv_iconst (v := (1 : Int32)) hx hb dX2_holds_172 ic_1 ?_
                    refine lv_goto (tgt := 177) hx hb dX2_holds_173 (by decide) ?_
                    refine lv_istore_n (lv' := [(2, .int (1 : Int32)), (0, .ref (ad 4)), (1, .int cd)]) hx hb dX2_holds_177 rfl hl (by decide) rfl (fun ls hl => ?_)
                    subst hr
                    exact kp1 ls (lv_sub hl [0, 1, 2] rfl)
