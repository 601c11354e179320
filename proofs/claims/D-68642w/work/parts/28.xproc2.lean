def x_push (K : XK) (v : Int64) (d : XD) : XD := bnd (x_store K (((dx_r d) (4 : Int32).toNatClampNeg) - (8 : Int64)) (8 : Int32) v d) fun g1 => if (dx_stop g1) = 0 then (bnd (dx_r_ (vp_updL (dx_r g1) (4 : Int32).toNatClampNeg (((dx_r g1) (4 : Int32).toNatClampNeg) - (8 : Int64))) g1) fun d2 => d2) else g1
abbrev rm_X2_push : Room := { frames := 4, cells := 0, slots := 0, locals := 100 }
set_option maxHeartbeats 4000000 in
set_option maxRecDepth 100000 in
theorem m_X2_push {l : Launch} {D : va_G} {ad : Nat → Nat} {ca : Nat → ClassId} (hI : xInj ad) {K : XK} {d : XD} (v : Int64) (RES : XD) (hr : RES = x_push K v d) (hgd : XGd K) : g_U l yX2_push (ws_ yX2_push cX2_push 3 none) rm_X2_push [.ref (ad 4), .long v] (xKp D ca) (xB D ad ca K d) none (xB D ad ca K RES) (xA ad) := by
  refine g_ofU (by decide) (Nat.le_of_ble_eq_true rfl) ?_
  intro p e s m args below meth c ls Q hF hB hKp hl hQ
  obtain ⟨hx, hb, -, -, hml, hown, hts⟩ := id hF
  have hown : s.vm.findClass RX2 = some m.cls := hown
  have hC : CallFix p m c cX2_push 3 s args lw_all RX2 := ⟨hx, hb, hml, hown, hts⟩
  obtain ⟨hK, hN⟩ := id hKp
  have hP : va_P D xcl (XW ad ca K d) s.heap := hB
  have hS : va_S (xA ad) s.heap s.heap [] := va_S.rf
  have hl : lv_has ls 3 [(0, .ref (ad 4)), (1, .long v)] := hl
  unfold x_push at hr
  refine lv_aload_n hx hb dX2_push_0 rfl (lv_at hl 0 rfl) ?_
  refine lv_aload_n hx hb dX2_push_1 rfl (lv_at hl 0 rfl) ?_
  refine xg_4_4 hx hb hts hown hK hP (hts _ q233) dX2_push_2 ?_
  refine lv_iconst (v := (4 : Int32)) hx hb dX2_push_5 ic_4 ?_
  refine xl_12 hx hb hK hP (show ¬ ((4 : Int32) < 0 ∨ 16 ≤ (4 : Int32).toNatClampNeg) by decide) dX2_push_6 ?_
  refine lv_ldc2 hx hb hown (hts _ q531) dX2_push_7 ?_
  refine lv_lsub hx hb dX2_push_10 ?_
  refine lv_bipush (v := (8 : Int32)) hx hb dX2_push_11 bp_8 ?_
  refine lv_lload_n hx hb dX2_push_13 rfl (lv_at hl 1 rfl) ?_
  obtain ⟨g1, eg1⟩ : ∃ z, z = x_store K (((dx_r d) (4 : Int32).toNatClampNeg) - (8 : Int64)) (8 : Int32) v d := ⟨_, rfl⟩
  replace hr := hr.trans (bnd_eq eg1)
  refine g_UV0 (As := [.long (((dx_r d) (4 : Int32).toNatClampNeg) - (8 : Int64)), .int (8 : Int32), .long v]) (rest := []) hC (m_X2_store hI (K := K) (d := d) (((dx_r d) (4 : Int32).toNatClampNeg) - (8 : Int64)) (8 : Int32) v g1 eg1 hgd.1) (cwV 3 hts cw_X2_115 rfl rfl rfl hd_X2_store ⟨Nat.le_of_ble_eq_true rfl, Nat.le_of_ble_eq_true rfl⟩) xKst (va_recv hK hP (ci := 2) (q0 := 4) rfl rfl) hP hKp ⟨Nat.zero_le _, Nat.zero_le _⟩ hS (fun _ h => h) rfl hl.1 rfl (Nat.le_of_ble_eq_true rfl) dX2_push_14 (fun H locs hP hS => ?_)
  have hP : va_P D xcl (XW ad ca K g1) H := hP
  refine lv_aload_n hx hb dX2_push_17 rfl (lv_at hl 0 rfl) ?_
  refine xg_4_9 hx hb hts hown hK hP (hts _ q242) dX2_push_18 ?_
  refine lv_if_ne (tgt := 36) hx hb dX2_push_21 (by decide) (fun c_21 => ?_) (fun c_21 => ?_)
  · replace hr := hr.trans (if_neg c_21)
    exact g_endUv (Pic := (fun u => xB D ad ca K u)) (u := g1) hF hQ hr hP hS dX2_push_36
  · replace hr := hr.trans (if_pos c_21)
    refine lv_aload_n hx hb dX2_push_24 rfl (lv_at hl 0 rfl) ?_
    refine xg_4_4 hx hb hts hown hK hP (hts _ q233) dX2_push_25 ?_
    refine lv_iconst (v := (4 : Int32)) hx hb dX2_push_28 ic_4 ?_
    refine lv_dup2_11 hx hb dX2_push_29 rfl rfl ?_
    refine xl_12 hx hb hK hP (show ¬ ((4 : Int32) < 0 ∨ 16 ≤ (4 : Int32).toNatClampNeg) by decide) dX2_push_30 ?_
    refine lv_ldc2 hx hb hown (hts _ q531) dX2_push_31 ?_
    refine lv_lsub hx hb dX2_push_34 ?_
    refine xs_12 hx hb hK hI hP hS (show ¬ ((4 : Int32) < 0 ∨ 16 ≤ (4 : Int32).toNatClampNeg) by decide) dX2_push_35 (fun d2 ed2 H locs hP hS => ?_)
    replace hr := hr.trans (bnd_eq ed2)
    exact g_endUv (Pic := (fun u => xB D ad ca K u)) (u := d2) hF hQ hr hP hS dX2_push_36
def x_target (K : XK) (d : XD) : Int64 × XD := if ((kx_kinds K) (0 : Int32).toNatClampNeg) = (3 : Int32) then (((dx_next d) + (kx_number K)), d) else (bnd (x_get K (0 : Int32) (8 : Int32) d) fun g1 => (g1.1, g1.2))
abbrev rm_X2_target : Room := { frames := 5, cells := 0, slots := 0, locals := 120 }
set_option maxHeartbeats 4000000 in
set_option maxRecDepth 100000 in
theorem m_X2_target {l : Launch} {D : va_G} {ad : Nat → Nat} {ca : Nat → ClassId} (hI : xInj ad) {K : XK} {d : XD} (RES : Int64 × XD) (hr : RES = x_target K d) (hgd : XGd K) : g_U l yX2_target (ws_ yX2_target cX2_target 1 (some .long)) rm_X2_target [.ref (ad 4)] (xKp D ca) (xB D ad ca K d) (some (.long RES.1)) (xB D ad ca K RES.2) (xA ad) := by
  refine g_ofU (by decide) (Nat.le_of_ble_eq_true rfl) ?_
  intro p e s m args below meth c ls Q hF hB hKp hl hQ
  obtain ⟨hx, hb, -, -, hml, hown, hts⟩ := id hF
  have hown : s.vm.findClass RX2 = some m.cls := hown
  have hC : CallFix p m c cX2_target 1 s args lw_all RX2 := ⟨hx, hb, hml, hown, hts⟩
  obtain ⟨hK, hN⟩ := id hKp
  have hP : va_P D xcl (XW ad ca K d) s.heap := hB
  have hS : va_S (xA ad) s.heap s.heap [] := va_S.rf
  have hl : lv_has ls 1 [(0, .ref (ad 4))] := hl
  unfold x_target at hr
  refine lv_aload_n hx hb dX2_target_0 rfl (lv_at hl 0 rfl) ?_
  refine xg_4_3 hx hb hts hown hK hP (hts _ q231) dX2_target_1 ?_
  refine xgn_9_3 hx hb hts hown hK hP (xq_q186 hN) dX2_target_4 ?_
  refine lv_iconst (v := (0 : Int32)) hx hb dX2_target_7 ic_0 ?_
  refine xl_10 hx hb hK hP (show ¬ ((0 : Int32) < 0 ∨ 3 ≤ (0 : Int32).toNatClampNeg) by decide) dX2_target_8 ?_
  refine lv_iconst (v := (3 : Int32)) hx hb dX2_target_9 ic_3 ?_
  refine lv_icmp_ne (tgt := 28) hx hb dX2_target_10 (by decide) (fun c_10 => ?_) (fun c_10 => ?_)
  · replace hr := hr.trans (if_neg c_10)
    refine lv_aload_n hx hb dX2_target_28 rfl (lv_at hl 0 rfl) ?_
    refine lv_iconst (v := (0 : Int32)) hx hb dX2_target_29 ic_0 ?_
    refine lv_bipush (v := (8 : Int32)) hx hb dX2_target_30 bp_8 ?_
    obtain ⟨g1, eg1⟩ : ∃ z, z = x_get K (0 : Int32) (8 : Int32) d := ⟨_, rfl⟩
    replace hr := hr.trans (bnd_eq eg1)
    refine g_UV1 (As := [.int (0 : Int32), .int (8 : Int32)]) (rest := []) hC (m_X2_get hI (K := K) (d := d) (0 : Int32) (8 : Int32) g1 eg1 (show ¬ ((0 : Int32) < 0 ∨ 3 ≤ (0 : Int32).toNatClampNeg) by decide) hgd) (cwV 2 hts cw_X2_160 rfl rfl rfl hd_X2_get ⟨Nat.le_of_ble_eq_true rfl, Nat.le_of_ble_eq_true rfl⟩) xKst (va_recv hK hP (ci := 2) (q0 := 4) rfl rfl) hP hKp ⟨Nat.zero_le _, Nat.zero_le _⟩ hS (fun _ h => h) rfl hl.1 rfl (Nat.le_of_ble_eq_true rfl) dX2_target_32 (fun H locs hP hS => ?_)
    have hP : va_P D xcl (XW ad ca K g1.2) H := hP
    exact g_endUl (Pic := (fun u => xB D ad ca K u)) (u := g1.2) hF hQ hr hP hS dX2_target_35
  · replace hr := hr.trans (if_pos c_10)
    refine lv_aload_n hx hb dX2_target_13 rfl (lv_at hl 0 rfl) ?_
    refine xg_4_6 hx hb hts hown hK hP (hts _ q237) dX2_target_14 ?_
    refine lv_aload_n hx hb dX2_target_17 rfl (lv_at hl 0 rfl) ?_
    refine xg_4_3 hx hb hts hown hK hP (hts _ q231) dX2_target_18 ?_
    refine xgn_9_9 hx hb hts hown hK hP (xq_q203 hN) dX2_target_21 ?_
    refine lv_ladd hx hb dX2_target_24 ?_
    refine lv_goto (tgt := 35) hx hb dX2_target_25 (by decide) ?_
    exact g_endUl (Pic := (fun u => xB D ad ca K u)) (u := d) hF hQ hr hP hS dX2_target_35
def x_pop (K : XK) (d : XD) : XD := bnd (x_fetch K ((dx_r d) (4 : Int32).toNatClampNeg) (8 : Int32) d) fun g1 => if (dx_stop g1.2) = 0 then (bnd (dx_r_ (vp_updL (dx_r g1.2) (4 : Int32).toNatClampNeg (((dx_r g1.2) (4 : Int32).toNatClampNeg) + (8 : Int64))) g1.2) fun d2 => bnd (x_put K (0 : Int32) (8 : Int32) g1.1 d2) fun g3 => if (dx_stop g3) = 0 then g3 else (bnd (dx_r_ (vp_updL (dx_r g3) (4 : Int32).toNatClampNeg (((dx_r g3) (4 : Int32).toNatClampNeg) - (8 : Int64))) g3) fun d4 => d4)) else g1.2
abbrev rm_X2_pop : Room := { frames := 5, cells := 0, slots := 0, locals := 124 }
set_option maxHeartbeats 4000000 in
set_option maxRecDepth 100000 in
theorem m_X2_pop {l : Launch} {D : va_G} {ad : Nat → Nat} {ca : Nat → ClassId} (hI : xInj ad) {K : XK} {d : XD} (RES : XD) (hr : RES = x_pop K d) (hgd : XGd K) : g_U l yX2_pop (ws_ yX2_pop cX2_pop 3 none) rm_X2_pop [.ref (ad 4)] (xKp D ca) (xB D ad ca K d) none (xB D ad ca K RES) (xA ad) := by
  refine g_ofU (by decide) (Nat.le_of_ble_eq_true rfl) ?_
  intro p e s m args below meth c ls Q hF hB hKp hl hQ
  obtain ⟨hx, hb, -, -, hml, hown, hts⟩ := id hF
  have hown : s.vm.findClass RX2 = some m.cls := hown
  have hC : CallFix p m c cX2_pop 3 s args lw_all RX2 := ⟨hx, hb, hml, hown, hts⟩
  obtain ⟨hK, hN⟩ := id hKp
  have hP : va_P D xcl (XW ad ca K d) s.heap := hB
  have hS : va_S (xA ad) s.heap s.heap [] := va_S.rf
  have hl : lv_has ls 3 [(0, .ref (ad 4))] := hl
  unfold x_pop at hr
  refine lv_aload_n hx hb dX2_pop_0 rfl (lv_at hl 0 rfl) ?_
  refine lv_aload_n hx hb dX2_pop_1 rfl (lv_at hl 0 rfl) ?_
  refine xg_4_4 hx hb hts hown hK hP (hts _ q233) dX2_pop_2 ?_
  refine lv_iconst (v := (4 : Int32)) hx hb dX2_pop_5 ic_4 ?_
  refine xl_12 hx hb hK hP (show ¬ ((4 : Int32) < 0 ∨ 16 ≤ (4 : Int32).toNatClampNeg) by decide) dX2_pop_6 ?_
  refine lv_bipush (v := (8 : Int32)) hx hb dX2_pop_7 bp_8 ?_
  obtain ⟨g1, eg1⟩ : ∃ z, z = x_fetch K ((dx_r d) (4 : Int32).toNatClampNeg) (8 : Int32) d := ⟨_, rfl⟩
  replace hr := hr.trans (bnd_eq eg1)
  refine g_UV1 (As := [.long ((dx_r d) (4 : Int32).toNatClampNeg), .int (8 : Int32)]) (rest := []) hC (m_X2_fetch hI (K := K) (d := d) ((dx_r d) (4 : Int32).toNatClampNeg) (8 : Int32) g1 eg1 hgd.1) (cwV 2 hts cw_X2_101 rfl rfl rfl hd_X2_fetch ⟨Nat.le_of_ble_eq_true rfl, Nat.le_of_ble_eq_true rfl⟩) xKst (va_recv hK hP (ci := 2) (q0 := 4) rfl rfl) hP hKp ⟨Nat.zero_le _, Nat.zero_le _⟩ hS (fun _ h => h) rfl hl.1 rfl (Nat.le_of_ble_eq_true rfl) dX2_pop_9 (fun H locs hP hS => ?_)
  have hP : va_P D xcl (XW ad ca K g1.2) H := hP
  refine lv_lstore_n (lv' := [(1, .long g1.1), (0, .ref (ad 4))]) hx hb dX2_pop_12 rfl hl (by decide) rfl (fun ls hl => ?_)
  refine lv_aload_n hx hb dX2_pop_13 rfl (lv_at hl 1 rfl) ?_
  refine xg_4_9 hx hb hts hown hK hP (hts _ q242) dX2_pop_14 ?_
  refine lv_if_eq (tgt := 21) hx hb dX2_pop_17 (by decide) (fun c_17 => ?_) (fun c_17 => ?_)
  · replace hr := hr.trans (if_pos c_17)
    refine lv_aload_n hx hb dX2_pop_21 rfl (lv_at hl 1 rfl) ?_
    refine xg_4_4 hx hb hts hown hK hP (hts _ q233) dX2_pop_22 ?_
    refine lv_iconst (v := (4 : Int32)) hx hb dX2_pop_25 ic_4 ?_
    refine lv_dup2_11 hx hb dX2_pop_26 rfl rfl ?_
    refine xl_12 hx hb hK hP (show ¬ ((4 : Int32) < 0 ∨ 16 ≤ (4 : Int32).toNatClampNeg) by decide) dX2_pop_27 ?_
    refine lv_ldc2 hx hb hown (hts _ q531) dX2_pop_28 ?_
    refine lv_ladd hx hb dX2_pop_31 ?_
    refine xs_12 hx hb hK hI hP hS (show ¬ ((4 : Int32) < 0 ∨ 16 ≤ (4 : Int32).toNatClampNeg) by decide) dX2_pop_32 (fun d2 ed2 H locs hP hS => ?_)
    replace hr := hr.trans (bnd_eq ed2)
    refine lv_aload_n hx hb dX2_pop_33 rfl (lv_at hl 1 rfl) ?_
    refine lv_iconst (v := (0 : Int32)) hx hb dX2_pop_34 ic_0 ?_
    refine lv_bipush (v := (8 : Int32)) hx hb dX2_pop_35 bp_8 ?_
    refine lv_lload_n hx hb dX2_pop_37 rfl (lv_at hl 0 rfl) ?_
    obtain ⟨g3, eg3⟩ : ∃ z, z = x_put K (0 : Int32) (8 : Int32) g1.1 d2 := ⟨_, rfl⟩
    replace hr := hr.trans (bnd_eq eg3)
    refine g_UV0 (As := [.int (0 : Int32), .int (8 : Int32), .long g1.1]) (rest := []) hC (m_X2_put hI (K := K) (d := d2) (0 : Int32) (8 : Int32) g1.1 g3 eg3 (show ¬ ((0 : Int32) < 0 ∨ 3 ≤ (0 : Int32).toNatClampNeg) by decide) hgd) (cwV 3 hts cw_X2_188 rfl rfl rfl hd_X2_put ⟨Nat.le_of_ble_eq_true rfl, Nat.le_of_ble_eq_true rfl⟩) xKst (va_recv hK hP (ci := 2) (q0 := 4) rfl rfl) hP hKp ⟨Nat.zero_le _, Nat.zero_le _⟩ hS (fun _ h => h) rfl hl.1 rfl (Nat.le_of_ble_eq_true rfl) dX2_pop_38 (fun H locs hP hS => ?_)
    have hP : va_P D xcl (XW ad ca K g3) H := hP
    refine lv_aload_n hx hb dX2_pop_41 rfl (lv_at hl 1 rfl) ?_
    refine xg_4_9 hx hb hts hown hK hP (hts _ q242) dX2_pop_42 ?_
    refine lv_if_eq (tgt := 60) hx hb dX2_pop_45 (by decide) (fun c_45 => ?_) (fun c_45 => ?_)
    · replace hr := hr.trans (if_pos c_45)
      exact g_endUv (Pic := (fun u => xB D ad ca K u)) (u := g3) hF hQ hr hP hS dX2_pop_60
    · replace hr := hr.trans (if_neg c_45)
      refine lv_aload_n hx hb dX2_pop_48 rfl (lv_at hl 1 rfl) ?_
      refine xg_4_4 hx hb hts hown hK hP (hts _ q233) dX2_pop_49 ?_
      refine lv_iconst (v := (4 : Int32)) hx hb dX2_pop_52 ic_4 ?_
      refine lv_dup2_11 hx hb dX2_pop_53 rfl rfl ?_
      refine xl_12 hx hb hK hP (show ¬ ((4 : Int32) < 0 ∨ 16 ≤ (4 : Int32).toNatClampNeg) by decide) dX2_pop_54 ?_
      refine lv_ldc2 hx hb hown (hts _ q531) dX2_pop_55 ?_
      refine lv_lsub hx hb dX2_pop_58 ?_
      refine xs_12 hx hb hK hI hP hS (show ¬ ((4 : Int32) < 0 ∨ 16 ≤ (4 : Int32).toNatClampNeg) by decide) dX2_pop_59 (fun d4 ed4 H locs hP hS => ?_)
      replace hr := hr.trans (bnd_eq ed4)
      exact g_endUv (Pic := (fun u => xB D ad ca K u)) (u := d4) hF hQ hr hP hS dX2_pop_60
  · replace hr := hr.trans (if_neg c_17)
    exact g_endUv (Pic := (fun u => xB D ad ca K u)) (u := g1.2) hF hQ hr hP hS dX2_pop_20
def x_flow (K : XK) (o : Int32) (sz : Int32) (d : XD) : XD := if o = (29 : Int32) then (if ((kx_kinds K) (0 : Int32).toNatClampNeg) = (3 : Int32) then (bnd (x_push K (kx_number K) d) fun g3 => g3) else (bnd (x_get K (0 : Int32) (8 : Int32) d) fun g1 => bnd (x_push K g1.1 g1.2) fun g2 => g2)) else if o = (30 : Int32) then (bnd (x_pop K d) fun g4 => g4) else if o = (31 : Int32) then (bnd (x_target K d) fun g5 => bnd (α := Bool) (if (dx_stop g5.2) = 0 then (if o = (31 : Int32) then true else (if (b2i (x_holds (kx_cond K) g5.2)) = 0 then false else true)) else false) fun b6 => if b6 = true then (bnd (dx_next_ g5.1 g5.2) fun d7 => d7) else g5.2) else if o = (32 : Int32) then (bnd (x_target K d) fun g8 => bnd (x_push K (dx_next g8.2) g8.2) fun g9 => if (dx_stop g9) = 0 then (bnd (dx_next_ g8.1 g9) fun d10 => d10) else g9) else if o = (33 : Int32) then (bnd (x_fetch K ((dx_r d) (4 : Int32).toNatClampNeg) (8 : Int32) d) fun g11 => if (dx_stop g11.2) = 0 then (bnd (dx_next_ g11.1 g11.2) fun d12 => bnd (α := Int64) (if ((kx_kinds K) (0 : Int32).toNatClampNeg) = (3 : Int32) then (kx_number K) else (0 : Int64)) fun p13 => bnd (dx_r_ (vp_updL (dx_r d12) (4 : Int32).toNatClampNeg (((dx_r d12) (4 : Int32).toNatClampNeg) + ((8 : Int64) + p13))) d12) fun d14 => d14) else g11.2) else if o = (34 : Int32) then (bnd (x_target K d) fun g15 => bnd (α := Bool) (if (dx_stop g15.2) = 0 then (if o = (31 : Int32) then true else (if (b2i (x_holds (kx_cond K) g15.2)) = 0 then false else true)) else false) fun b16 => if b16 = true then (bnd (dx_next_ g15.1 g15.2) fun d17 => d17) else g15.2) else if o = (35 : Int32) then (if (b2i (x_holds (kx_cond K) d)) = 0 then (bnd (x_put K (0 : Int32) (1 : Int32) (0 : Int64) d) fun g18 => g18) else (bnd (x_put K (0 : Int32) (1 : Int32) (1 : Int64) d) fun g19 => g19)) else (bnd (x_get K (1 : Int32) sz d) fun g20 => if (b2i (x_holds (kx_cond K) g20.2)) = 0 then (bnd (x_get K (0 : Int32) sz g20.2) fun g21 => bnd (x_put K (0 : Int32) sz g21.1 g21.2) fun g22 => g22) else (bnd (x_put K (0 : Int32) sz g20.1 g20.2) fun g23 => g23))
abbrev rm_X2_flow : Room := { frames := 6, cells := 0, slots := 0, locals := 146 }
set_option maxHeartbeats 4000000 in
set_option maxRecDepth 100000 in
theorem m_X2_flow {l : Launch} {D : va_G} {ad : Nat → Nat} {ca : Nat → ClassId} (hI : xInj ad) {K : XK} {d : XD} (o : Int32) (sz : Int32) (RES : XD) (hr : RES = x_flow K o sz d) (hgd : XGd K) : g_U l yX2_flow (ws_ yX2_flow cX2_flow 11 none) rm_X2_flow [.ref (ad 4), .int o, .int sz] (xKp D ca) (xB D ad ca K d) none (xB D ad ca K RES) (xA ad) := by
  refine g_ofU (by decide) (Nat.le_of_ble_eq_true rfl) ?_
  intro p e s m args below meth c ls Q hF hB hKp hl hQ
  obtain ⟨hx, hb, -, -, hml, hown, hts⟩ := id hF
  have hown : s.vm.findClass RX2 = some m.cls := hown
  have hC : CallFix p m c cX2_flow 11 s args lw_all RX2 := ⟨hx, hb, hml, hown, hts⟩
  obtain ⟨hK, hN⟩ := id hKp
  have hP : va_P D xcl (XW ad ca K d) s.heap := hB
  have hS : va_S (xA ad) s.heap s.heap [] := va_S.rf
  have hl : lv_has ls 11 [(0, .ref (ad 4)), (1, .int o), (2, .int sz)] := hl
  unfold x_flow at hr
  refine lv_iload_n hx hb dX2_flow_0 rfl (lv_at hl 1 rfl) ?_
  by_cases c_1_29 : o = (29 : Int32)
  · replace hr := hr.trans (if_pos c_1_29)
    refine lv_tableIn (off := 43) (tgt := 44) hx hb dX2_flow_1 (by rw [c_1_29]; decide) (by rw [c_1_29]; decide) (by rw [c_1_29]; rfl) (by decide) ?_
    refine lv_aload_n hx hb dX2_flow_44 rfl (lv_at hl 0 rfl) ?_
    refine lv_aload_n hx hb dX2_flow_45 rfl (lv_at hl 0 rfl) ?_
    refine xg_4_3 hx hb hts hown hK hP (hts _ q231) dX2_flow_46 ?_
    refine xgn_9_3 hx hb hts hown hK hP (xq_q186 hN) dX2_flow_49 ?_
    refine lv_iconst (v := (0 : Int32)) hx hb dX2_flow_52 ic_0 ?_
    refine xl_10 hx hb hK hP (show ¬ ((0 : Int32) < 0 ∨ 3 ≤ (0 : Int32).toNatClampNeg) by decide) dX2_flow_53 ?_
    refine lv_iconst (v := (3 : Int32)) hx hb dX2_flow_54 ic_3 ?_
    refine lv_icmp_ne (tgt := 68) hx hb dX2_flow_55 (by decide) (fun c_55 => ?_) (fun c_55 => ?_)
    · replace hr := hr.trans (if_neg c_55)
      refine lv_aload_n hx hb dX2_flow_68 rfl (lv_at hl 0 rfl) ?_
      refine lv_iconst (v := (0 : Int32)) hx hb dX2_flow_69 ic_0 ?_
      refine lv_bipush (v := (8 : Int32)) hx hb dX2_flow_70 bp_8 ?_
      obtain ⟨g1, eg1⟩ : ∃ z, z = x_get K (0 : Int32) (8 : Int32) d := ⟨_, rfl⟩
      replace hr := hr.trans (bnd_eq eg1)
      refine g_UV1 (As := [.int (0 : Int32), .int (8 : Int32)]) (rest := [.ref (ad 4)]) hC (m_X2_get hI (K := K) (d := d) (0 : Int32) (8 : Int32) g1 eg1 (show ¬ ((0 : Int32) < 0 ∨ 3 ≤ (0 : Int32).toNatClampNeg) by decide) hgd) (cwV 2 hts cw_X2_160 rfl rfl rfl hd_X2_get ⟨Nat.le_of_ble_eq_true rfl, Nat.le_of_ble_eq_true rfl⟩) xKst (va_recv hK hP (ci := 2) (q0 := 4) rfl rfl) hP hKp ⟨Nat.zero_le _, Nat.zero_le _⟩ hS (fun _ h => h) rfl hl.1 rfl (Nat.le_of_ble_eq_true rfl) dX2_flow_72 (fun H locs hP hS => ?_)
      have hP : va_P D xcl (XW ad ca K g1.2) H := hP
      obtain ⟨g2, eg2⟩ : ∃ z, z = x_push K g1.1 g1.2 := ⟨_, rfl⟩
      replace hr := hr.trans (bnd_eq eg2)
      refine g_UV0 (As := [.long g1.1]) (rest := []) hC (m_X2_push hI (K := K) (d := g1.2) g1.1 g2 eg2 hgd) (cwV 1 hts cw_X2_234 rfl rfl rfl hd_X2_push ⟨Nat.le_of_ble_eq_true rfl, Nat.le_of_ble_eq_true rfl⟩) xKst (va_recv hK hP (ci := 2) (q0 := 4) rfl rfl) hP hKp ⟨Nat.zero_le _, Nat.zero_le _⟩ hS (fun _ h => h) rfl hl.1 rfl (Nat.le_of_ble_eq_true rfl) dX2_flow_75 (fun H locs hP hS => ?_)
      have hP : va_P D xcl (XW ad ca K g2) H := hP
      refine lv_goto (tgt := 293) hx hb dX2_flow_78 (by decide) ?_
      exact g_endUv (Pic := (fun u => xB D ad ca K u)) (u := g2) hF hQ hr hP hS dX2_flow_293
    · replace hr := hr.trans (if_pos c_55)
      refine lv_aload_n hx hb dX2_flow_58 rfl (lv_at hl 0 rfl) ?_
      refine xg_4_3 hx hb hts hown hK hP (hts _ q231) dX2_flow_59 ?_
      refine xgn_9_9 hx hb hts hown hK hP (xq_q203 hN) dX2_flow_62 ?_
      refine lv_goto (tgt := 75) hx hb dX2_flow_65 (by decide) ?_
      obtain ⟨g3, eg3⟩ : ∃ z, z = x_push K (kx_number K) d := ⟨_, rfl⟩
      replace hr := hr.trans (bnd_eq eg3)
      refine g_UV0 (As := [.long (kx_number K)]) (rest := []) hC (m_X2_push hI (K := K) (d := d) (kx_number K) g3 eg3 hgd) (cwV 1 hts cw_X2_234 rfl rfl rfl hd_X2_push ⟨Nat.le_of_ble_eq_true rfl, Nat.le_of_ble_eq_true rfl⟩) xKst (va_recv hK hP (ci := 2) (q0 := 4) rfl rfl) hP hKp ⟨Nat.zero_le _, Nat.zero_le _⟩ hS (fun _ h => h) rfl hl.1 rfl (Nat.le_of_ble_eq_true rfl) dX2_flow_75 (fun H locs hP hS => ?_)
      have hP : va_P D xcl (XW ad ca K g3) H := hP
      refine lv_goto (tgt := 293) hx hb dX2_flow_78 (by decide) ?_
      exact g_endUv (Pic := (fun u => xB D ad ca K u)) (u := g3) hF hQ hr hP hS dX2_flow_293
  · replace hr := hr.trans (if_neg c_1_29)
    by_cases c_1_30 : o = (30 : Int32)
    · replace hr := hr.trans (if_pos c_1_30)
      refine lv_tableIn (off := 80) (tgt := 81) hx hb dX2_flow_1 (by rw [c_1_30]; decide) (by rw [c_1_30]; decide) (by rw [c_1_30]; rfl) (by decide) ?_
      refine lv_aload_n hx hb dX2_flow_81 rfl (lv_at hl 0 rfl) ?_
      obtain ⟨g4, eg4⟩ : ∃ z, z = x_pop K d := ⟨_, rfl⟩
      replace hr := hr.trans (bnd_eq eg4)
      refine g_UV0 (As := []) (rest := []) hC (m_X2_pop hI (K := K) (d := d)  g4 eg4 hgd) (cwV 0 hts cw_X2_238 rfl rfl rfl hd_X2_pop ⟨Nat.le_of_ble_eq_true rfl, Nat.le_of_ble_eq_true rfl⟩) xKst (va_recv hK hP (ci := 2) (q0 := 4) rfl rfl) hP hKp ⟨Nat.zero_le _, Nat.zero_le _⟩ hS (fun _ h => h) rfl hl.1 rfl (Nat.le_of_ble_eq_true rfl) dX2_flow_82 (fun H locs hP hS => ?_)
      have hP : va_P D xcl (XW ad ca K g4) H := hP
      refine lv_goto (tgt := 293) hx hb dX2_flow_85 (by decide) ?_
      exact g_endUv (Pic := (fun u => xB D ad ca K u)) (u := g4) hF hQ hr hP hS dX2_flow_293
    · replace hr := hr.trans (if_neg c_1_30)
      by_cases c_1_31 : o = (31 : Int32)
      · replace hr := hr.trans (if_pos c_1_31)
        refine lv_tableIn (off := 87) (tgt := 88) hx hb dX2_flow_1 (by rw [c_1_31]; decide) (by rw [c_1_31]; decide) (by rw [c_1_31]; rfl) (by decide) ?_
        refine lv_aload_n hx hb dX2_flow_88 rfl (lv_at hl 0 rfl) ?_
        obtain ⟨g5, eg5⟩ : ∃ z, z = x_target K d := ⟨_, rfl⟩
        replace hr := hr.trans (bnd_eq eg5)
        refine g_UV1 (As := []) (rest := []) hC (m_X2_target hI (K := K) (d := d)  g5 eg5 hgd) (cwV 0 hts cw_X2_241 rfl rfl rfl hd_X2_target ⟨Nat.le_of_ble_eq_true rfl, Nat.le_of_ble_eq_true rfl⟩) xKst (va_recv hK hP (ci := 2) (q0 := 4) rfl rfl) hP hKp ⟨Nat.zero_le _, Nat.zero_le _⟩ hS (fun _ h => h) rfl hl.1 rfl (Nat.le_of_ble_eq_true rfl) dX2_flow_89 (fun H locs hP hS => ?_)
        have hP : va_P D xcl (XW ad ca K g5.2) H := hP
        refine lv_lstore_n (lv' := [(3, .long g5.1), (0, .ref (ad 4)), (1, .int o), (2, .int sz)]) hx hb dX2_flow_92 rfl hl (by decide) rfl (fun ls hl => ?_)
        refine lv_aload_n hx hb dX2_flow_93 rfl (lv_at hl 1 rfl) ?_
        refine xg_4_9 hx hb hts hown hK hP (hts _ q242) dX2_flow_94 ?_
        obtain ⟨b6, eb6⟩ : ∃ z : Bool, z = (if (dx_stop g5.2) = 0 then (if o = (31 : Int32) then true else (if (b2i (x_holds (kx_cond K) g5.2)) = 0 then false else true)) else false) := ⟨_, rfl⟩
        replace hr := hr.trans (bnd_eq eb6)
        have kb6T : b6 = true → W p l e rm_X2_flow s m args below meth c H locs 0 0 Q (F0 m 120 ls []) := by
          intro hb6
          replace hr := hr.trans (if_pos hb6)
          refine lv_aload_n hx hb dX2_flow_120 rfl (lv_at hl 1 rfl) ?_
          refine lv_lload_n hx hb dX2_flow_121 rfl (lv_at hl 0 rfl) ?_
          refine xp_4_6 (v := g5.1) hx hb hts hown hK hI hP hS (hts _ q237) dX2_flow_122 (fun d7 ed7 H locs hP hS => ?_)
          replace hr := hr.trans (bnd_eq ed7)
          refine lv_goto (tgt := 293) hx hb dX2_flow_125 (by decide) ?_
          exact g_endUv (Pic := (fun u => xB D ad ca K u)) (u := d7) hF hQ hr hP hS dX2_flow_293
        have kb6F : ¬ b6 = true → W p l e rm_X2_flow s m args below meth c H locs 0 0 Q (F0 m 293 ls []) := by
          intro hb6
          replace hr := hr.trans (if_neg hb6)
          exact g_endUv (Pic := (fun u => xB D ad ca K u)) (u := g5.2) hF hQ hr hP hS dX2_flow_293
        replace hr := eb6
        refine lv_if_ne (tgt := 293) hx hb dX2_flow_97 (by decide) (fun c_97 => ?_) (fun c_97 => ?_)
        · replace hr := hr.trans (if_neg c_97)
          exact kb6F (by rw [hr]; decide)
        · replace hr := hr.trans (if_pos c_97)
          refine lv_iload_n hx hb dX2_flow_100 rfl (lv_at hl 2 rfl) ?_
          refine lv_bipush (v := (31 : Int32)) hx hb dX2_flow_101 bp_31 ?_
          refine lv_icmp_eq (tgt := 120) hx hb dX2_flow_103 (by decide) (fun c_103 => ?_) (fun c_103 => ?_)
          · replace hr := hr.trans (if_pos c_103)
            exact kb6T hr
          · replace hr := hr.trans (if_neg c_103)
            refine lv_aload_n hx hb dX2_flow_106 rfl (lv_at hl 1 rfl) ?_
            refine lv_aload_n hx hb dX2_flow_107 rfl (lv_at hl 1 rfl) ?_
            refine xg_4_3 hx hb hts hown hK hP (hts _ q231) dX2_flow_108 ?_
            refine xgn_9_2 hx hb hts hown hK hP (xq_q183 hN) dX2_flow_111 ?_
            refine g_RV (As := [.int (kx_cond K)]) (rest := []) hC (m_X2_holds (K := K) (d := g5.2) (kx_cond K) _ rfl) (cwV 1 hts cw_X2_247 rfl rfl rfl hd_X2_holds ⟨Nat.le_of_ble_eq_true rfl, Nat.le_of_ble_eq_true rfl⟩) xKst (va_recv hK hP (ci := 2) (q0 := 4) rfl rfl) hP hKp ⟨Nat.zero_le _, Nat.zero_le _⟩ rfl hl.1 rfl (Nat.le_of_ble_eq_true rfl) dX2_flow_114 ?_
            refine lv_if_eq (tgt := 293) hx hb dX2_flow_117 (by decide) (fun c_117 => ?_) (fun c_117 => ?_)
            · replace hr := hr.trans (if_pos c_117)
              exact kb6F (by rw [hr]; decide)
            · replace hr := hr.trans (if_neg c_117)
              exact kb6T hr
      · replace hr := hr.trans (if_neg c_1_31)
        by_cases c_1_32 : o = (32 : Int32)
        · replace hr := hr.trans (if_pos c_1_32)
          refine lv_tableIn (off := 127) (tgt := 128) hx hb dX2_flow_1 (by rw [c_1_32]; decide) (by rw [c_1_32]; decide) (by rw [c_1_32]; rfl) (by decide) ?_
          refine lv_aload_n hx hb dX2_flow_128 rfl (lv_at hl 0 rfl) ?_
          obtain ⟨g8, eg8⟩ : ∃ z, z = x_target K d := ⟨_, rfl⟩
          replace hr := hr.trans (bnd_eq eg8)
          refine g_UV1 (As := []) (rest := []) hC (m_X2_target hI (K := K) (d := d)  g8 eg8 hgd) (cwV 0 hts cw_X2_241 rfl rfl rfl hd_X2_target ⟨Nat.le_of_ble_eq_true rfl, Nat.le_of_ble_eq_true rfl⟩) xKst (va_recv hK hP (ci := 2) (q0 := 4) rfl rfl) hP hKp ⟨Nat.zero_le _, Nat.zero_le _⟩ hS (fun _ h => h) rfl hl.1 rfl (Nat.le_of_ble_eq_true rfl) dX2_flow_129 (fun H locs hP hS => ?_)
          have hP : va_P D xcl (XW ad ca K g8.2) H := hP
          refine lv_lstore (lv' := [(5, .long g8.1), (0, .ref (ad 4)), (1, .int o), (2, .int sz)]) hx hb dX2_flow_132 hl (by decide) rfl (fun ls hl => ?_)
          refine lv_aload_n hx hb dX2_flow_134 rfl (lv_at hl 1 rfl) ?_
          refine lv_aload_n hx hb dX2_flow_135 rfl (lv_at hl 1 rfl) ?_
          refine xg_4_6 hx hb hts hown hK hP (hts _ q237) dX2_flow_136 ?_
          obtain ⟨g9, eg9⟩ : ∃ z, z = x_push K (dx_next g8.2) g8.2 := ⟨_, rfl⟩
          replace hr := hr.trans (bnd_eq eg9)
          refine g_UV0 (As := [.long (dx_next g8.2)]) (rest := []) hC (m_X2_push hI (K := K) (d := g8.2) (dx_next g8.2) g9 eg9 hgd) (cwV 1 hts cw_X2_234 rfl rfl rfl hd_X2_push ⟨Nat.le_of_ble_eq_true rfl, Nat.le_of_ble_eq_true rfl⟩) xKst (va_recv hK hP (ci := 2) (q0 := 4) rfl rfl) hP hKp ⟨Nat.zero_le _, Nat.zero_le _⟩ hS (fun _ h => h) rfl hl.1 rfl (Nat.le_of_ble_eq_true rfl) dX2_flow_139 (fun H locs hP hS => ?_)
          have hP : va_P D xcl (XW ad ca K g9) H := hP
          refine lv_aload_n hx hb dX2_flow_142 rfl (lv_at hl 1 rfl) ?_
          refine xg_4_9 hx hb hts hown hK hP (hts _ q242) dX2_flow_143 ?_
          refine lv_if_ne (tgt := 293) hx hb dX2_flow_146 (by decide) (fun c_146 => ?_) (fun c_146 => ?_)
          · replace hr := hr.trans (if_neg c_146)
            exact g_endUv (Pic := (fun u => xB D ad ca K u)) (u := g9) hF hQ hr hP hS dX2_flow_293
          · replace hr := hr.trans (if_pos c_146)
            refine lv_aload_n hx hb dX2_flow_149 rfl (lv_at hl 1 rfl) ?_
            refine lv_lload hx hb dX2_flow_150 (lv_at hl 0 rfl) ?_
            refine xp_4_6 (v := g8.1) hx hb hts hown hK hI hP hS (hts _ q237) dX2_flow_152 (fun d10 ed10 H locs hP hS => ?_)
            replace hr := hr.trans (bnd_eq ed10)
            refine lv_goto (tgt := 293) hx hb dX2_flow_155 (by decide) ?_
            exact g_endUv (Pic := (fun u => xB D ad ca K u)) (u := d10) hF hQ hr hP hS dX2_flow_293
        · replace hr := hr.trans (if_neg c_1_32)
          by_cases c_1_33 : o = (33 : Int32)
          · replace hr := hr.trans (if_pos c_1_33)
            refine lv_tableIn (off := 157) (tgt := 158) hx hb dX2_flow_1 (by rw [c_1_33]; decide) (by rw [c_1_33]; decide) (by rw [c_1_33]; rfl) (by decide) ?_
            refine lv_aload_n hx hb dX2_flow_158 rfl (lv_at hl 0 rfl) ?_
            refine lv_aload_n hx hb dX2_flow_159 rfl (lv_at hl 0 rfl) ?_
            refine xg_4_4 hx hb hts hown hK hP (hts _ q233) dX2_flow_160 ?_
            refine lv_iconst (v := (4 : Int32)) hx hb dX2_flow_163 ic_4 ?_
            refine xl_12 hx hb hK hP (show ¬ ((4 : Int32) < 0 ∨ 16 ≤ (4 : Int32).toNatClampNeg) by decide) dX2_flow_164 ?_
            refine lv_bipush (v := (8 : Int32)) hx hb dX2_flow_165 bp_8 ?_
            obtain ⟨g11, eg11⟩ : ∃ z, z = x_fetch K ((dx_r d) (4 : Int32).toNatClampNeg) (8 : Int32) d := ⟨_, rfl⟩
            replace hr := hr.trans (bnd_eq eg11)
            refine g_UV1 (As := [.long ((dx_r d) (4 : Int32).toNatClampNeg), .int (8 : Int32)]) (rest := []) hC (m_X2_fetch hI (K := K) (d := d) ((dx_r d) (4 : Int32).toNatClampNeg) (8 : Int32) g11 eg11 hgd.1) (cwV 2 hts cw_X2_101 rfl rfl rfl hd_X2_fetch ⟨Nat.le_of_ble_eq_true rfl, Nat.le_of_ble_eq_true rfl⟩) xKst (va_recv hK hP (ci := 2) (q0 := 4) rfl rfl) hP hKp ⟨Nat.zero_le _, Nat.zero_le _⟩ hS (fun _ h => h) rfl hl.1 rfl (Nat.le_of_ble_eq_true rfl) dX2_flow_167 (fun H locs hP hS => ?_)
            have hP : va_P D xcl (XW ad ca K g11.2) H := hP
            refine lv_lstore (lv' := [(7, .long g11.1), (0, .ref (ad 4)), (1, .int o), (2, .int sz)]) hx hb dX2_flow_170 hl (by decide) rfl (fun ls hl => ?_)
            refine lv_aload_n hx hb dX2_flow_172 rfl (lv_at hl 1 rfl) ?_
            refine xg_4_9 hx hb hts hown hK hP (hts _ q242) dX2_flow_173 ?_
            refine lv_if_eq (tgt := 180) hx hb dX2_flow_176 (by decide) (fun c_176 => ?_) (fun c_176 => ?_)
            · replace hr := hr.trans (if_pos c_176)
              refine lv_aload_n hx hb dX2_flow_180 rfl (lv_at hl 1 rfl) ?_
              refine lv_lload hx hb dX2_flow_181 (lv_at hl 0 rfl) ?_
              refine xp_4_6 (v := g11.1) hx hb hts hown hK hI hP hS (hts _ q237) dX2_flow_183 (fun d12 ed12 H locs hP hS => ?_)
              replace hr := hr.trans (bnd_eq ed12)
              refine lv_aload_n hx hb dX2_flow_186 rfl (lv_at hl 1 rfl) ?_
              refine xg_4_4 hx hb hts hown hK hP (hts _ q233) dX2_flow_187 ?_
              refine lv_iconst (v := (4 : Int32)) hx hb dX2_flow_190 ic_4 ?_
              refine lv_dup2_11 hx hb dX2_flow_191 rfl rfl ?_
              refine xl_12 hx hb hK hP (show ¬ ((4 : Int32) < 0 ∨ 16 ≤ (4 : Int32).toNatClampNeg) by decide) dX2_flow_192 ?_
              refine lv_ldc2 hx hb hown (hts _ q531) dX2_flow_193 ?_
              refine lv_aload_n hx hb dX2_flow_196 rfl (lv_at hl 1 rfl) ?_
              refine xg_4_3 hx hb hts hown hK hP (hts _ q231) dX2_flow_197 ?_
              refine xgn_9_3 hx hb hts hown hK hP (xq_q186 hN) dX2_flow_200 ?_
              refine lv_iconst (v := (0 : Int32)) hx hb dX2_flow_203 ic_0 ?_
              refine xl_10 hx hb hK hP (show ¬ ((0 : Int32) < 0 ∨ 3 ≤ (0 : Int32).toNatClampNeg) by decide) dX2_flow_204 ?_
              refine lv_iconst (v := (3 : Int32)) hx hb dX2_flow_205 ic_3 ?_
              obtain ⟨p13, ep13⟩ : ∃ z : Int64, z = (if ((kx_kinds K) (0 : Int32).toNatClampNeg) = (3 : Int32) then (kx_number K) else (0 : Int64)) := ⟨_, rfl⟩
              replace hr := hr.trans (bnd_eq ep13)
              have kp13 : ∀ (H : Heap) (locs : List Loc) (ls : Array Slot), va_P D xcl (XW ad ca K d12) H → va_S (xA ad) s.heap H locs → lv_has ls 11 [(7, .long g11.1), (0, .ref (ad 4)), (1, .int o), (2, .int sz)] → W p l e rm_X2_flow s m args below meth c H locs 0 0 Q (F0 m 220 ls [.long p13, .long (8 : Int64), .long ((dx_r d12) (4 : Int32).toNatClampNeg), .int (4 : Int32), .ref (ad 12)]) := by
                intro H locs ls hP hS hl
                refine lv_ladd hx hb dX2_flow_220 ?_
                refine lv_ladd hx hb dX2_flow_221 ?_
                refine xs_12 hx hb hK hI hP hS (show ¬ ((4 : Int32) < 0 ∨ 16 ≤ (4 : Int32).toNatClampNeg) by decide) dX2_flow_222 (fun d14 ed14 H locs hP hS => ?_)
                replace hr := hr.trans (bnd_eq ed14)
                refine lv_goto (tgt := 293) hx hb dX2_flow_223 (by decide) ?_
                exact g_endUv (Pic := (fun u => xB D ad ca K u)) (u := d14) hF hQ hr hP hS dX2_flow_293
              replace hr := ep13
              refine lv_icmp_ne (tgt := 219) hx hb dX2_flow_206 (by decide) (fun c_206 => ?_) (fun c_206 => ?_)
              · replace hr := hr.trans (if_neg c_206)
                refine lv_lconst (v := (0 : Int64)) hx hb dX2_flow_219 lc_0 ?_
                subst hr
                exact kp13 _ _ ls hP hS (lv_sub hl [0, 1, 2, 3] rfl)
              · replace hr := hr.trans (if_pos c_206)
                refine lv_aload_n hx hb dX2_flow_209 rfl (lv_at hl 1 rfl) ?_
                refine xg_4_3 hx hb hts hown hK hP (hts _ q231) dX2_flow_210 ?_
                refine xgn_9_9 hx hb hts hown hK hP (xq_q203 hN) dX2_flow_213 ?_
                refine lv_goto (tgt := 220) hx hb dX2_flow_216 (by decide) ?_
                subst hr
                exact kp13 _ _ ls hP hS (lv_sub hl [0, 1, 2, 3] rfl)
            · replace hr := hr.trans (if_neg c_176)
              exact g_endUv (Pic := (fun u => xB D ad ca K u)) (u := g11.2) hF hQ hr hP hS dX2_flow_179
          · replace hr := hr.trans (if_neg c_1_33)
            by_cases c_1_34 : o = (34 : Int32)
            · replace hr := hr.trans (if_pos c_1_34)
              refine lv_tableIn (off := 87) (tgt := 88) hx hb dX2_flow_1 (by rw [c_1_34]; decide) (by rw [c_1_34]; decide) (by rw [c_1_34]; rfl) (by decide) ?_
              refine lv_aload_n hx hb dX2_flow_88 rfl (lv_at hl 0 rfl) ?_
              obtain ⟨g15, eg15⟩ : ∃ z, z = x_target K d := ⟨_, rfl⟩
              replace hr := hr.trans (bnd_eq eg15)
              refine g_UV1 (As := []) (rest := []) hC (m_X2_target hI (K := K) (d := d)  g15 eg15 hgd) (cwV 0 hts cw_X2_241 rfl rfl rfl hd_X2_target ⟨Nat.le_of_ble_eq_true rfl, Nat.le_of_ble_eq_true rfl⟩) xKst (va_recv hK hP (ci := 2) (q0 := 4) rfl rfl) hP hKp ⟨Nat.zero_le _, Nat.zero_le _⟩ hS (fun _ h => h) rfl hl.1 rfl (Nat.le_of_ble_eq_true rfl) dX2_flow_89 (fun H locs hP hS => ?_)
              have hP : va_P D xcl (XW ad ca K g15.2) H := hP
              refine lv_lstore_n (lv' := [(3, .long g15.1), (0, .ref (ad 4)), (1, .int o), (2, .int sz)]) hx hb dX2_flow_92 rfl hl (by decide) rfl (fun ls hl => ?_)
              refine lv_aload_n hx hb dX2_flow_93 rfl (lv_at hl 1 rfl) ?_
              refine xg_4_9 hx hb hts hown hK hP (hts _ q242) dX2_flow_94 ?_
              obtain ⟨b16, eb16⟩ : ∃ z : Bool, z = (if (dx_stop g15.2) = 0 then (if o = (31 : Int32) then true else (if (b2i (x_holds (kx_cond K) g15.2)) = 0 then false else true)) else false) := ⟨_, rfl⟩
              replace hr := hr.trans (bnd_eq eb16)
              have kb16T : b16 = true → W p l e rm_X2_flow s m args below meth c H locs 0 0 Q (F0 m 120 ls []) := by
                intro hb16
                replace hr := hr.trans (if_pos hb16)
                refine lv_aload_n hx hb dX2_flow_120 rfl (lv_at hl 1 rfl) ?_
                refine lv_lload_n hx hb dX2_flow_121 rfl (lv_at hl 0 rfl) ?_
                refine xp_4_6 (v := g15.1) hx hb hts hown hK hI hP hS (hts _ q237) dX2_flow_122 (fun d17 ed17 H locs hP hS => ?_)
                replace hr := hr.trans (bnd_eq ed17)
                refine lv_goto (tgt := 293) hx hb dX2_flow_125 (by decide) ?_
                exact g_endUv (Pic := (fun u => xB D ad ca K u)) (u := d17) hF hQ hr hP hS dX2_flow_293
              have kb16F : ¬ b16 = true → W p l e rm_X2_flow s m args below meth c H locs 0 0 Q (F0 m 293 ls []) := by
                intro hb16
                replace hr := hr.trans (if_neg hb16)
                exact g_endUv (Pic := (fun u => xB D ad ca K u)) (u := g15.2) hF hQ hr hP hS dX2_flow_293
              replace hr := eb16
              refine lv_if_ne (tgt := 293) hx hb dX2_flow_97 (by decide) (fun c_97 => ?_) (fun c_97 => ?_)
              · replace hr := hr.trans (if_neg c_97)
                exact kb16F (by rw [hr]; decide)
              · replace hr := hr.trans (if_pos c_97)
                refine lv_iload_n hx hb dX2_flow_100 rfl (lv_at hl 2 rfl) ?_
                refine lv_bipush (v := (31 : Int32)) hx hb dX2_flow_101 bp_31 ?_
                refine lv_icmp_eq (tgt := 120) hx hb dX2_flow_103 (by decide) (fun c_103 => ?_) (fun c_103 => ?_)
                · replace hr := hr.trans (if_pos c_103)
                  exact kb16T hr
                · replace hr := hr.trans (if_neg c_103)
                  refine lv_aload_n hx hb dX2_flow_106 rfl (lv_at hl 1 rfl) ?_
                  refine lv_aload_n hx hb dX2_flow_107 rfl (lv_at hl 1 rfl) ?_
                  refine xg_4_3 hx hb hts hown hK hP (hts _ q231) dX2_flow_108 ?_
                  refine xgn_9_2 hx hb hts hown hK hP (xq_q183 hN) dX2_flow_111 ?_
                  refine g_RV (As := [.int (kx_cond K)]) (rest := []) hC (m_X2_holds (K := K) (d := g15.2) (kx_cond K) _ rfl) (cwV 1 hts cw_X2_247 rfl rfl rfl hd_X2_holds ⟨Nat.le_of_ble_eq_true rfl, Nat.le_of_ble_eq_true rfl⟩) xKst (va_recv hK hP (ci := 2) (q0 := 4) rfl rfl) hP hKp ⟨Nat.zero_le _, Nat.zero_le _⟩ rfl hl.1 rfl (Nat.le_of_ble_eq_true rfl) dX2_flow_114 ?_
                  refine lv_if_eq (tgt := 293) hx hb dX2_flow_117 (by decide) (fun c_117 => ?_) (fun c_117 => ?_)
                  · replace hr := hr.trans (if_pos c_117)
                    exact kb16F (by rw [hr]; decide)
                  · replace hr := hr.trans (if_neg c_117)
                    exact kb16T hr
            · replace hr := hr.trans (if_neg c_1_34)
              by_cases c_1_35 : o = (35 : Int32)
              · replace hr := hr.trans (if_pos c_1_35)
                refine lv_tableIn (off := 225) (tgt := 226) hx hb dX2_flow_1 (by rw [c_1_35]; decide) (by rw [c_1_35]; decide) (by rw [c_1_35]; rfl) (by decide) ?_
                refine lv_aload_n hx hb dX2_flow_226 rfl (lv_at hl 0 rfl) ?_
                refine lv_iconst (v := (0 : Int32)) hx hb dX2_flow_227 ic_0 ?_
                refine lv_iconst (v := (1 : Int32)) hx hb dX2_flow_228 ic_1 ?_
                refine lv_aload_n hx hb dX2_flow_229 rfl (lv_at hl 0 rfl) ?_
                refine lv_aload_n hx hb dX2_flow_230 rfl (lv_at hl 0 rfl) ?_
                refine xg_4_3 hx hb hts hown hK hP (hts _ q231) dX2_flow_231 ?_
                refine xgn_9_2 hx hb hts hown hK hP (xq_q183 hN) dX2_flow_234 ?_
                refine g_RV (As := [.int (kx_cond K)]) (rest := [.int (1 : Int32), .int (0 : Int32), .ref (ad 4)]) hC (m_X2_holds (K := K) (d := d) (kx_cond K) _ rfl) (cwV 1 hts cw_X2_247 rfl rfl rfl hd_X2_holds ⟨Nat.le_of_ble_eq_true rfl, Nat.le_of_ble_eq_true rfl⟩) xKst (va_recv hK hP (ci := 2) (q0 := 4) rfl rfl) hP hKp ⟨Nat.zero_le _, Nat.zero_le _⟩ rfl hl.1 rfl (Nat.le_of_ble_eq_true rfl) dX2_flow_237 ?_
                refine lv_if_eq (tgt := 247) hx hb dX2_flow_240 (by decide) (fun c_240 => ?_) (fun c_240 => ?_)
                · replace hr := hr.trans (if_pos c_240)
                  refine lv_lconst (v := (0 : Int64)) hx hb dX2_flow_247 lc_0 ?_
                  obtain ⟨g18, eg18⟩ : ∃ z, z = x_put K (0 : Int32) (1 : Int32) (0 : Int64) d := ⟨_, rfl⟩
                  replace hr := hr.trans (bnd_eq eg18)
                  refine g_UV0 (As := [.int (0 : Int32), .int (1 : Int32), .long (0 : Int64)]) (rest := []) hC (m_X2_put hI (K := K) (d := d) (0 : Int32) (1 : Int32) (0 : Int64) g18 eg18 (show ¬ ((0 : Int32) < 0 ∨ 3 ≤ (0 : Int32).toNatClampNeg) by decide) hgd) (cwV 3 hts cw_X2_188 rfl rfl rfl hd_X2_put ⟨Nat.le_of_ble_eq_true rfl, Nat.le_of_ble_eq_true rfl⟩) xKst (va_recv hK hP (ci := 2) (q0 := 4) rfl rfl) hP hKp ⟨Nat.zero_le _, Nat.zero_le _⟩ hS (fun _ h => h) rfl hl.1 rfl (Nat.le_of_ble_eq_true rfl) dX2_flow_248 (fun H locs hP hS => ?_)
                  have hP : va_P D xcl (XW ad ca K g18) H := hP
                  refine lv_goto (tgt := 293) hx hb dX2_flow_251 (by decide) ?_
                  exact g_endUv (Pic := (fun u => xB D ad ca K u)) (u := g18) hF hQ hr hP hS dX2_flow_293
                · replace hr := hr.trans (if_neg c_240)
                  refine lv_lconst (v := (1 : Int64)) hx hb dX2_flow_243 lc_1 ?_
                  refine lv_goto (tgt := 248) hx hb dX2_flow_244 (by decide) ?_
                  obtain ⟨g19, eg19⟩ : ∃ z, z = x_put K (0 : Int32) (1 : Int32) (1 : Int64) d := ⟨_, rfl⟩
                  replace hr := hr.trans (bnd_eq eg19)
                  refine g_UV0 (As := [.int (0 : Int32), .int (1 : Int32), .long (1 : Int64)]) (rest := []) hC (m_X2_put hI (K := K) (d := d) (0 : Int32) (1 : Int32) (1 : Int64) g19 eg19 (show ¬ ((0 : Int32) < 0 ∨ 3 ≤ (0 : Int32).toNatClampNeg) by decide) hgd) (cwV 3 hts cw_X2_188 rfl rfl rfl hd_X2_put ⟨Nat.le_of_ble_eq_true rfl, Nat.le_of_ble_eq_true rfl⟩) xKst (va_recv hK hP (ci := 2) (q0 := 4) rfl rfl) hP hKp ⟨Nat.zero_le _, Nat.zero_le _⟩ hS (fun _ h => h) rfl hl.1 rfl (Nat.le_of_ble_eq_true rfl) dX2_flow_248 (fun H locs hP hS => ?_)
                  have hP : va_P D xcl (XW ad ca K g19) H := hP
                  refine lv_goto (tgt := 293) hx hb dX2_flow_251 (by decide) ?_
                  exact g_endUv (Pic := (fun u => xB D ad ca K u)) (u := g19) hF hQ hr hP hS dX2_flow_293
              · replace hr := hr.trans (if_neg c_1_35)
                refine lv_tableOut (tgt := 254) hx hb dX2_flow_1 (by have z29 := lv_neT c_1_29 (a := 29) (by decide); have z30 := lv_neT c_1_30 (a := 30) (by decide); have z31 := lv_neT c_1_31 (a := 31) (by decide); have z32 := lv_neT c_1_32 (a := 32) (by decide); have z33 := lv_neT c_1_33 (a := 33) (by decide); have z34 := lv_neT c_1_34 (a := 34) (by decide); have z35 := lv_neT c_1_35 (a := 35) (by decide); omega) (by decide) ?_
                refine lv_aload_n hx hb dX2_flow_254 rfl (lv_at hl 0 rfl) ?_
                refine lv_iconst (v := (1 : Int32)) hx hb dX2_flow_255 ic_1 ?_
                refine lv_iload_n hx hb dX2_flow_256 rfl (lv_at hl 2 rfl) ?_
                obtain ⟨g20, eg20⟩ : ∃ z, z = x_get K (1 : Int32) sz d := ⟨_, rfl⟩
                replace hr := hr.trans (bnd_eq eg20)
                refine g_UV1 (As := [.int (1 : Int32), .int sz]) (rest := []) hC (m_X2_get hI (K := K) (d := d) (1 : Int32) sz g20 eg20 (show ¬ ((1 : Int32) < 0 ∨ 3 ≤ (1 : Int32).toNatClampNeg) by decide) hgd) (cwV 2 hts cw_X2_160 rfl rfl rfl hd_X2_get ⟨Nat.le_of_ble_eq_true rfl, Nat.le_of_ble_eq_true rfl⟩) xKst (va_recv hK hP (ci := 2) (q0 := 4) rfl rfl) hP hKp ⟨Nat.zero_le _, Nat.zero_le _⟩ hS (fun _ h => h) rfl hl.1 rfl (Nat.le_of_ble_eq_true rfl) dX2_flow_257 (fun H locs hP hS => ?_)
                have hP : va_P D xcl (XW ad ca K g20.2) H := hP
                refine lv_lstore (lv' := [(9, .long g20.1), (0, .ref (ad 4)), (1, .int o), (2, .int sz)]) hx hb dX2_flow_260 hl (by decide) rfl (fun ls hl => ?_)
                refine lv_aload_n hx hb dX2_flow_262 rfl (lv_at hl 1 rfl) ?_
                refine lv_iconst (v := (0 : Int32)) hx hb dX2_flow_263 ic_0 ?_
                refine lv_iload_n hx hb dX2_flow_264 rfl (lv_at hl 3 rfl) ?_
                refine lv_aload_n hx hb dX2_flow_265 rfl (lv_at hl 1 rfl) ?_
                refine lv_aload_n hx hb dX2_flow_266 rfl (lv_at hl 1 rfl) ?_
                refine xg_4_3 hx hb hts hown hK hP (hts _ q231) dX2_flow_267 ?_
                refine xgn_9_2 hx hb hts hown hK hP (xq_q183 hN) dX2_flow_270 ?_
                refine g_RV (As := [.int (kx_cond K)]) (rest := [.int sz, .int (0 : Int32), .ref (ad 4)]) hC (m_X2_holds (K := K) (d := g20.2) (kx_cond K) _ rfl) (cwV 1 hts cw_X2_247 rfl rfl rfl hd_X2_holds ⟨Nat.le_of_ble_eq_true rfl, Nat.le_of_ble_eq_true rfl⟩) xKst (va_recv hK hP (ci := 2) (q0 := 4) rfl rfl) hP hKp ⟨Nat.zero_le _, Nat.zero_le _⟩ rfl hl.1 rfl (Nat.le_of_ble_eq_true rfl) dX2_flow_273 ?_
                refine lv_if_eq (tgt := 284) hx hb dX2_flow_276 (by decide) (fun c_276 => ?_) (fun c_276 => ?_)
                · replace hr := hr.trans (if_pos c_276)
                  refine lv_aload_n hx hb dX2_flow_284 rfl (lv_at hl 1 rfl) ?_
                  refine lv_iconst (v := (0 : Int32)) hx hb dX2_flow_285 ic_0 ?_
                  refine lv_iload_n hx hb dX2_flow_286 rfl (lv_at hl 3 rfl) ?_
                  obtain ⟨g21, eg21⟩ : ∃ z, z = x_get K (0 : Int32) sz g20.2 := ⟨_, rfl⟩
                  replace hr := hr.trans (bnd_eq eg21)
                  refine g_UV1 (As := [.int (0 : Int32), .int sz]) (rest := [.int sz, .int (0 : Int32), .ref (ad 4)]) hC (m_X2_get hI (K := K) (d := g20.2) (0 : Int32) sz g21 eg21 (show ¬ ((0 : Int32) < 0 ∨ 3 ≤ (0 : Int32).toNatClampNeg) by decide) hgd) (cwV 2 hts cw_X2_160 rfl rfl rfl hd_X2_get ⟨Nat.le_of_ble_eq_true rfl, Nat.le_of_ble_eq_true rfl⟩) xKst (va_recv hK hP (ci := 2) (q0 := 4) rfl rfl) hP hKp ⟨Nat.zero_le _, Nat.zero_le _⟩ hS (fun _ h => h) rfl hl.1 rfl (Nat.le_of_ble_eq_true rfl) dX2_flow_287 (fun H locs hP hS => ?_)
                  have hP : va_P D xcl (XW ad ca K g21.2) H := hP
                  obtain ⟨g22, eg22⟩ : ∃ z, z = x_put K (0 : Int32) sz g21.1 g21.2 := ⟨_, rfl⟩
                  replace hr := hr.trans (bnd_eq eg22)
                  refine g_UV0 (As := [.int (0 : Int32), .int sz, .long g21.1]) (rest := []) hC (m_X2_put hI (K := K) (d := g21.2) (0 : Int32) sz g21.1 g22 eg22 (show ¬ ((0 : Int32) < 0 ∨ 3 ≤ (0 : Int32).toNatClampNeg) by decide) hgd) (cwV 3 hts cw_X2_188 rfl rfl rfl hd_X2_put ⟨Nat.le_of_ble_eq_true rfl, Nat.le_of_ble_eq_true rfl⟩) xKst (va_recv hK hP (ci := 2) (q0 := 4) rfl rfl) hP hKp ⟨Nat.zero_le _, Nat.zero_le _⟩ hS (fun _ h => h) rfl hl.1 rfl (Nat.le_of_ble_eq_true rfl) dX2_flow_290 (fun H locs hP hS => ?_)
                  have hP : va_P D xcl (XW ad ca K g22) H := hP
                  exact g_endUv (Pic := (fun u => xB D ad ca K u)) (u := g22) hF hQ hr hP hS dX2_flow_293
                · replace hr := hr.trans (if_neg c_276)
                  refine lv_lload hx hb dX2_flow_279 (lv_at hl 0 rfl) ?_
                  refine lv_goto (tgt := 290) hx hb dX2_flow_281 (by decide) ?_
                  obtain ⟨g23, eg23⟩ : ∃ z, z = x_put K (0 : Int32) sz g20.1 g20.2 := ⟨_, rfl⟩
                  replace hr := hr.trans (bnd_eq eg23)
                  refine g_UV0 (As := [.int (0 : Int32), .int sz, .long g20.1]) (rest := []) hC (m_X2_put hI (K := K) (d := g20.2) (0 : Int32) sz g20.1 g23 eg23 (show ¬ ((0 : Int32) < 0 ∨ 3 ≤ (0 : Int32).toNatClampNeg) by decide) hgd) (cwV 3 hts cw_X2_188 rfl rfl rfl hd_X2_put ⟨Nat.le_of_ble_eq_true rfl, Nat.le_of_ble_eq_true rfl⟩) xKst (va_recv hK hP (ci := 2) (q0 := 4) rfl rfl) hP hKp ⟨Nat.zero_le _, Nat.zero_le _⟩ hS (fun _ h => h) rfl hl.1 rfl (Nat.le_of_ble_eq_true rfl) dX2_flow_290 (fun H locs hP hS => ?_)
                  have hP : va_P D xcl (XW ad ca K g23) H := hP
                  exact g_endUv (Pic := (fun u => xB D ad ca K u)) (u := g23) hF hQ hr hP hS dX2_flow_293
def x_exchangeAdd (K : XK) (sz : Int32) (d : XD) : XD := bnd (x_get K (0 : Int32) sz d) fun g1 => bnd (x_get K (1 : Int32) sz g1.2) fun g2 => bnd (x_sum g1.1 g2.1 false sz g2.2) fun g3 => bnd (α := Bool) (if ((kx_kinds K) (0 : Int32).toNatClampNeg) = (2 : Int32) then true else false) fun p4 => bnd (α := Bool) (if (b2i p4) = 0 then true else false) fun p5 => bnd (α := Int64) (if (b2i p4) = 0 then g1.1 else g3.1) fun p6 => bnd (x_put K (b2i p5) sz p6 g3.2) fun g7 => bnd (α := Bool) (if (b2i p4) = 0 then false else true) fun p8 => if (b2i p4) = 0 then (bnd (x_put K (b2i p8) sz g3.1 g7) fun g9 => g9) else (bnd (x_put K (b2i p8) sz g1.1 g7) fun g10 => g10)
abbrev rm_X2_exchangeAdd : Room := { frames := 5, cells := 0, slots := 0, locals := 124 }
set_option maxHeartbeats 4000000 in
set_option maxRecDepth 100000 in
theorem m_X2_exchangeAdd {l : Launch} {D : va_G} {ad : Nat → Nat} {ca : Nat → ClassId} (hI : xInj ad) {K : XK} {d : XD} (sz : Int32) (RES : XD) (hr : RES = x_exchangeAdd K sz d) (hgd : XGd K) : g_U l yX2_exchangeAdd (ws_ yX2_exchangeAdd cX2_exchangeAdd 9 none) rm_X2_exchangeAdd [.ref (ad 4), .int sz] (xKp D ca) (xB D ad ca K d) none (xB D ad ca K RES) (xA ad) := by
  refine g_ofU (by decide) (Nat.le_of_ble_eq_true rfl) ?_
  intro p e s m args below meth c ls Q hF hB hKp hl hQ
  obtain ⟨hx, hb, -, -, hml, hown, hts⟩ := id hF
  have hown : s.vm.findClass RX2 = some m.cls := hown
  have hC : CallFix p m c cX2_exchangeAdd 9 s args lw_all RX2 := ⟨hx, hb, hml, hown, hts⟩
  obtain ⟨hK, hN⟩ := id hKp
  have hP : va_P D xcl (XW ad ca K d) s.heap := hB
  have hS : va_S (xA ad) s.heap s.heap [] := va_S.rf
  have hl : lv_has ls 9 [(0, .ref (ad 4)), (1, .int sz)] := hl
  unfold x_exchangeAdd at hr
  refine lv_aload_n hx hb dX2_exchangeAdd_0 rfl (lv_at hl 0 rfl) ?_
  refine lv_iconst (v := (0 : Int32)) hx hb dX2_exchangeAdd_1 ic_0 ?_
  refine lv_iload_n hx hb dX2_exchangeAdd_2 rfl (lv_at hl 1 rfl) ?_
  obtain ⟨g1, eg1⟩ : ∃ z, z = x_get K (0 : Int32) sz d := ⟨_, rfl⟩
  replace hr := hr.trans (bnd_eq eg1)
  refine g_UV1 (As := [.int (0 : Int32), .int sz]) (rest := []) hC (m_X2_get hI (K := K) (d := d) (0 : Int32) sz g1 eg1 (show ¬ ((0 : Int32) < 0 ∨ 3 ≤ (0 : Int32).toNatClampNeg) by decide) hgd) (cwV 2 hts cw_X2_160 rfl rfl rfl hd_X2_get ⟨Nat.le_of_ble_eq_true rfl, Nat.le_of_ble_eq_true rfl⟩) xKst (va_recv hK hP (ci := 2) (q0 := 4) rfl rfl) hP hKp ⟨Nat.zero_le _, Nat.zero_le _⟩ hS (fun _ h => h) rfl hl.1 rfl (Nat.le_of_ble_eq_true rfl) dX2_exchangeAdd_3 (fun H locs hP hS => ?_)
  have hP : va_P D xcl (XW ad ca K g1.2) H := hP
  refine lv_lstore_n (lv' := [(2, .long g1.1), (0, .ref (ad 4)), (1, .int sz)]) hx hb dX2_exchangeAdd_6 rfl hl (by decide) rfl (fun ls hl => ?_)
  refine lv_aload_n hx hb dX2_exchangeAdd_7 rfl (lv_at hl 1 rfl) ?_
  refine lv_iconst (v := (1 : Int32)) hx hb dX2_exchangeAdd_8 ic_1 ?_
  refine lv_iload_n hx hb dX2_exchangeAdd_9 rfl (lv_at hl 2 rfl) ?_
  obtain ⟨g2, eg2⟩ : ∃ z, z = x_get K (1 : Int32) sz g1.2 := ⟨_, rfl⟩
  replace hr := hr.trans (bnd_eq eg2)
  refine g_UV1 (As := [.int (1 : Int32), .int sz]) (rest := []) hC (m_X2_get hI (K := K) (d := g1.2) (1 : Int32) sz g2 eg2 (show ¬ ((1 : Int32) < 0 ∨ 3 ≤ (1 : Int32).toNatClampNeg) by decide) hgd) (cwV 2 hts cw_X2_160 rfl rfl rfl hd_X2_get ⟨Nat.le_of_ble_eq_true rfl, Nat.le_of_ble_eq_true rfl⟩) xKst (va_recv hK hP (ci := 2) (q0 := 4) rfl rfl) hP hKp ⟨Nat.zero_le _, Nat.zero_le _⟩ hS (fun _ h => h) rfl hl.1 rfl (Nat.le_of_ble_eq_true rfl) dX2_exchangeAdd_10 (fun H locs hP hS => ?_)
  have hP : va_P D xcl (XW ad ca K g2.2) H := hP
  refine lv_lstore (lv' := [(4, .long g2.1), (2, .long g1.1), (0, .ref (ad 4)), (1, .int sz)]) hx hb dX2_exchangeAdd_13 hl (by decide) rfl (fun ls hl => ?_)
  refine lv_aload_n hx hb dX2_exchangeAdd_15 rfl (lv_at hl 2 rfl) ?_
  refine lv_lload_n hx hb dX2_exchangeAdd_16 rfl (lv_at hl 1 rfl) ?_
  refine lv_lload hx hb dX2_exchangeAdd_17 (lv_at hl 0 rfl) ?_
  refine lv_iconst (v := (0 : Int32)) hx hb dX2_exchangeAdd_19 ic_0 ?_
  refine lv_iload_n hx hb dX2_exchangeAdd_20 rfl (lv_at hl 3 rfl) ?_
  obtain ⟨g3, eg3⟩ : ∃ z, z = x_sum g1.1 g2.1 false sz g2.2 := ⟨_, rfl⟩
  replace hr := hr.trans (bnd_eq eg3)
  refine g_UV1 (As := [.long g1.1, .long g2.1, .int (b2i false), .int sz]) (rest := []) hC (m_X2_sum hI (K := K) (d := g2.2) g1.1 g2.1 false sz g3 eg3) (cwV 4 hts cw_X2_177 rfl rfl rfl hd_X2_sum ⟨Nat.le_of_ble_eq_true rfl, Nat.le_of_ble_eq_true rfl⟩) xKst (va_recv hK hP (ci := 2) (q0 := 4) rfl rfl) hP hKp ⟨Nat.zero_le _, Nat.zero_le _⟩ hS (fun _ h => h) rfl hl.1 rfl (Nat.le_of_ble_eq_true rfl) dX2_exchangeAdd_21 (fun H locs hP hS => ?_)
  have hP : va_P D xcl (XW ad ca K g3.2) H := hP
  refine lv_lstore (lv' := [(6, .long g3.1), (4, .long g2.1), (2, .long g1.1), (0, .ref (ad 4)), (1, .int sz)]) hx hb dX2_exchangeAdd_24 hl (by decide) rfl (fun ls hl => ?_)
  refine lv_aload_n hx hb dX2_exchangeAdd_26 rfl (lv_at hl 3 rfl) ?_
  refine xg_4_3 hx hb hts hown hK hP (hts _ q231) dX2_exchangeAdd_27 ?_
  refine xgn_9_3 hx hb hts hown hK hP (xq_q186 hN) dX2_exchangeAdd_30 ?_
  refine lv_iconst (v := (0 : Int32)) hx hb dX2_exchangeAdd_33 ic_0 ?_
  refine xl_10 hx hb hK hP (show ¬ ((0 : Int32) < 0 ∨ 3 ≤ (0 : Int32).toNatClampNeg) by decide) dX2_exchangeAdd_34 ?_
  refine lv_iconst (v := (2 : Int32)) hx hb dX2_exchangeAdd_35 ic_2 ?_
  obtain ⟨p4, ep4⟩ : ∃ z : Bool, z = (if ((kx_kinds K) (0 : Int32).toNatClampNeg) = (2 : Int32) then true else false) := ⟨_, rfl⟩
  replace hr := hr.trans (bnd_eq ep4)
  have kp4 : ∀ (H : Heap) (locs : List Loc) (ls : Array Slot), va_P D xcl (XW ad ca K g3.2) H → va_S (xA ad) s.heap H locs → lv_has ls 9 [(6, .long g3.1), (4, .long g2.1), (2, .long g1.1), (0, .ref (ad 4)), (1, .int sz)] → W p l e rm_X2_exchangeAdd s m args below meth c H locs 0 0 Q (F0 m 44 ls [.int (b2i p4)]) := by
    intro H locs ls hP hS hl
    refine lv_istore (lv' := [(8, .int (b2i p4)), (6, .long g3.1), (4, .long g2.1), (2, .long g1.1), (0, .ref (ad 4)), (1, .int sz)]) hx hb dX2_exchangeAdd_44 hl (by decide) rfl (fun ls hl => ?_)
    refine lv_aload_n hx hb dX2_exchangeAdd_46 rfl (lv_at hl 4 rfl) ?_
    refine lv_iload hx hb dX2_exchangeAdd_47 (lv_at hl 0 rfl) ?_
    obtain ⟨p5, ep5⟩ : ∃ z : Bool, z = (if (b2i p4) = 0 then true else false) := ⟨_, rfl⟩
    replace hr := hr.trans (bnd_eq ep5)
    have kp5 : ∀ (H : Heap) (locs : List Loc) (ls : Array Slot), va_P D xcl (XW ad ca K g3.2) H → va_S (xA ad) s.heap H locs → lv_has ls 9 [(8, .int (b2i p4)), (6, .long g3.1), (4, .long g2.1), (2, .long g1.1), (0, .ref (ad 4)), (1, .int sz)] → W p l e rm_X2_exchangeAdd s m args below meth c H locs 0 0 Q (F0 m 57 ls [.int (b2i p5), .ref (ad 4)]) := by
      intro H locs ls hP hS hl
      refine lv_iload_n hx hb dX2_exchangeAdd_57 rfl (lv_at hl 5 rfl) ?_
      refine lv_iload hx hb dX2_exchangeAdd_58 (lv_at hl 0 rfl) ?_
      obtain ⟨p6, ep6⟩ : ∃ z : Int64, z = (if (b2i p4) = 0 then g1.1 else g3.1) := ⟨_, rfl⟩
      replace hr := hr.trans (bnd_eq ep6)
      have kp6 : ∀ (H : Heap) (locs : List Loc) (ls : Array Slot), va_P D xcl (XW ad ca K g3.2) H → va_S (xA ad) s.heap H locs → lv_has ls 9 [(8, .int (b2i p4)), (6, .long g3.1), (4, .long g2.1), (2, .long g1.1), (0, .ref (ad 4)), (1, .int sz)] → W p l e rm_X2_exchangeAdd s m args below meth c H locs 0 0 Q (F0 m 69 ls [.long p6, .int sz, .int (b2i p5), .ref (ad 4)]) := by
        intro H locs ls hP hS hl
        obtain ⟨g7, eg7⟩ : ∃ z, z = x_put K (b2i p5) sz p6 g3.2 := ⟨_, rfl⟩
        replace hr := hr.trans (bnd_eq eg7)
        refine g_UV0 (As := [.int (b2i p5), .int sz, .long p6]) (rest := []) hC (m_X2_put hI (K := K) (d := g3.2) (b2i p5) sz p6 g7 eg7 (b2i_in3 _) hgd) (cwV 3 hts cw_X2_188 rfl rfl rfl hd_X2_put ⟨Nat.le_of_ble_eq_true rfl, Nat.le_of_ble_eq_true rfl⟩) xKst (va_recv hK hP (ci := 2) (q0 := 4) rfl rfl) hP hKp ⟨Nat.zero_le _, Nat.zero_le _⟩ hS (fun _ h => h) rfl hl.1 rfl (Nat.le_of_ble_eq_true rfl) dX2_exchangeAdd_69 (fun H locs hP hS => ?_)
        have hP : va_P D xcl (XW ad ca K g7) H := hP
        refine lv_aload_n hx hb dX2_exchangeAdd_72 rfl (lv_at hl 4 rfl) ?_
        refine lv_iload hx hb dX2_exchangeAdd_73 (lv_at hl 0 rfl) ?_
        obtain ⟨p8, ep8⟩ : ∃ z : Bool, z = (if (b2i p4) = 0 then false else true) := ⟨_, rfl⟩
        replace hr := hr.trans (bnd_eq ep8)
        have kp8 : ∀ (H : Heap) (locs : List Loc) (ls : Array Slot), va_P D xcl (XW ad ca K g7) H → va_S (xA ad) s.heap H locs → lv_has ls 9 [(8, .int (b2i p4)), (6, .long g3.1), (4, .long g2.1), (2, .long g1.1), (0, .ref (ad 4)), (1, .int sz)] → W p l e rm_X2_exchangeAdd s m args below meth c H locs 0 0 Q (F0 m 83 ls [.int (b2i p8), .ref (ad 4)]) := by
          intro H locs ls hP hS hl
          refine lv_iload_n hx hb dX2_exchangeAdd_83 rfl (lv_at hl 5 rfl) ?_
          refine lv_iload hx hb dX2_exchangeAdd_84 (lv_at hl 0 rfl) ?_
          refine lv_if_eq (tgt := 93) hx hb dX2_exchangeAdd_86 (by decide) (fun c_86 => ?_) (fun c_86 => ?_)
          · replace hr := hr.trans (if_pos c_86)
            refine lv_lload hx hb dX2_exchangeAdd_93 (lv_at hl 1 rfl) ?_
            obtain ⟨g9, eg9⟩ : ∃ z, z = x_put K (b2i p8) sz g3.1 g7 := ⟨_, rfl⟩
            replace hr := hr.trans (bnd_eq eg9)
            refine g_UV0 (As := [.int (b2i p8), .int sz, .long g3.1]) (rest := []) hC (m_X2_put hI (K := K) (d := g7) (b2i p8) sz g3.1 g9 eg9 (b2i_in3 _) hgd) (cwV 3 hts cw_X2_188 rfl rfl rfl hd_X2_put ⟨Nat.le_of_ble_eq_true rfl, Nat.le_of_ble_eq_true rfl⟩) xKst (va_recv hK hP (ci := 2) (q0 := 4) rfl rfl) hP hKp ⟨Nat.zero_le _, Nat.zero_le _⟩ hS (fun _ h => h) rfl hl.1 rfl (Nat.le_of_ble_eq_true rfl) dX2_exchangeAdd_95 (fun H locs hP hS => ?_)
            have hP : va_P D xcl (XW ad ca K g9) H := hP
            exact g_endUv (Pic := (fun u => xB D ad ca K u)) (u := g9) hF hQ hr hP hS dX2_exchangeAdd_98
          · replace hr := hr.trans (if_neg c_86)
            refine lv_lload_n hx hb dX2_exchangeAdd_89 rfl (lv_at hl 3 rfl) ?_
            refine lv_goto (tgt := 95) hx hb dX2_exchangeAdd_90 (by decide) ?_
            obtain ⟨g10, eg10⟩ : ∃ z, z = x_put K (b2i p8) sz g1.1 g7 := ⟨_, rfl⟩
            replace hr := hr.trans (bnd_eq eg10)
            refine g_UV0 (As := [.int (b2i p8), .int sz, .long g1.1]) (rest := []) hC (m_X2_put hI (K := K) (d := g7) (b2i p8) sz g1.1 g10 eg10 (b2i_in3 _) hgd) (cwV 3 hts cw_X2_188 rfl rfl rfl hd_X2_put ⟨Nat.le_of_ble_eq_true rfl, Nat.le_of_ble_eq_true rfl⟩) xKst (va_recv hK hP (ci := 2) (q0 := 4) rfl rfl) hP hKp ⟨Nat.zero_le _, Nat.zero_le _⟩ hS (fun _ h => h) rfl hl.1 rfl (Nat.le_of_ble_eq_true rfl) dX2_exchangeAdd_95 (fun H locs hP hS => ?_)
            have hP : va_P D xcl (XW ad ca K g10) H := hP
            exact g_endUv (Pic := (fun u => xB D ad ca K u)) (u := g10) hF hQ hr hP hS dX2_exchangeAdd_98
        replace hr := ep8
        refine lv_if_eq (tgt := 82) hx hb dX2_exchangeAdd_75 (by decide) (fun c_75 => ?_) (fun c_75 => ?_)
        · replace hr := hr.trans (if_pos c_75)
          refine lv_iconst (v := (0 : Int32)) hx hb dX2_exchangeAdd_82 ic_0 ?_
          subst hr
          exact kp8 _ _ ls hP hS (lv_sub hl [0, 1, 2, 3, 4, 5] rfl)
        · replace hr := hr.trans (if_neg c_75)
          refine lv_iconst (v := (1 : Int32)) hx hb dX2_exchangeAdd_78 ic_1 ?_
          refine lv_goto (tgt := 83) hx hb dX2_exchangeAdd_79 (by decide) ?_
          subst hr
          exact kp8 _ _ ls hP hS (lv_sub hl [0, 1, 2, 3, 4, 5] rfl)
      replace hr := ep6
      refine lv_if_eq (tgt := 68) hx hb dX2_exchangeAdd_60 (by decide) (fun c_60 => ?_) (fun c_60 => ?_)
      · replace hr := hr.trans (if_pos c_60)
        refine lv_lload_n hx hb dX2_exchangeAdd_68 rfl (lv_at hl 3 rfl) ?_
        subst hr
        exact kp6 _ _ ls hP hS (lv_sub hl [0, 1, 2, 3, 4, 5] rfl)
      · replace hr := hr.trans (if_neg c_60)
        refine lv_lload hx hb dX2_exchangeAdd_63 (lv_at hl 1 rfl) ?_
        refine lv_goto (tgt := 69) hx hb dX2_exchangeAdd_65 (by decide) ?_
        subst hr
        exact kp6 _ _ ls hP hS (lv_sub hl [0, 1, 2, 3, 4, 5] rfl)
    replace hr := ep5
    refine lv_if_eq (tgt := 56) hx hb dX2_exchangeAdd_49 (by decide) (fun c_49 => ?_) (fun c_49 => ?_)
    · replace hr := hr.trans (if_pos c_49)
      refine lv_iconst (v := (1 : Int32)) hx hb dX2_exchangeAdd_56 ic_1 ?_
      subst hr
      exact kp5 _ _ ls hP hS (lv_sub hl [0, 1, 2, 3, 4, 5] rfl)
    · replace hr := hr.trans (if_neg c_49)
      refine lv_iconst (v := (0 : Int32)) hx hb dX2_exchangeAdd_52 ic_0 ?_
      refine lv_goto (tgt := 57) hx hb dX2_exchangeAdd_53 (by decide) ?_
      subst hr
      exact kp5 _ _ ls hP hS (lv_sub hl [0, 1, 2, 3, 4, 5] rfl)
  replace hr := ep4
  refine lv_icmp_ne (tgt := 43) hx hb dX2_exchangeAdd_36 (by decide) (fun c_36 => ?_) (fun c_36 => ?_)
  · replace hr := hr.trans (if_neg c_36)
    refine lv_iconst (v := (0 : Int32)) hx hb dX2_exchangeAdd_43 ic_0 ?_
    subst hr
    exact kp4 _ _ ls hP hS (lv_sub hl [0, 1, 2, 3, 4] rfl)
  · replace hr := hr.trans (if_pos c_36)
    refine lv_iconst (v := (1 : Int32)) hx hb dX2_exchangeAdd_39 ic_1 ?_
    refine lv_goto (tgt := 44) hx hb dX2_exchangeAdd_40 (by decide) ?_
    subst hr
    exact kp4 _ _ ls hP hS (lv_sub hl [0, 1, 2, 3, 4] rfl)
def x_compareExchange (K : XK) (sz : Int32) (d : XD) : XD := bnd (x_get K (0 : Int32) sz d) fun g1 => bnd (x_get K (1 : Int32) sz g1.2) fun g2 => if (dx_stop g2.2) = 0 then (bnd (x_difference (x_cut ((dx_r g2.2) (0 : Int32).toNatClampNeg) sz) g1.1 false sz g2.2) fun g3 => if (b2i (x_is (64 : Int32) g3.2)) = 0 then (bnd (x_setRegister (0 : Int32) sz g1.1 g3.2) fun g4 => g4) else (bnd (x_put K (0 : Int32) sz g2.1 g3.2) fun g5 => g5)) else g2.2
abbrev rm_X2_compareExchange : Room := { frames := 5, cells := 0, slots := 0, locals := 124 }
set_option maxHeartbeats 4000000 in
set_option maxRecDepth 100000 in
theorem m_X2_compareExchange {l : Launch} {D : va_G} {ad : Nat → Nat} {ca : Nat → ClassId} (hI : xInj ad) {K : XK} {d : XD} (sz : Int32) (RES : XD) (hr : RES = x_compareExchange K sz d) (hgd : XGd K) : g_U l yX2_compareExchange (ws_ yX2_compareExchange cX2_compareExchange 6 none) rm_X2_compareExchange [.ref (ad 4), .int sz] (xKp D ca) (xB D ad ca K d) none (xB D ad ca K RES) (xA ad) := by
  refine g_ofU (by decide) (Nat.le_of_ble_eq_true rfl) ?_
  intro p e s m args below meth c ls Q hF hB hKp hl hQ
  obtain ⟨hx, hb, -, -, hml, hown, hts⟩ := id hF
  have hown : s.vm.findClass RX2 = some m.cls := hown
  have hC : CallFix p m c cX2_compareExchange 6 s args lw_all RX2 := ⟨hx, hb, hml, hown, hts⟩
  obtain ⟨hK, hN⟩ := id hKp
  have hP : va_P D xcl (XW ad ca K d) s.heap := hB
  have hS : va_S (xA ad) s.heap s.heap [] := va_S.rf
  have hl : lv_has ls 6 [(0, .ref (ad 4)), (1, .int sz)] := hl
  unfold x_compareExchange at hr
  refine lv_aload_n hx hb dX2_compareExchange_0 rfl (lv_at hl 0 rfl) ?_
  refine lv_iconst (v := (0 : Int32)) hx hb dX2_compareExchange_1 ic_0 ?_
  refine lv_iload_n hx hb dX2_compareExchange_2 rfl (lv_at hl 1 rfl) ?_
  obtain ⟨g1, eg1⟩ : ∃ z, z = x_get K (0 : Int32) sz d := ⟨_, rfl⟩
  replace hr := hr.trans (bnd_eq eg1)
  refine g_UV1 (As := [.int (0 : Int32), .int sz]) (rest := []) hC (m_X2_get hI (K := K) (d := d) (0 : Int32) sz g1 eg1 (show ¬ ((0 : Int32) < 0 ∨ 3 ≤ (0 : Int32).toNatClampNeg) by decide) hgd) (cwV 2 hts cw_X2_160 rfl rfl rfl hd_X2_get ⟨Nat.le_of_ble_eq_true rfl, Nat.le_of_ble_eq_true rfl⟩) xKst (va_recv hK hP (ci := 2) (q0 := 4) rfl rfl) hP hKp ⟨Nat.zero_le _, Nat.zero_le _⟩ hS (fun _ h => h) rfl hl.1 rfl (Nat.le_of_ble_eq_true rfl) dX2_compareExchange_3 (fun H locs hP hS => ?_)
  have hP : va_P D xcl (XW ad ca K g1.2) H := hP
  refine lv_lstore_n (lv' := [(2, .long g1.1), (0, .ref (ad 4)), (1, .int sz)]) hx hb dX2_compareExchange_6 rfl hl (by decide) rfl (fun ls hl => ?_)
  refine lv_aload_n hx hb dX2_compareExchange_7 rfl (lv_at hl 1 rfl) ?_
  refine lv_iconst (v := (1 : Int32)) hx hb dX2_compareExchange_8 ic_1 ?_
  refine lv_iload_n hx hb dX2_compareExchange_9 rfl (lv_at hl 2 rfl) ?_
  obtain ⟨g2, eg2⟩ : ∃ z, z = x_get K (1 : Int32) sz g1.2 := ⟨_, rfl⟩
  replace hr := hr.trans (bnd_eq eg2)
  refine g_UV1 (As := [.int (1 : Int32), .int sz]) (rest := []) hC (m_X2_get hI (K := K) (d := g1.2) (1 : Int32) sz g2 eg2 (show ¬ ((1 : Int32) < 0 ∨ 3 ≤ (1 : Int32).toNatClampNeg) by decide) hgd) (cwV 2 hts cw_X2_160 rfl rfl rfl hd_X2_get ⟨Nat.le_of_ble_eq_true rfl, Nat.le_of_ble_eq_true rfl⟩) xKst (va_recv hK hP (ci := 2) (q0 := 4) rfl rfl) hP hKp ⟨Nat.zero_le _, Nat.zero_le _⟩ hS (fun _ h => h) rfl hl.1 rfl (Nat.le_of_ble_eq_true rfl) dX2_compareExchange_10 (fun H locs hP hS => ?_)
  have hP : va_P D xcl (XW ad ca K g2.2) H := hP
  refine lv_lstore (lv' := [(4, .long g2.1), (2, .long g1.1), (0, .ref (ad 4)), (1, .int sz)]) hx hb dX2_compareExchange_13 hl (by decide) rfl (fun ls hl => ?_)
  refine lv_aload_n hx hb dX2_compareExchange_15 rfl (lv_at hl 2 rfl) ?_
  refine xg_4_9 hx hb hts hown hK hP (hts _ q242) dX2_compareExchange_16 ?_
  refine lv_if_eq (tgt := 23) hx hb dX2_compareExchange_19 (by decide) (fun c_19 => ?_) (fun c_19 => ?_)
  · replace hr := hr.trans (if_pos c_19)
    refine lv_aload_n hx hb dX2_compareExchange_23 rfl (lv_at hl 2 rfl) ?_
    refine lv_aload_n hx hb dX2_compareExchange_24 rfl (lv_at hl 2 rfl) ?_
    refine xg_4_4 hx hb hts hown hK hP (hts _ q233) dX2_compareExchange_25 ?_
    refine lv_iconst (v := (0 : Int32)) hx hb dX2_compareExchange_28 ic_0 ?_
    refine xl_12 hx hb hK hP (show ¬ ((0 : Int32) < 0 ∨ 16 ≤ (0 : Int32).toNatClampNeg) by decide) dX2_compareExchange_29 ?_
    refine lv_iload_n hx hb dX2_compareExchange_30 rfl (lv_at hl 3 rfl) ?_
    refine g_RS (As := [.long ((dx_r g2.2) (0 : Int32).toNatClampNeg), .int sz]) (rest := [.ref (ad 4)]) hC (m_X2_cut ((dx_r g2.2) (0 : Int32).toNatClampNeg) sz _ rfl) (va_cwS 2 hts cw_X2_110 rfl rfl rfl hd_X2_cut ⟨Nat.le_of_ble_eq_true rfl, Nat.le_of_ble_eq_true rfl⟩) g_Kst0 trivial trivial ⟨Nat.zero_le _, Nat.zero_le _⟩ rfl hl.1 rfl (Nat.le_of_ble_eq_true rfl) dX2_compareExchange_31 ?_
    refine lv_lload_n hx hb dX2_compareExchange_34 rfl (lv_at hl 1 rfl) ?_
    refine lv_iconst (v := (0 : Int32)) hx hb dX2_compareExchange_35 ic_0 ?_
    refine lv_iload_n hx hb dX2_compareExchange_36 rfl (lv_at hl 3 rfl) ?_
    obtain ⟨g3, eg3⟩ : ∃ z, z = x_difference (x_cut ((dx_r g2.2) (0 : Int32).toNatClampNeg) sz) g1.1 false sz g2.2 := ⟨_, rfl⟩
    replace hr := hr.trans (bnd_eq eg3)
    refine g_UV1 (As := [.long (x_cut ((dx_r g2.2) (0 : Int32).toNatClampNeg) sz), .long g1.1, .int (b2i false), .int sz]) (rest := []) hC (m_X2_difference hI (K := K) (d := g2.2) (x_cut ((dx_r g2.2) (0 : Int32).toNatClampNeg) sz) g1.1 false sz g3 eg3) (cwV 4 hts cw_X2_181 rfl rfl rfl hd_X2_difference ⟨Nat.le_of_ble_eq_true rfl, Nat.le_of_ble_eq_true rfl⟩) xKst (va_recv hK hP (ci := 2) (q0 := 4) rfl rfl) hP hKp ⟨Nat.zero_le _, Nat.zero_le _⟩ hS (fun _ h => h) rfl hl.1 rfl (Nat.le_of_ble_eq_true rfl) dX2_compareExchange_37 (fun H locs hP hS => ?_)
    have hP : va_P D xcl (XW ad ca K g3.2) H := hP
    refine lv_pop2_2 hx hb dX2_compareExchange_40 rfl ?_
    refine lv_aload_n hx hb dX2_compareExchange_41 rfl (lv_at hl 2 rfl) ?_
    refine lv_bipush (v := (64 : Int32)) hx hb dX2_compareExchange_42 bp_64 ?_
    refine g_RV (As := [.int (64 : Int32)]) (rest := []) hC (m_X2_is (K := K) (d := g3.2) (64 : Int32) _ rfl) (cwV 1 hts cw_X2_142 rfl rfl rfl hd_X2_is ⟨Nat.le_of_ble_eq_true rfl, Nat.le_of_ble_eq_true rfl⟩) xKst (va_recv hK hP (ci := 2) (q0 := 4) rfl rfl) hP hKp ⟨Nat.zero_le _, Nat.zero_le _⟩ rfl hl.1 rfl (Nat.le_of_ble_eq_true rfl) dX2_compareExchange_44 ?_
    refine lv_if_eq (tgt := 61) hx hb dX2_compareExchange_47 (by decide) (fun c_47 => ?_) (fun c_47 => ?_)
    · replace hr := hr.trans (if_pos c_47)
      refine lv_aload_n hx hb dX2_compareExchange_61 rfl (lv_at hl 2 rfl) ?_
      refine lv_iconst (v := (0 : Int32)) hx hb dX2_compareExchange_62 ic_0 ?_
      refine lv_iload_n hx hb dX2_compareExchange_63 rfl (lv_at hl 3 rfl) ?_
      refine lv_lload_n hx hb dX2_compareExchange_64 rfl (lv_at hl 1 rfl) ?_
      obtain ⟨g4, eg4⟩ : ∃ z, z = x_setRegister (0 : Int32) sz g1.1 g3.2 := ⟨_, rfl⟩
      replace hr := hr.trans (bnd_eq eg4)
      refine g_UV0 (As := [.int (0 : Int32), .int sz, .long g1.1]) (rest := []) hC (m_X2_setRegister hI (K := K) (d := g3.2) (0 : Int32) sz g1.1 g4 eg4 (show ¬ ((0 : Int32) < 0 ∨ 16 ≤ (0 : Int32).toNatClampNeg) by decide)) (cwV 3 hts cw_X2_118 rfl rfl rfl hd_X2_setRegister ⟨Nat.le_of_ble_eq_true rfl, Nat.le_of_ble_eq_true rfl⟩) xKst (va_recv hK hP (ci := 2) (q0 := 4) rfl rfl) hP hKp ⟨Nat.zero_le _, Nat.zero_le _⟩ hS (fun _ h => h) rfl hl.1 rfl (Nat.le_of_ble_eq_true rfl) dX2_compareExchange_65 (fun H locs hP hS => ?_)
      have hP : va_P D xcl (XW ad ca K g4) H := hP
      exact g_endUv (Pic := (fun u => xB D ad ca K u)) (u := g4) hF hQ hr hP hS dX2_compareExchange_68
    · replace hr := hr.trans (if_neg c_47)
      refine lv_aload_n hx hb dX2_compareExchange_50 rfl (lv_at hl 2 rfl) ?_
      refine lv_iconst (v := (0 : Int32)) hx hb dX2_compareExchange_51 ic_0 ?_
      refine lv_iload_n hx hb dX2_compareExchange_52 rfl (lv_at hl 3 rfl) ?_
      refine lv_lload hx hb dX2_compareExchange_53 (lv_at hl 0 rfl) ?_
      obtain ⟨g5, eg5⟩ : ∃ z, z = x_put K (0 : Int32) sz g2.1 g3.2 := ⟨_, rfl⟩
      replace hr := hr.trans (bnd_eq eg5)
      refine g_UV0 (As := [.int (0 : Int32), .int sz, .long g2.1]) (rest := []) hC (m_X2_put hI (K := K) (d := g3.2) (0 : Int32) sz g2.1 g5 eg5 (show ¬ ((0 : Int32) < 0 ∨ 3 ≤ (0 : Int32).toNatClampNeg) by decide) hgd) (cwV 3 hts cw_X2_188 rfl rfl rfl hd_X2_put ⟨Nat.le_of_ble_eq_true rfl, Nat.le_of_ble_eq_true rfl⟩) xKst (va_recv hK hP (ci := 2) (q0 := 4) rfl rfl) hP hKp ⟨Nat.zero_le _, Nat.zero_le _⟩ hS (fun _ h => h) rfl hl.1 rfl (Nat.le_of_ble_eq_true rfl) dX2_compareExchange_55 (fun H locs hP hS => ?_)
      have hP : va_P D xcl (XW ad ca K g5) H := hP
      refine lv_goto (tgt := 68) hx hb dX2_compareExchange_58 (by decide) ?_
      exact g_endUv (Pic := (fun u => xB D ad ca K u)) (u := g5) hF hQ hr hP hS dX2_compareExchange_68
  · replace hr := hr.trans (if_neg c_19)
    exact g_endUv (Pic := (fun u => xB D ad ca K u)) (u := g2.2) hF hQ hr hP hS dX2_compareExchange_22
def x_scan (K : XK) (sg : Bool) (sz : Int32) (y : Int64) (d : XD) : XD := if (dx_stop d) = 0 then (bnd (α := Bool) (if y = (0 : Int64) then true else false) fun p1 => bnd (x_mark (64 : Int32) p1 d) fun g2 => if y = (0 : Int64) then g2 else (if (b2i sg) = 0 then (bnd (x_put K (0 : Int32) sz ((j_ntz y).toInt64) g2) fun g3 => g3) else (bnd (x_put K (0 : Int32) sz (((63 : Int32) - (j_nlz y)).toInt64) g2) fun g4 => g4))) else d
abbrev rm_X2_scan : Room := { frames := 5, cells := 0, slots := 0, locals := 124 }
set_option maxHeartbeats 4000000 in
set_option maxRecDepth 100000 in
theorem m_X2_scan {l : Launch} {D : va_G} {ad : Nat → Nat} {ca : Nat → ClassId} (hI : xInj ad) {K : XK} {d : XD} (sg : Bool) (sz : Int32) (y : Int64) (RES : XD) (hr : RES = x_scan K sg sz y d) (hgd : XGd K) : g_U l yX2_scan (ws_ yX2_scan cX2_scan 5 none) rm_X2_scan [.ref (ad 4), .int (b2i sg), .int sz, .long y] (xKp D ca) (xB D ad ca K d) none (xB D ad ca K RES) (xA ad) := by
  refine g_ofU (by decide) (Nat.le_of_ble_eq_true rfl) ?_
  intro p e s m args below meth c ls Q hF hB hKp hl hQ
  obtain ⟨hx, hb, -, -, hml, hown, hts⟩ := id hF
  have hown : s.vm.findClass RX2 = some m.cls := hown
  have hC : CallFix p m c cX2_scan 5 s args lw_all RX2 := ⟨hx, hb, hml, hown, hts⟩
  obtain ⟨hK, hN⟩ := id hKp
  have hP : va_P D xcl (XW ad ca K d) s.heap := hB
  have hS : va_S (xA ad) s.heap s.heap [] := va_S.rf
  have hl : lv_has ls 5 [(0, .ref (ad 4)), (1, .int (b2i sg)), (2, .int sz), (3, .long y)] := hl
  unfold x_scan at hr
  refine lv_aload_n hx hb dX2_scan_0 rfl (lv_at hl 0 rfl) ?_
  refine xg_4_9 hx hb hts hown hK hP (hts _ q242) dX2_scan_1 ?_
  refine lv_if_eq (tgt := 8) hx hb dX2_scan_4 (by decide) (fun c_4 => ?_) (fun c_4 => ?_)
  · replace hr := hr.trans (if_pos c_4)
    refine lv_aload_n hx hb dX2_scan_8 rfl (lv_at hl 0 rfl) ?_
    refine lv_bipush (v := (64 : Int32)) hx hb dX2_scan_9 bp_64 ?_
    refine lv_lload_n hx hb dX2_scan_11 rfl (lv_at hl 3 rfl) ?_
    refine lv_lconst (v := (0 : Int64)) hx hb dX2_scan_12 lc_0 ?_
    obtain ⟨p1, ep1⟩ : ∃ z : Bool, z = (if y = (0 : Int64) then true else false) := ⟨_, rfl⟩
    replace hr := hr.trans (bnd_eq ep1)
    have kp1 : ∀ (H : Heap) (locs : List Loc) (ls : Array Slot), va_P D xcl (XW ad ca K d) H → va_S (xA ad) s.heap H locs → lv_has ls 5 [(0, .ref (ad 4)), (1, .int (b2i sg)), (2, .int sz), (3, .long y)] → W p l e rm_X2_scan s m args below meth c H locs 0 0 Q (F0 m 22 ls [.int (b2i p1), .int (64 : Int32), .ref (ad 4)]) := by
      intro H locs ls hP hS hl
      obtain ⟨g2, eg2⟩ : ∃ z, z = x_mark (64 : Int32) p1 d := ⟨_, rfl⟩
      replace hr := hr.trans (bnd_eq eg2)
      refine g_UV0 (As := [.int (64 : Int32), .int (b2i p1)]) (rest := []) hC (m_X2_mark hI (K := K) (d := d) (64 : Int32) p1 g2 eg2) (cwV 2 hts cw_X2_125 rfl rfl rfl hd_X2_mark ⟨Nat.le_of_ble_eq_true rfl, Nat.le_of_ble_eq_true rfl⟩) xKst (va_recv hK hP (ci := 2) (q0 := 4) rfl rfl) hP hKp ⟨Nat.zero_le _, Nat.zero_le _⟩ hS (fun _ h => h) rfl hl.1 rfl (Nat.le_of_ble_eq_true rfl) dX2_scan_22 (fun H locs hP hS => ?_)
      have hP : va_P D xcl (XW ad ca K g2) H := hP
      refine lv_lload_n hx hb dX2_scan_25 rfl (lv_at hl 3 rfl) ?_
      refine lv_lconst (v := (0 : Int64)) hx hb dX2_scan_26 lc_0 ?_
      refine lq_eq (tgt := 57) hx hb dX2_scan_27 dX2_scan_28 (by decide) (fun c_27 => ?_) (fun c_27 => ?_)
      · replace hr := hr.trans (if_pos c_27)
        exact g_endUv (Pic := (fun u => xB D ad ca K u)) (u := g2) hF hQ hr hP hS dX2_scan_57
      · replace hr := hr.trans (if_neg c_27)
        refine lv_aload_n hx hb dX2_scan_31 rfl (lv_at hl 0 rfl) ?_
        refine lv_iconst (v := (0 : Int32)) hx hb dX2_scan_32 ic_0 ?_
        refine lv_iload_n hx hb dX2_scan_33 rfl (lv_at hl 2 rfl) ?_
        refine lv_iload_n hx hb dX2_scan_34 rfl (lv_at hl 1 rfl) ?_
        refine lv_if_eq (tgt := 49) hx hb dX2_scan_35 (by decide) (fun c_35 => ?_) (fun c_35 => ?_)
        · replace hr := hr.trans (if_pos c_35)
          refine lv_lload_n hx hb dX2_scan_49 rfl (lv_at hl 3 rfl) ?_
          refine g_RS (As := [.long y]) (rest := [.int sz, .int (0 : Int32), .ref (ad 4)]) hC (m_J0_numberOfTrailingZeros y _ rfl) (va_cwS 1 hts cw_X2_270 rfl rfl rfl hd_J0_numberOfTrailingZeros ⟨Nat.le_of_ble_eq_true rfl, Nat.le_of_ble_eq_true rfl⟩) g_Kst0 trivial trivial ⟨Nat.zero_le _, Nat.zero_le _⟩ rfl hl.1 rfl (Nat.le_of_ble_eq_true rfl) dX2_scan_50 ?_
          refine lv_i2l (v := (j_ntz y).toInt64) hx hb dX2_scan_53 rfl ?_
          obtain ⟨g3, eg3⟩ : ∃ z, z = x_put K (0 : Int32) sz ((j_ntz y).toInt64) g2 := ⟨_, rfl⟩
          replace hr := hr.trans (bnd_eq eg3)
          refine g_UV0 (As := [.int (0 : Int32), .int sz, .long ((j_ntz y).toInt64)]) (rest := []) hC (m_X2_put hI (K := K) (d := g2) (0 : Int32) sz ((j_ntz y).toInt64) g3 eg3 (show ¬ ((0 : Int32) < 0 ∨ 3 ≤ (0 : Int32).toNatClampNeg) by decide) hgd) (cwV 3 hts cw_X2_188 rfl rfl rfl hd_X2_put ⟨Nat.le_of_ble_eq_true rfl, Nat.le_of_ble_eq_true rfl⟩) xKst (va_recv hK hP (ci := 2) (q0 := 4) rfl rfl) hP hKp ⟨Nat.zero_le _, Nat.zero_le _⟩ hS (fun _ h => h) rfl hl.1 rfl (Nat.le_of_ble_eq_true rfl) dX2_scan_54 (fun H locs hP hS => ?_)
          have hP : va_P D xcl (XW ad ca K g3) H := hP
          exact g_endUv (Pic := (fun u => xB D ad ca K u)) (u := g3) hF hQ hr hP hS dX2_scan_57
        · replace hr := hr.trans (if_neg c_35)
          refine lv_bipush (v := (63 : Int32)) hx hb dX2_scan_38 bp_63 ?_
          refine lv_lload_n hx hb dX2_scan_40 rfl (lv_at hl 3 rfl) ?_
          refine g_RS (As := [.long y]) (rest := [.int (63 : Int32), .int sz, .int (0 : Int32), .ref (ad 4)]) hC (m_J0_numberOfLeadingZeros y _ rfl) (va_cwS 1 hts cw_X2_266 rfl rfl rfl hd_J0_numberOfLeadingZeros ⟨Nat.le_of_ble_eq_true rfl, Nat.le_of_ble_eq_true rfl⟩) g_Kst0 trivial trivial ⟨Nat.zero_le _, Nat.zero_le _⟩ rfl hl.1 rfl (Nat.le_of_ble_eq_true rfl) dX2_scan_41 ?_
          refine lv_isub hx hb dX2_scan_44 ?_
          refine lv_i2l (v := ((63 : Int32) - (j_nlz y)).toInt64) hx hb dX2_scan_45 rfl ?_
          refine lv_goto (tgt := 54) hx hb dX2_scan_46 (by decide) ?_
          obtain ⟨g4, eg4⟩ : ∃ z, z = x_put K (0 : Int32) sz (((63 : Int32) - (j_nlz y)).toInt64) g2 := ⟨_, rfl⟩
          replace hr := hr.trans (bnd_eq eg4)
          refine g_UV0 (As := [.int (0 : Int32), .int sz, .long (((63 : Int32) - (j_nlz y)).toInt64)]) (rest := []) hC (m_X2_put hI (K := K) (d := g2) (0 : Int32) sz (((63 : Int32) - (j_nlz y)).toInt64) g4 eg4 (show ¬ ((0 : Int32) < 0 ∨ 3 ≤ (0 : Int32).toNatClampNeg) by decide) hgd) (cwV 3 hts cw_X2_188 rfl rfl rfl hd_X2_put ⟨Nat.le_of_ble_eq_true rfl, Nat.le_of_ble_eq_true rfl⟩) xKst (va_recv hK hP (ci := 2) (q0 := 4) rfl rfl) hP hKp ⟨Nat.zero_le _, Nat.zero_le _⟩ hS (fun _ h => h) rfl hl.1 rfl (Nat.le_of_ble_eq_true rfl) dX2_scan_54 (fun H locs hP hS => ?_)
          have hP : va_P D xcl (XW ad ca K g4) H := hP
          exact g_endUv (Pic := (fun u => xB D ad ca K u)) (u := g4) hF hQ hr hP hS dX2_scan_57
    replace hr := ep1
    refine lq_ne (tgt := 21) hx hb dX2_scan_13 dX2_scan_14 (by decide) (fun c_13 => ?_) (fun c_13 => ?_)
    · replace hr := hr.trans (if_neg c_13)
      refine lv_iconst (v := (0 : Int32)) hx hb dX2_scan_21 ic_0 ?_
      subst hr
      exact kp1 _ _ ls hP hS (lv_sub hl [0, 1, 2, 3] rfl)
    · replace hr := hr.trans (if_pos c_13)
      refine lv_iconst (v := (1 : Int32)) hx hb dX2_scan_17 ic_1 ?_
      refine lv_goto (tgt := 22) hx hb dX2_scan_18 (by decide) ?_
      subst hr
      exact kp1 _ _ ls hP hS (lv_sub hl [0, 1, 2, 3] rfl)
  · replace hr := hr.trans (if_neg c_4)
    exact g_endUv (Pic := (fun u => xB D ad ca K u)) (u := d) hF hQ hr hP hS dX2_scan_7
def x_string (K : XK) (o : Int32) (sz : Int32) (d : XD) : XD := bnd (α := Bool) (if o ≤ (51 : Int32) then false else true) fun p1 => bnd (α := Bool) (if (b2i p1) = 0 then false else (if ((dx_r d) (1 : Int32).toNatClampNeg) = (0 : Int64) then true else false)) fun b2 => if b2 = true then d else (bnd (α := Bool) (if o = (50 : Int32) then true else (if o = (52 : Int32) then true else false)) fun p3 => bnd (α := Int64 × XD) (if (b2i p3) = 0 then (((dx_r d) (0 : Int32).toNatClampNeg), d) else (bnd (x_fetch K ((dx_r d) (6 : Int32).toNatClampNeg) sz d) fun g5 => (g5.1, g5.2))) fun p4 => bnd (x_store K ((dx_r p4.2) (7 : Int32).toNatClampNeg) sz p4.1 p4.2) fun g6 => if (dx_stop g6) = 0 then (bnd (dx_r_ (vp_updL (dx_r g6) (7 : Int32).toNatClampNeg (((dx_r g6) (7 : Int32).toNatClampNeg) + (sz.toInt64))) g6) fun d7 => bnd (α := XD) (if (b2i p3) = 0 then d7 else (bnd (dx_r_ (vp_updL (dx_r d7) (6 : Int32).toNatClampNeg (((dx_r d7) (6 : Int32).toNatClampNeg) + (sz.toInt64))) d7) fun d9 => d9)) fun p8 => bnd (α := XD) (if (b2i p1) = 0 then p8 else (bnd (dx_r_ (vp_updL (dx_r p8) (1 : Int32).toNatClampNeg (((dx_r p8) (1 : Int32).toNatClampNeg) - (1 : Int64))) p8) fun d11 => d11)) fun p10 => if (b2i p1) = 0 then p10 else (if ((dx_r p10) (1 : Int32).toNatClampNeg) = (0 : Int64) then p10 else (bnd (dx_next_ (dx_ip p10) p10) fun d12 => d12))) else g6)
abbrev rm_X2_string : Room := { frames := 4, cells := 0, slots := 0, locals := 100 }
set_option maxHeartbeats 4000000 in
set_option maxRecDepth 100000 in
theorem m_X2_string {l : Launch} {D : va_G} {ad : Nat → Nat} {ca : Nat → ClassId} (hI : xInj ad) {K : XK} {d : XD} (o : Int32) (sz : Int32) (RES : XD) (hr : RES = x_string K o sz d) (hgd : XGd K) : g_U l yX2_string (ws_ yX2_string cX2_string 7 none) rm_X2_string [.ref (ad 4), .int o, .int sz] (xKp D ca) (xB D ad ca K d) none (xB D ad ca K RES) (xA ad) := by
  refine g_ofU (by decide) (Nat.le_of_ble_eq_true rfl) ?_
  intro p e s m args below meth c ls Q hF hB hKp hl hQ
  obtain ⟨hx, hb, -, -, hml, hown, hts⟩ := id hF
  have hown : s.vm.findClass RX2 = some m.cls := hown
  have hC : CallFix p m c cX2_string 7 s args lw_all RX2 := ⟨hx, hb, hml, hown, hts⟩
  obtain ⟨hK, hN⟩ := id hKp
  have hP : va_P D xcl (XW ad ca K d) s.heap := hB
  have hS : va_S (xA ad) s.heap s.heap [] := va_S.rf
  have hl : lv_has ls 7 [(0, .ref (ad 4)), (1, .int o), (2, .int sz)] := hl
  unfold x_string at hr
  refine lv_iload_n hx hb dX2_string_0 rfl (lv_at hl 1 rfl) ?_
  refine lv_bipush (v := (51 : Int32)) hx hb dX2_string_1 bp_51 ?_
  obtain ⟨p1, ep1⟩ : ∃ z : Bool, z = (if o ≤ (51 : Int32) then false else true) := ⟨_, rfl⟩
  replace hr := hr.trans (bnd_eq ep1)
  have kp1 : ∀ (H : Heap) (locs : List Loc) (ls : Array Slot), va_P D xcl (XW ad ca K d) H → va_S (xA ad) s.heap H locs → lv_has ls 7 [(0, .ref (ad 4)), (1, .int o), (2, .int sz)] → W p l e rm_X2_string s m args below meth c H locs 0 0 Q (F0 m 11 ls [.int (b2i p1)]) := by
    intro H locs ls hP hS hl
    refine lv_istore_n (lv' := [(3, .int (b2i p1)), (0, .ref (ad 4)), (1, .int o), (2, .int sz)]) hx hb dX2_string_11 rfl hl (by decide) rfl (fun ls hl => ?_)
    refine lv_iload_n hx hb dX2_string_12 rfl (lv_at hl 0 rfl) ?_
    obtain ⟨b2, eb2⟩ : ∃ z : Bool, z = (if (b2i p1) = 0 then false else (if ((dx_r d) (1 : Int32).toNatClampNeg) = (0 : Int64) then true else false)) := ⟨_, rfl⟩
    replace hr := hr.trans (bnd_eq eb2)
    have kb2T : b2 = true → W p l e rm_X2_string s m args below meth c H locs 0 0 Q (F0 m 27 ls []) := by
      intro hb2
      replace hr := hr.trans (if_pos hb2)
      have er := eb2
      have c_13 : ¬ ((b2i p1) = 0) := fun q => absurd (hb2.symm.trans (er.trans (if_pos q))) (by decide)
      have er := er.trans (if_neg c_13)
      have c_23 : ((dx_r d) (1 : Int32).toNatClampNeg) = (0 : Int64) := Decidable.byContradiction (fun q => absurd (hb2.symm.trans (er.trans (if_neg q))) (by decide))
      have er := er.trans (if_pos c_23)
      clear er
      exact g_endUv (Pic := (fun u => xB D ad ca K u)) (u := d) hF hQ hr hP hS dX2_string_27
    have kb2F : ¬ b2 = true → W p l e rm_X2_string s m args below meth c H locs 0 0 Q (F0 m 28 ls []) := by
      intro hb2
      replace hr := hr.trans (if_neg hb2)
      refine lv_iload_n hx hb dX2_string_28 rfl (lv_at hl 2 rfl) ?_
      refine lv_bipush (v := (50 : Int32)) hx hb dX2_string_29 bp_50 ?_
      obtain ⟨p3, ep3⟩ : ∃ z : Bool, z = (if o = (50 : Int32) then true else (if o = (52 : Int32) then true else false)) := ⟨_, rfl⟩
      replace hr := hr.trans (bnd_eq ep3)
      have kp3 : ∀ (H : Heap) (locs : List Loc) (ls : Array Slot), va_P D xcl (XW ad ca K d) H → va_S (xA ad) s.heap H locs → lv_has ls 7 [(3, .int (b2i p1)), (0, .ref (ad 4)), (1, .int o), (2, .int sz)] → W p l e rm_X2_string s m args below meth c H locs 0 0 Q (F0 m 45 ls [.int (b2i p3)]) := by
        intro H locs ls hP hS hl
        refine lv_istore (lv' := [(4, .int (b2i p3)), (3, .int (b2i p1)), (0, .ref (ad 4)), (1, .int o), (2, .int sz)]) hx hb dX2_string_45 hl (by decide) rfl (fun ls hl => ?_)
        refine lv_iload hx hb dX2_string_47 (lv_at hl 0 rfl) ?_
        obtain ⟨p4, ep4⟩ : ∃ z : Int64 × XD, z = (if (b2i p3) = 0 then (((dx_r d) (0 : Int32).toNatClampNeg), d) else (bnd (x_fetch K ((dx_r d) (6 : Int32).toNatClampNeg) sz d) fun g5 => (g5.1, g5.2))) := ⟨_, rfl⟩
        replace hr := hr.trans (bnd_eq ep4)
        have kp4 : ∀ (H : Heap) (locs : List Loc) (ls : Array Slot), va_P D xcl (XW ad ca K p4.2) H → va_S (xA ad) s.heap H locs → lv_has ls 7 [(4, .int (b2i p3)), (3, .int (b2i p1)), (0, .ref (ad 4)), (1, .int o), (2, .int sz)] → W p l e rm_X2_string s m args below meth c H locs 0 0 Q (F0 m 73 ls [.long p4.1]) := by
          intro H locs ls hP hS hl
          refine lv_lstore (lv' := [(5, .long p4.1), (4, .int (b2i p3)), (3, .int (b2i p1)), (0, .ref (ad 4)), (1, .int o), (2, .int sz)]) hx hb dX2_string_73 hl (by decide) rfl (fun ls hl => ?_)
          refine lv_aload_n hx hb dX2_string_75 rfl (lv_at hl 3 rfl) ?_
          refine lv_aload_n hx hb dX2_string_76 rfl (lv_at hl 3 rfl) ?_
          refine xg_4_4 hx hb hts hown hK hP (hts _ q233) dX2_string_77 ?_
          refine lv_bipush (v := (7 : Int32)) hx hb dX2_string_80 bp_7 ?_
          refine xl_12 hx hb hK hP (show ¬ ((7 : Int32) < 0 ∨ 16 ≤ (7 : Int32).toNatClampNeg) by decide) dX2_string_82 ?_
          refine lv_iload_n hx hb dX2_string_83 rfl (lv_at hl 5 rfl) ?_
          refine lv_lload hx hb dX2_string_84 (lv_at hl 0 rfl) ?_
          obtain ⟨g6, eg6⟩ : ∃ z, z = x_store K ((dx_r p4.2) (7 : Int32).toNatClampNeg) sz p4.1 p4.2 := ⟨_, rfl⟩
          replace hr := hr.trans (bnd_eq eg6)
          refine g_UV0 (As := [.long ((dx_r p4.2) (7 : Int32).toNatClampNeg), .int sz, .long p4.1]) (rest := []) hC (m_X2_store hI (K := K) (d := p4.2) ((dx_r p4.2) (7 : Int32).toNatClampNeg) sz p4.1 g6 eg6 hgd.1) (cwV 3 hts cw_X2_115 rfl rfl rfl hd_X2_store ⟨Nat.le_of_ble_eq_true rfl, Nat.le_of_ble_eq_true rfl⟩) xKst (va_recv hK hP (ci := 2) (q0 := 4) rfl rfl) hP hKp ⟨Nat.zero_le _, Nat.zero_le _⟩ hS (fun _ h => h) rfl hl.1 rfl (Nat.le_of_ble_eq_true rfl) dX2_string_86 (fun H locs hP hS => ?_)
          have hP : va_P D xcl (XW ad ca K g6) H := hP
          refine lv_aload_n hx hb dX2_string_89 rfl (lv_at hl 3 rfl) ?_
          refine xg_4_9 hx hb hts hown hK hP (hts _ q242) dX2_string_90 ?_
          refine lv_if_eq (tgt := 97) hx hb dX2_string_93 (by decide) (fun c_93 => ?_) (fun c_93 => ?_)
          · replace hr := hr.trans (if_pos c_93)
            refine lv_aload_n hx hb dX2_string_97 rfl (lv_at hl 3 rfl) ?_
            refine xg_4_4 hx hb hts hown hK hP (hts _ q233) dX2_string_98 ?_
            refine lv_bipush (v := (7 : Int32)) hx hb dX2_string_101 bp_7 ?_
            refine lv_dup2_11 hx hb dX2_string_103 rfl rfl ?_
            refine xl_12 hx hb hK hP (show ¬ ((7 : Int32) < 0 ∨ 16 ≤ (7 : Int32).toNatClampNeg) by decide) dX2_string_104 ?_
            refine lv_iload_n hx hb dX2_string_105 rfl (lv_at hl 5 rfl) ?_
            refine lv_i2l (v := sz.toInt64) hx hb dX2_string_106 rfl ?_
            refine lv_ladd hx hb dX2_string_107 ?_
            refine xs_12 hx hb hK hI hP hS (show ¬ ((7 : Int32) < 0 ∨ 16 ≤ (7 : Int32).toNatClampNeg) by decide) dX2_string_108 (fun d7 ed7 H locs hP hS => ?_)
            replace hr := hr.trans (bnd_eq ed7)
            refine lv_iload hx hb dX2_string_109 (lv_at hl 1 rfl) ?_
            obtain ⟨p8, ep8⟩ : ∃ z : XD, z = (if (b2i p3) = 0 then d7 else (bnd (dx_r_ (vp_updL (dx_r d7) (6 : Int32).toNatClampNeg (((dx_r d7) (6 : Int32).toNatClampNeg) + (sz.toInt64))) d7) fun d9 => d9)) := ⟨_, rfl⟩
            replace hr := hr.trans (bnd_eq ep8)
            have kp8 : ∀ (H : Heap) (locs : List Loc) (ls : Array Slot), va_P D xcl (XW ad ca K p8) H → va_S (xA ad) s.heap H locs → lv_has ls 7 [(5, .long p4.1), (4, .int (b2i p3)), (3, .int (b2i p1)), (0, .ref (ad 4)), (1, .int o), (2, .int sz)] → W p l e rm_X2_string s m args below meth c H locs 0 0 Q (F0 m 126 ls []) := by
              intro H locs ls hP hS hl
              refine lv_iload_n hx hb dX2_string_126 rfl (lv_at hl 2 rfl) ?_
              obtain ⟨p10, ep10⟩ : ∃ z : XD, z = (if (b2i p1) = 0 then p8 else (bnd (dx_r_ (vp_updL (dx_r p8) (1 : Int32).toNatClampNeg (((dx_r p8) (1 : Int32).toNatClampNeg) - (1 : Int64))) p8) fun d11 => d11)) := ⟨_, rfl⟩
              replace hr := hr.trans (bnd_eq ep10)
              have kp10 : ∀ (H : Heap) (locs : List Loc) (ls : Array Slot), va_P D xcl (XW ad ca K p10) H → va_S (xA ad) s.heap H locs → lv_has ls 7 [(5, .long p4.1), (4, .int (b2i p3)), (3, .int (b2i p1)), (0, .ref (ad 4)), (1, .int o), (2, .int sz)] → W p l e rm_X2_string s m args below meth c H locs 0 0 Q (F0 m 140 ls []) := by
                intro H locs ls hP hS hl
                refine lv_iload_n hx hb dX2_string_140 rfl (lv_at hl 2 rfl) ?_
                refine lv_if_eq (tgt := 163) hx hb dX2_string_141 (by decide) (fun c_141 => ?_) (fun c_141 => ?_)
                · replace hr := hr.trans (if_pos c_141)
                  exact g_endUv (Pic := (fun u => xB D ad ca K u)) (u := p10) hF hQ hr hP hS dX2_string_163
                · replace hr := hr.trans (if_neg c_141)
                  refine lv_aload_n hx hb dX2_string_144 rfl (lv_at hl 3 rfl) ?_
                  refine xg_4_4 hx hb hts hown hK hP (hts _ q233) dX2_string_145 ?_
                  refine lv_iconst (v := (1 : Int32)) hx hb dX2_string_148 ic_1 ?_
                  refine xl_12 hx hb hK hP (show ¬ ((1 : Int32) < 0 ∨ 16 ≤ (1 : Int32).toNatClampNeg) by decide) dX2_string_149 ?_
                  refine lv_lconst (v := (0 : Int64)) hx hb dX2_string_150 lc_0 ?_
                  refine lq_eq (tgt := 163) hx hb dX2_string_151 dX2_string_152 (by decide) (fun c_151 => ?_) (fun c_151 => ?_)
                  · replace hr := hr.trans (if_pos c_151)
                    exact g_endUv (Pic := (fun u => xB D ad ca K u)) (u := p10) hF hQ hr hP hS dX2_string_163
                  · replace hr := hr.trans (if_neg c_151)
                    refine lv_aload_n hx hb dX2_string_155 rfl (lv_at hl 3 rfl) ?_
                    refine lv_aload_n hx hb dX2_string_156 rfl (lv_at hl 3 rfl) ?_
                    refine xg_4_5 hx hb hts hown hK hP (hts _ q235) dX2_string_157 ?_
                    refine xp_4_6 (v := (dx_ip p10)) hx hb hts hown hK hI hP hS (hts _ q237) dX2_string_160 (fun d12 ed12 H locs hP hS => ?_)
                    replace hr := hr.trans (bnd_eq ed12)
                    exact g_endUv (Pic := (fun u => xB D ad ca K u)) (u := d12) hF hQ hr hP hS dX2_string_163
              replace hr := ep10
              refine lv_if_eq (tgt := 140) hx hb dX2_string_127 (by decide) (fun c_127 => ?_) (fun c_127 => ?_)
              · replace hr := hr.trans (if_pos c_127)
                subst hr
                exact kp10 _ _ ls hP hS (lv_sub hl [0, 1, 2, 3, 4, 5] rfl)
              · replace hr := hr.trans (if_neg c_127)
                refine lv_aload_n hx hb dX2_string_130 rfl (lv_at hl 3 rfl) ?_
                refine xg_4_4 hx hb hts hown hK hP (hts _ q233) dX2_string_131 ?_
                refine lv_iconst (v := (1 : Int32)) hx hb dX2_string_134 ic_1 ?_
                refine lv_dup2_11 hx hb dX2_string_135 rfl rfl ?_
                refine xl_12 hx hb hK hP (show ¬ ((1 : Int32) < 0 ∨ 16 ≤ (1 : Int32).toNatClampNeg) by decide) dX2_string_136 ?_
                refine lv_lconst (v := (1 : Int64)) hx hb dX2_string_137 lc_1 ?_
                refine lv_lsub hx hb dX2_string_138 ?_
                refine xs_12 hx hb hK hI hP hS (show ¬ ((1 : Int32) < 0 ∨ 16 ≤ (1 : Int32).toNatClampNeg) by decide) dX2_string_139 (fun d11 ed11 H locs hP hS => ?_)
                replace hr := hr.trans (bnd_eq ed11)
                subst hr
                exact kp10 _ _ ls hP hS (lv_sub hl [0, 1, 2, 3, 4, 5] rfl)
            replace hr := ep8
            refine lv_if_eq (tgt := 126) hx hb dX2_string_111 (by decide) (fun c_111 => ?_) (fun c_111 => ?_)
            · replace hr := hr.trans (if_pos c_111)
              subst hr
              exact kp8 _ _ ls hP hS (lv_sub hl [0, 1, 2, 3, 4, 5] rfl)
            · replace hr := hr.trans (if_neg c_111)
              refine lv_aload_n hx hb dX2_string_114 rfl (lv_at hl 3 rfl) ?_
              refine xg_4_4 hx hb hts hown hK hP (hts _ q233) dX2_string_115 ?_
              refine lv_bipush (v := (6 : Int32)) hx hb dX2_string_118 bp_6 ?_
              refine lv_dup2_11 hx hb dX2_string_120 rfl rfl ?_
              refine xl_12 hx hb hK hP (show ¬ ((6 : Int32) < 0 ∨ 16 ≤ (6 : Int32).toNatClampNeg) by decide) dX2_string_121 ?_
              refine lv_iload_n hx hb dX2_string_122 rfl (lv_at hl 5 rfl) ?_
              refine lv_i2l (v := sz.toInt64) hx hb dX2_string_123 rfl ?_
              refine lv_ladd hx hb dX2_string_124 ?_
              refine xs_12 hx hb hK hI hP hS (show ¬ ((6 : Int32) < 0 ∨ 16 ≤ (6 : Int32).toNatClampNeg) by decide) dX2_string_125 (fun d9 ed9 H locs hP hS => ?_)
              replace hr := hr.trans (bnd_eq ed9)
              subst hr
              exact kp8 _ _ ls hP hS (lv_sub hl [0, 1, 2, 3, 4, 5] rfl)
          · replace hr := hr.trans (if_neg c_93)
            exact g_endUv (Pic := (fun u => xB D ad ca K u)) (u := g6) hF hQ hr hP hS dX2_string_96
        replace hr := ep4
        refine lv_if_eq (tgt := 67) hx hb dX2_string_49 (by decide) (fun c_49 => ?_) (fun c_49 => ?_)
        · replace hr := hr.trans (if_pos c_49)
          refine lv_aload_n hx hb dX2_string_67 rfl (lv_at hl 2 rfl) ?_
          refine xg_4_4 hx hb hts hown hK hP (hts _ q233) dX2_string_68 ?_
          refine lv_iconst (v := (0 : Int32)) hx hb dX2_string_71 ic_0 ?_
          refine xl_12 hx hb hK hP (show ¬ ((0 : Int32) < 0 ∨ 16 ≤ (0 : Int32).toNatClampNeg) by decide) dX2_string_72 ?_
          subst hr
          exact kp4 _ _ ls hP hS (lv_sub hl [0, 1, 2, 3, 4] rfl)
        · replace hr := hr.trans (if_neg c_49)
          refine lv_aload_n hx hb dX2_string_52 rfl (lv_at hl 2 rfl) ?_
          refine lv_aload_n hx hb dX2_string_53 rfl (lv_at hl 2 rfl) ?_
          refine xg_4_4 hx hb hts hown hK hP (hts _ q233) dX2_string_54 ?_
          refine lv_bipush (v := (6 : Int32)) hx hb dX2_string_57 bp_6 ?_
          refine xl_12 hx hb hK hP (show ¬ ((6 : Int32) < 0 ∨ 16 ≤ (6 : Int32).toNatClampNeg) by decide) dX2_string_59 ?_
          refine lv_iload_n hx hb dX2_string_60 rfl (lv_at hl 4 rfl) ?_
          obtain ⟨g5, eg5⟩ : ∃ z, z = x_fetch K ((dx_r d) (6 : Int32).toNatClampNeg) sz d := ⟨_, rfl⟩
          replace hr := hr.trans (bnd_eq eg5)
          refine g_UV1 (As := [.long ((dx_r d) (6 : Int32).toNatClampNeg), .int sz]) (rest := []) hC (m_X2_fetch hI (K := K) (d := d) ((dx_r d) (6 : Int32).toNatClampNeg) sz g5 eg5 hgd.1) (cwV 2 hts cw_X2_101 rfl rfl rfl hd_X2_fetch ⟨Nat.le_of_ble_eq_true rfl, Nat.le_of_ble_eq_true rfl⟩) xKst (va_recv hK hP (ci := 2) (q0 := 4) rfl rfl) hP hKp ⟨Nat.zero_le _, Nat.zero_le _⟩ hS (fun _ h => h) rfl hl.1 rfl (Nat.le_of_ble_eq_true rfl) dX2_string_61 (fun H locs hP hS => ?_)
          have hP : va_P D xcl (XW ad ca K g5.2) H := hP
          refine lv_goto (tgt := 73) hx hb dX2_string_64 (by decide) ?_
          subst hr
          exact kp4 _ _ ls hP hS (lv_sub hl [0, 1, 2, 3, 4] rfl)
      replace hr := ep3
      refine lv_icmp_eq (tgt := 40) hx hb dX2_string_31 (by decide) (fun c_31 => ?_) (fun c_31 => ?_)
      · replace hr := hr.trans (if_pos c_31)
        refine lv_iconst (v := (1 : Int32)) hx hb dX2_string_40 ic_1 ?_
        refine lv_goto (tgt := 45) hx hb dX2_string_41 (by decide) ?_
        subst hr
        exact kp3 _ _ ls hP hS (lv_sub hl [0, 1, 2, 3] rfl)
      · replace hr := hr.trans (if_neg c_31)
        refine lv_iload_n hx hb dX2_string_34 rfl (lv_at hl 2 rfl) ?_
        refine lv_bipush (v := (52 : Int32)) hx hb dX2_string_35 bp_52 ?_
        refine lv_icmp_ne (tgt := 44) hx hb dX2_string_37 (by decide) (fun c_37 => ?_) (fun c_37 => ?_)
        · replace hr := hr.trans (if_neg c_37)
          refine lv_iconst (v := (0 : Int32)) hx hb dX2_string_44 ic_0 ?_
          subst hr
          exact kp3 _ _ ls hP hS (lv_sub hl [0, 1, 2, 3] rfl)
        · replace hr := hr.trans (if_pos c_37)
          refine lv_iconst (v := (1 : Int32)) hx hb dX2_string_40 ic_1 ?_
          refine lv_goto (tgt := 45) hx hb dX2_string_41 (by decide) ?_
          subst hr
          exact kp3 _ _ ls hP hS (lv_sub hl [0, 1, 2, 3] rfl)
    replace hr := eb2
    refine lv_if_eq (tgt := 28) hx hb dX2_string_13 (by decide) (fun c_13 => ?_) (fun c_13 => ?_)
    · replace hr := hr.trans (if_pos c_13)
      exact kb2F (by rw [hr]; decide)
    · replace hr := hr.trans (if_neg c_13)
      refine lv_aload_n hx hb dX2_string_16 rfl (lv_at hl 1 rfl) ?_
      refine xg_4_4 hx hb hts hown hK hP (hts _ q233) dX2_string_17 ?_
      refine lv_iconst (v := (1 : Int32)) hx hb dX2_string_20 ic_1 ?_
      refine xl_12 hx hb hK hP (show ¬ ((1 : Int32) < 0 ∨ 16 ≤ (1 : Int32).toNatClampNeg) by decide) dX2_string_21 ?_
      refine lv_lconst (v := (0 : Int64)) hx hb dX2_string_22 lc_0 ?_
      refine lq_ne (tgt := 28) hx hb dX2_string_23 dX2_string_24 (by decide) (fun c_23 => ?_) (fun c_23 => ?_)
      · replace hr := hr.trans (if_neg c_23)
        exact kb2F (by rw [hr]; decide)
      · replace hr := hr.trans (if_pos c_23)
        exact kb2T hr
  replace hr := ep1
  refine lv_icmp_le (tgt := 10) hx hb dX2_string_3 (by decide) (fun c_3 => ?_) (fun c_3 => ?_)
  · replace hr := hr.trans (if_pos c_3)
    refine lv_iconst (v := (0 : Int32)) hx hb dX2_string_10 ic_0 ?_
    subst hr
    exact kp1 _ _ ls hP hS (lv_sub hl [0, 1, 2] rfl)
  · replace hr := hr.trans (if_neg c_3)
    refine lv_iconst (v := (1 : Int32)) hx hb dX2_string_6 ic_1 ?_
    refine lv_goto (tgt := 11) hx hb dX2_string_7 (by decide) ?_
    subst hr
    exact kp1 _ _ ls hP hS (lv_sub hl [0, 1, 2] rfl)
def x_all_L6 (K : XK) (a : Int64) (cnt : Int64) (w : Bool) : Nat → Bool → Int64 → Bool
  | 0, w6_6, w6_7 => false
  | n + 1, w6_6, w6_7 => if cnt ≤ w6_7 then w6_6 else (if (b2i w6_6) = 0 then w6_6 else (bnd (α := Bool) (if (x_where K (a + w6_7) w) < 0 then false else true) fun p1 => bnd (α := Int64) ((w6_7 + (1 : Int64))) fun v2 => x_all_L6 K a cnt w n p1 v2))
theorem x_all_L6_s (K : XK) (a : Int64) (cnt : Int64) (w : Bool) (n : Nat) (w6_6 : Bool) (w6_7 : Int64) : x_all_L6 K a cnt w (n + 1) w6_6 w6_7 = if cnt ≤ w6_7 then w6_6 else (if (b2i w6_6) = 0 then w6_6 else (bnd (α := Bool) (if (x_where K (a + w6_7) w) < 0 then false else true) fun p1 => bnd (α := Int64) ((w6_7 + (1 : Int64))) fun v2 => x_all_L6 K a cnt w n p1 v2)) := rfl
def x_all (K : XK) (a : Int64) (cnt : Int64) (w : Bool) : Bool := x_all_L6 K a cnt w (mL (0 : Int64) cnt + 1) true (0 : Int64)
abbrev rm_X2_all : Room := { frames := 2, cells := 0, slots := 0, locals := 49 }
set_option maxHeartbeats 4000000 in
set_option maxRecDepth 100000 in
theorem m_X2_all {l : Launch} {D : va_G} {ad : Nat → Nat} {ca : Nat → ClassId} {K : XK} {d : XD} (a : Int64) (cnt : Int64) (w : Bool) (RES : Bool) (hr : RES = x_all K a cnt w) : g_R l yX2_all (ws_ yX2_all cX2_all 9 (some .boolean)) rm_X2_all [.ref (ad 4), .long a, .long cnt, .int (b2i w)] (xKp D ca) (xB D ad ca K d) (.int (b2i RES)) := by
  refine g_ofR (by decide) (Nat.le_of_ble_eq_true rfl) ?_
  intro p e s m args below meth c ls Q hF hB hKp hl hQ
  obtain ⟨hx, hb, -, -, hml, hown, hts⟩ := id hF
  have hown : s.vm.findClass RX2 = some m.cls := hown
  have hC : CallFix p m c cX2_all 9 s args lw_all RX2 := ⟨hx, hb, hml, hown, hts⟩
  obtain ⟨hK, hN⟩ := id hKp
  have hP : va_P D xcl (XW ad ca K d) s.heap := hB
  have hl : lv_has ls 9 [(0, .ref (ad 4)), (1, .long a), (3, .long cnt), (5, .int (b2i w))] := hl
  unfold x_all at hr
  refine lv_iconst (v := (1 : Int32)) hx hb dX2_all_0 ic_1 ?_
  refine lv_istore (lv' := [(6, .int (1 : Int32)), (0, .ref (ad 4)), (1, .long a), (3, .long cnt), (5, .int (b2i w))]) hx hb dX2_all_1 hl (by decide) rfl (fun ls hl => ?_)
  refine lv_lconst (v := (0 : Int64)) hx hb dX2_all_3 lc_0 ?_
  refine lv_lstore (lv' := [(7, .long (0 : Int64)), (6, .int (1 : Int32)), (0, .ref (ad 4)), (1, .long a), (3, .long cnt), (5, .int (b2i w))]) hx hb dX2_all_4 hl (by decide) rfl (fun ls hl => ?_)
  have lp6 : ∀ (n : Nat) (w6_6 : Bool) (w6_7 : Int64) (ls : Array Slot), mL w6_7 cnt < n → RES = x_all_L6 K a cnt w n w6_6 w6_7 → lv_has ls 9 [(7, .long w6_7), (6, .int (b2i w6_6)), (0, .ref (ad 4)), (1, .long a), (3, .long cnt), (5, .int (b2i w))] → W p l e rm_X2_all s m args below meth c s.heap [] 0 0 Q (F0 m 6 ls []) := by
    intro n
    induction n with
    | zero =>
      intro w6_6 w6_7 ls hm
      exact absurd hm (Nat.not_lt_zero _)
    | succ n ih =>
      intro w6_6 w6_7 ls hm  hr hl
      replace hr := hr.trans (x_all_L6_s K a cnt w n w6_6 w6_7)
      refine lv_lload hx hb dX2_all_6 (lv_at hl 0 rfl) ?_
      refine lv_lload_n hx hb dX2_all_8 rfl (lv_at hl 4 rfl) ?_
      refine lq_ge (tgt := 50) hx hb dX2_all_9 dX2_all_10 (by decide) (fun c_9 => ?_) (fun c_9 => ?_)
      · replace hr := hr.trans (if_pos c_9)
        refine lv_iload hx hb dX2_all_50 (lv_at hl 1 rfl) ?_
        exact g_endRz hF hQ hr rfl dX2_all_52
      · replace hr := hr.trans (if_neg c_9)
        refine lv_iload hx hb dX2_all_13 (lv_at hl 1 rfl) ?_
        refine lv_if_eq (tgt := 50) hx hb dX2_all_15 (by decide) (fun c_15 => ?_) (fun c_15 => ?_)
        · replace hr := hr.trans (if_pos c_15)
          refine lv_iload hx hb dX2_all_50 (lv_at hl 1 rfl) ?_
          exact g_endRz hF hQ hr rfl dX2_all_52
        · replace hr := hr.trans (if_neg c_15)
          refine lv_aload_n hx hb dX2_all_18 rfl (lv_at hl 2 rfl) ?_
          refine xg_4_0 hx hb hts hown hK hP (hts _ q226) dX2_all_19 ?_
          refine lv_lload_n hx hb dX2_all_22 rfl (lv_at hl 3 rfl) ?_
          refine lv_lload hx hb dX2_all_23 (lv_at hl 0 rfl) ?_
          refine lv_ladd hx hb dX2_all_25 ?_
          refine lv_iload hx hb dX2_all_26 (lv_at hl 5 rfl) ?_
          refine g_RV (As := [.long (a + w6_7), .int (b2i w)]) (rest := []) hC (m_X1_where (K := K) (d := d) (a + w6_7) w _ rfl) (cwV 2 hts cw_X2_288 rfl rfl rfl hd_X1_where ⟨Nat.le_of_ble_eq_true rfl, Nat.le_of_ble_eq_true rfl⟩) xKst (va_recv hK hP (ci := 1) (q0 := 2) rfl rfl) hP hKp ⟨Nat.zero_le _, Nat.zero_le _⟩ rfl hl.1 rfl (Nat.le_of_ble_eq_true rfl) dX2_all_28 ?_
          obtain ⟨p1, ep1⟩ : ∃ z : Bool, z = (if (x_where K (a + w6_7) w) < 0 then false else true) := ⟨_, rfl⟩
          replace hr := hr.trans (bnd_eq ep1)
          have kp1 : ∀ (ls : Array Slot), lv_has ls 9 [(7, .long w6_7), (6, .int (b2i w6_6)), (0, .ref (ad 4)), (1, .long a), (3, .long cnt), (5, .int (b2i w))] → W p l e rm_X2_all s m args below meth c s.heap [] 0 0 Q (F0 m 39 ls [.int (b2i p1)]) := by
            intro ls hl
            refine lv_istore (lv' := [(6, .int (b2i p1)), (7, .long w6_7), (0, .ref (ad 4)), (1, .long a), (3, .long cnt), (5, .int (b2i w))]) hx hb dX2_all_39 hl (by decide) rfl (fun ls hl => ?_)
            refine lv_lload hx hb dX2_all_41 (lv_at hl 1 rfl) ?_
            refine lv_lconst (v := (1 : Int64)) hx hb dX2_all_43 lc_1 ?_
            refine lv_ladd hx hb dX2_all_44 ?_
            refine lv_topl (fun v2 ev2 => ?_)
            replace hr := hr.trans (bnd_eq ev2)
            refine lv_lstore (lv' := [(7, .long v2), (6, .int (b2i p1)), (0, .ref (ad 4)), (1, .long a), (3, .long cnt), (5, .int (b2i w))]) hx hb dX2_all_45 hl (by decide) rfl (fun ls hl => ?_)
            refine lv_goto (tgt := 6) hx hb dX2_all_47 (by decide) ?_
            exact ih p1 v2 ls (mL_dec c_9 hm ev2) hr (lv_sub hl [0, 1, 2, 3, 4, 5] rfl)
          replace hr := ep1
          refine lv_if_lt (tgt := 38) hx hb dX2_all_31 (by decide) (fun c_31 => ?_) (fun c_31 => ?_)
          · replace hr := hr.trans (if_pos c_31)
            refine lv_iconst (v := (0 : Int32)) hx hb dX2_all_38 ic_0 ?_
            subst hr
            exact kp1 ls (lv_sub hl [0, 1, 2, 3, 4, 5] rfl)
          · replace hr := hr.trans (if_neg c_31)
            refine lv_iconst (v := (1 : Int32)) hx hb dX2_all_34 ic_1 ?_
            refine lv_goto (tgt := 39) hx hb dX2_all_35 (by decide) ?_
            subst hr
            exact kp1 ls (lv_sub hl [0, 1, 2, 3, 4, 5] rfl)
  exact lp6 (mL (0 : Int64) cnt + 1) true (0 : Int64) ls (Nat.lt_succ_self _) hr (lv_sub hl [0, 1, 2, 3, 4, 5] rfl)
