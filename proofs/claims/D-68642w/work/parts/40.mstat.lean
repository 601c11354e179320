def m_cut (v : Int64) (size : Int32) : Int64 := if size = (8 : Int32) then v else (if size = (4 : Int32) then (v &&& (4294967295 : Int64)) else (v &&& (255 : Int64)))
abbrev rm_X5_cut : Room := { frames := 0, cells := 0, slots := 0, locals := 0 }
set_option maxHeartbeats 4000000 in
set_option maxRecDepth 100000 in
theorem m_X5_cut {l : Launch} (v : Int64) (size : Int32) (RES : Int64) (hr : RES = m_cut v size) : g_R l yX5_cut (ws_ yX5_cut cX5_cut 3 (some .long)) rm_X5_cut [.long v, .int size] (fun _ => True) (fun _ => True) (.long RES) := by
  refine g_ofR (by decide) (Nat.le_of_ble_eq_true rfl) ?_
  intro p e s m args below meth c ls Q hF hB hKp hl hQ
  obtain ⟨hx, hb, -, -, hml, hown, hts⟩ := id hF
  have hown : s.vm.findClass RX5 = some m.cls := hown
  have hC : CallFix p m c cX5_cut 3 s args lw_all RX5 := ⟨hx, hb, hml, hown, hts⟩
  have hl : lv_has ls 3 [(0, .long v), (2, .int size)] := hl
  unfold m_cut at hr
  refine lv_iload_n hx hb dX5_cut_0 rfl (lv_at hl 1 rfl) ?_
  refine lv_bipush (v := (8 : Int32)) hx hb dX5_cut_1 bp_8 ?_
  refine lv_icmp_ne (tgt := 10) hx hb dX5_cut_3 (by decide) (fun c_3 => ?_) (fun c_3 => ?_)
  · replace hr := hr.trans (if_neg c_3)
    refine lv_iload_n hx hb dX5_cut_10 rfl (lv_at hl 1 rfl) ?_
    refine lv_iconst (v := (4 : Int32)) hx hb dX5_cut_11 ic_4 ?_
    refine lv_icmp_ne (tgt := 23) hx hb dX5_cut_12 (by decide) (fun c_12 => ?_) (fun c_12 => ?_)
    · replace hr := hr.trans (if_neg c_12)
      refine lv_lload_n hx hb dX5_cut_23 rfl (lv_at hl 0 rfl) ?_
      refine lv_ldc2 hx hb hown (hts _ q852) dX5_cut_24 ?_
      refine lv_land hx hb dX5_cut_27 ?_
      exact g_endRl hF hQ hr dX5_cut_28
    · replace hr := hr.trans (if_pos c_12)
      refine lv_lload_n hx hb dX5_cut_15 rfl (lv_at hl 0 rfl) ?_
      refine lv_ldc2 hx hb hown (hts _ q890) dX5_cut_16 ?_
      refine lv_land hx hb dX5_cut_19 ?_
      refine lv_goto (tgt := 28) hx hb dX5_cut_20 (by decide) ?_
      exact g_endRl hF hQ hr dX5_cut_28
  · replace hr := hr.trans (if_pos c_3)
    refine lv_lload_n hx hb dX5_cut_6 rfl (lv_at hl 0 rfl) ?_
    refine lv_goto (tgt := 28) hx hb dX5_cut_7 (by decide) ?_
    exact g_endRl hF hQ hr dX5_cut_28
def m_signed (v : Int64) (size : Int32) : Int64 := if size = (8 : Int32) then v else (if size = (4 : Int32) then ((v.toInt32).toInt64) else (((v.toInt32).toInt8.toInt32).toInt64))
abbrev rm_X5_signed : Room := { frames := 0, cells := 0, slots := 0, locals := 0 }
set_option maxHeartbeats 4000000 in
set_option maxRecDepth 100000 in
theorem m_X5_signed {l : Launch} (v : Int64) (size : Int32) (RES : Int64) (hr : RES = m_signed v size) : g_R l yX5_signed (ws_ yX5_signed cX5_signed 3 (some .long)) rm_X5_signed [.long v, .int size] (fun _ => True) (fun _ => True) (.long RES) := by
  refine g_ofR (by decide) (Nat.le_of_ble_eq_true rfl) ?_
  intro p e s m args below meth c ls Q hF hB hKp hl hQ
  obtain ⟨hx, hb, -, -, hml, hown, hts⟩ := id hF
  have hown : s.vm.findClass RX5 = some m.cls := hown
  have hC : CallFix p m c cX5_signed 3 s args lw_all RX5 := ⟨hx, hb, hml, hown, hts⟩
  have hl : lv_has ls 3 [(0, .long v), (2, .int size)] := hl
  unfold m_signed at hr
  refine lv_iload_n hx hb dX5_signed_0 rfl (lv_at hl 1 rfl) ?_
  refine lv_bipush (v := (8 : Int32)) hx hb dX5_signed_1 bp_8 ?_
  refine lv_icmp_ne (tgt := 10) hx hb dX5_signed_3 (by decide) (fun c_3 => ?_) (fun c_3 => ?_)
  · replace hr := hr.trans (if_neg c_3)
    refine lv_iload_n hx hb dX5_signed_10 rfl (lv_at hl 1 rfl) ?_
    refine lv_iconst (v := (4 : Int32)) hx hb dX5_signed_11 ic_4 ?_
    refine lv_icmp_ne (tgt := 21) hx hb dX5_signed_12 (by decide) (fun c_12 => ?_) (fun c_12 => ?_)
    · replace hr := hr.trans (if_neg c_12)
      refine lv_lload_n hx hb dX5_signed_21 rfl (lv_at hl 0 rfl) ?_
      refine lv_l2i (v := v.toInt32) hx hb dX5_signed_22 rfl ?_
      refine lv_i2b (v := (v.toInt32).toInt8.toInt32) hx hb dX5_signed_23 rfl ?_
      refine lv_i2l (v := ((v.toInt32).toInt8.toInt32).toInt64) hx hb dX5_signed_24 rfl ?_
      exact g_endRl hF hQ hr dX5_signed_25
    · replace hr := hr.trans (if_pos c_12)
      refine lv_lload_n hx hb dX5_signed_15 rfl (lv_at hl 0 rfl) ?_
      refine lv_l2i (v := v.toInt32) hx hb dX5_signed_16 rfl ?_
      refine lv_i2l (v := (v.toInt32).toInt64) hx hb dX5_signed_17 rfl ?_
      refine lv_goto (tgt := 25) hx hb dX5_signed_18 (by decide) ?_
      exact g_endRl hF hQ hr dX5_signed_25
  · replace hr := hr.trans (if_pos c_3)
    refine lv_lload_n hx hb dX5_signed_6 rfl (lv_at hl 0 rfl) ?_
    refine lv_goto (tgt := 25) hx hb dX5_signed_7 (by decide) ?_
    exact g_endRl hF hQ hr dX5_signed_25
def m_upper (v : Int64) (size : Int32) : Int64 := ((lushr_ v (((8 : Int32) * size) - (1 : Int32))) &&& (1 : Int64))
abbrev rm_X5_upper : Room := { frames := 0, cells := 0, slots := 0, locals := 0 }
set_option maxHeartbeats 4000000 in
set_option maxRecDepth 100000 in
theorem m_X5_upper {l : Launch} (v : Int64) (size : Int32) (RES : Int64) (hr : RES = m_upper v size) : g_R l yX5_upper (ws_ yX5_upper cX5_upper 3 (some .long)) rm_X5_upper [.long v, .int size] (fun _ => True) (fun _ => True) (.long RES) := by
  refine g_ofR (by decide) (Nat.le_of_ble_eq_true rfl) ?_
  intro p e s m args below meth c ls Q hF hB hKp hl hQ
  obtain ⟨hx, hb, -, -, hml, hown, hts⟩ := id hF
  have hown : s.vm.findClass RX5 = some m.cls := hown
  have hC : CallFix p m c cX5_upper 3 s args lw_all RX5 := ⟨hx, hb, hml, hown, hts⟩
  have hl : lv_has ls 3 [(0, .long v), (2, .int size)] := hl
  unfold m_upper at hr
  refine lv_lload_n hx hb dX5_upper_0 rfl (lv_at hl 0 rfl) ?_
  refine lv_bipush (v := (8 : Int32)) hx hb dX5_upper_1 bp_8 ?_
  refine lv_iload_n hx hb dX5_upper_3 rfl (lv_at hl 1 rfl) ?_
  refine lv_imul hx hb dX5_upper_4 ?_
  refine lv_iconst (v := (1 : Int32)) hx hb dX5_upper_5 ic_1 ?_
  refine lv_isub hx hb dX5_upper_6 ?_
  refine lv_lushr (v := (lushr_ v (((8 : Int32) * size) - (1 : Int32)))) hx hb dX5_upper_7 rfl ?_
  refine lv_lconst (v := (1 : Int64)) hx hb dX5_upper_8 lc_1 ?_
  refine lv_land hx hb dX5_upper_9 ?_
  exact g_endRl hF hQ hr dX5_upper_10
def m_below (a : Int64) (b : Int64) : Bool := if (b ^^^ (-9223372036854775808 : Int64)) ≤ (a ^^^ (-9223372036854775808 : Int64)) then false else true
abbrev rm_X5_below : Room := { frames := 0, cells := 0, slots := 0, locals := 0 }
set_option maxHeartbeats 4000000 in
set_option maxRecDepth 100000 in
theorem m_X5_below {l : Launch} (a : Int64) (b : Int64) (RES : Bool) (hr : RES = m_below a b) : g_R l yX5_below (ws_ yX5_below cX5_below 4 (some .boolean)) rm_X5_below [.long a, .long b] (fun _ => True) (fun _ => True) (.int (b2i RES)) := by
  refine g_ofR (by decide) (Nat.le_of_ble_eq_true rfl) ?_
  intro p e s m args below meth c ls Q hF hB hKp hl hQ
  obtain ⟨hx, hb, -, -, hml, hown, hts⟩ := id hF
  have hown : s.vm.findClass RX5 = some m.cls := hown
  have hC : CallFix p m c cX5_below 4 s args lw_all RX5 := ⟨hx, hb, hml, hown, hts⟩
  have hl : lv_has ls 4 [(0, .long a), (2, .long b)] := hl
  unfold m_below at hr
  refine lv_lload_n hx hb dX5_below_0 rfl (lv_at hl 0 rfl) ?_
  refine lv_ldc2 hx hb hown (hts _ q923) dX5_below_1 ?_
  refine lv_lxor hx hb dX5_below_4 ?_
  refine lv_lload_n hx hb dX5_below_5 rfl (lv_at hl 1 rfl) ?_
  refine lv_ldc2 hx hb hown (hts _ q923) dX5_below_6 ?_
  refine lv_lxor hx hb dX5_below_9 ?_
  refine lq_ge (tgt := 18) hx hb dX5_below_10 dX5_below_11 (by decide) (fun c_10 => ?_) (fun c_10 => ?_)
  · replace hr := hr.trans (if_pos c_10)
    refine lv_iconst (v := (0 : Int32)) hx hb dX5_below_18 ic_0 ?_
    exact g_endRz hF hQ hr rfl dX5_below_19
  · replace hr := hr.trans (if_neg c_10)
    refine lv_iconst (v := (1 : Int32)) hx hb dX5_below_14 ic_1 ?_
    refine lv_goto (tgt := 19) hx hb dX5_below_15 (by decide) ?_
    exact g_endRz hF hQ hr rfl dX5_below_19
def m_highUnsigned (a : Int64) (b : Int64) : Int64 := bnd (α := Int64) ((a &&& (4294967295 : Int64))) fun v1 => bnd (α := Int64) ((lushr_ a (32 : Int32))) fun v2 => bnd (α := Int64) ((b &&& (4294967295 : Int64))) fun v3 => bnd (α := Int64) ((lushr_ b (32 : Int32))) fun v4 => bnd (α := Int64) ((v1 * v3)) fun v5 => bnd (α := Int64) (((v2 * v3) + (lushr_ v5 (32 : Int32)))) fun v6 => bnd (α := Int64) (((v1 * v4) + (v6 &&& (4294967295 : Int64)))) fun v7 => (((v2 * v4) + (lushr_ v6 (32 : Int32))) + (lushr_ v7 (32 : Int32)))
abbrev rm_X5_highUnsigned : Room := { frames := 0, cells := 0, slots := 0, locals := 0 }
set_option maxHeartbeats 4000000 in
set_option maxRecDepth 100000 in
theorem m_X5_highUnsigned {l : Launch} (a : Int64) (b : Int64) (RES : Int64) (hr : RES = m_highUnsigned a b) : g_R l yX5_highUnsigned (ws_ yX5_highUnsigned cX5_highUnsigned 18 (some .long)) rm_X5_highUnsigned [.long a, .long b] (fun _ => True) (fun _ => True) (.long RES) := by
  refine g_ofR (by decide) (Nat.le_of_ble_eq_true rfl) ?_
  intro p e s m args below meth c ls Q hF hB hKp hl hQ
  obtain ⟨hx, hb, -, -, hml, hown, hts⟩ := id hF
  have hown : s.vm.findClass RX5 = some m.cls := hown
  have hC : CallFix p m c cX5_highUnsigned 18 s args lw_all RX5 := ⟨hx, hb, hml, hown, hts⟩
  have hl : lv_has ls 18 [(0, .long a), (2, .long b)] := hl
  unfold m_highUnsigned at hr
  refine lv_lload_n hx hb dX5_highUnsigned_0 rfl (lv_at hl 0 rfl) ?_
  refine lv_ldc2 hx hb hown (hts _ q890) dX5_highUnsigned_1 ?_
  refine lv_land hx hb dX5_highUnsigned_4 ?_
  refine lv_topl (fun v1 ev1 => ?_)
  replace hr := hr.trans (bnd_eq ev1)
  refine lv_lstore (lv' := [(4, .long v1), (0, .long a), (2, .long b)]) hx hb dX5_highUnsigned_5 hl (by decide) rfl (fun ls hl => ?_)
  refine lv_lload_n hx hb dX5_highUnsigned_7 rfl (lv_at hl 1 rfl) ?_
  refine lv_bipush (v := (32 : Int32)) hx hb dX5_highUnsigned_8 bp_32 ?_
  refine lv_lushr (v := (lushr_ a (32 : Int32))) hx hb dX5_highUnsigned_10 rfl ?_
  refine lv_topl (fun v2 ev2 => ?_)
  replace hr := hr.trans (bnd_eq ev2)
  refine lv_lstore (lv' := [(6, .long v2), (4, .long v1), (0, .long a), (2, .long b)]) hx hb dX5_highUnsigned_11 hl (by decide) rfl (fun ls hl => ?_)
  refine lv_lload_n hx hb dX5_highUnsigned_13 rfl (lv_at hl 3 rfl) ?_
  refine lv_ldc2 hx hb hown (hts _ q890) dX5_highUnsigned_14 ?_
  refine lv_land hx hb dX5_highUnsigned_17 ?_
  refine lv_topl (fun v3 ev3 => ?_)
  replace hr := hr.trans (bnd_eq ev3)
  refine lv_lstore (lv' := [(8, .long v3), (6, .long v2), (4, .long v1), (0, .long a), (2, .long b)]) hx hb dX5_highUnsigned_18 hl (by decide) rfl (fun ls hl => ?_)
  refine lv_lload_n hx hb dX5_highUnsigned_20 rfl (lv_at hl 4 rfl) ?_
  refine lv_bipush (v := (32 : Int32)) hx hb dX5_highUnsigned_21 bp_32 ?_
  refine lv_lushr (v := (lushr_ b (32 : Int32))) hx hb dX5_highUnsigned_23 rfl ?_
  refine lv_topl (fun v4 ev4 => ?_)
  replace hr := hr.trans (bnd_eq ev4)
  refine lv_lstore (lv' := [(10, .long v4), (8, .long v3), (6, .long v2), (4, .long v1), (0, .long a), (2, .long b)]) hx hb dX5_highUnsigned_24 hl (by decide) rfl (fun ls hl => ?_)
  refine lv_lload hx hb dX5_highUnsigned_26 (lv_at hl 3 rfl) ?_
  refine lv_lload hx hb dX5_highUnsigned_28 (lv_at hl 1 rfl) ?_
  refine lv_lmul hx hb dX5_highUnsigned_30 ?_
  refine lv_topl (fun v5 ev5 => ?_)
  replace hr := hr.trans (bnd_eq ev5)
  refine lv_lstore (lv' := [(12, .long v5), (10, .long v4), (8, .long v3), (6, .long v2), (4, .long v1), (0, .long a), (2, .long b)]) hx hb dX5_highUnsigned_31 hl (by decide) rfl (fun ls hl => ?_)
  refine lv_lload hx hb dX5_highUnsigned_33 (lv_at hl 3 rfl) ?_
  refine lv_lload hx hb dX5_highUnsigned_35 (lv_at hl 2 rfl) ?_
  refine lv_lmul hx hb dX5_highUnsigned_37 ?_
  refine lv_lload hx hb dX5_highUnsigned_38 (lv_at hl 0 rfl) ?_
  refine lv_bipush (v := (32 : Int32)) hx hb dX5_highUnsigned_40 bp_32 ?_
  refine lv_lushr (v := (lushr_ v5 (32 : Int32))) hx hb dX5_highUnsigned_42 rfl ?_
  refine lv_ladd hx hb dX5_highUnsigned_43 ?_
  refine lv_topl (fun v6 ev6 => ?_)
  replace hr := hr.trans (bnd_eq ev6)
  refine lv_lstore (lv' := [(14, .long v6), (12, .long v5), (10, .long v4), (8, .long v3), (6, .long v2), (4, .long v1), (0, .long a), (2, .long b)]) hx hb dX5_highUnsigned_44 hl (by decide) rfl (fun ls hl => ?_)
  refine lv_lload hx hb dX5_highUnsigned_46 (lv_at hl 5 rfl) ?_
  refine lv_lload hx hb dX5_highUnsigned_48 (lv_at hl 2 rfl) ?_
  refine lv_lmul hx hb dX5_highUnsigned_50 ?_
  refine lv_lload hx hb dX5_highUnsigned_51 (lv_at hl 0 rfl) ?_
  refine lv_ldc2 hx hb hown (hts _ q890) dX5_highUnsigned_53 ?_
  refine lv_land hx hb dX5_highUnsigned_56 ?_
  refine lv_ladd hx hb dX5_highUnsigned_57 ?_
  refine lv_topl (fun v7 ev7 => ?_)
  replace hr := hr.trans (bnd_eq ev7)
  refine lv_lstore (lv' := [(16, .long v7), (14, .long v6), (12, .long v5), (10, .long v4), (8, .long v3), (6, .long v2), (4, .long v1), (0, .long a), (2, .long b)]) hx hb dX5_highUnsigned_58 hl (by decide) rfl (fun ls hl => ?_)
  refine lv_lload hx hb dX5_highUnsigned_60 (lv_at hl 5 rfl) ?_
  refine lv_lload hx hb dX5_highUnsigned_62 (lv_at hl 3 rfl) ?_
  refine lv_lmul hx hb dX5_highUnsigned_64 ?_
  refine lv_lload hx hb dX5_highUnsigned_65 (lv_at hl 1 rfl) ?_
  refine lv_bipush (v := (32 : Int32)) hx hb dX5_highUnsigned_67 bp_32 ?_
  refine lv_lushr (v := (lushr_ v6 (32 : Int32))) hx hb dX5_highUnsigned_69 rfl ?_
  refine lv_ladd hx hb dX5_highUnsigned_70 ?_
  refine lv_lload hx hb dX5_highUnsigned_71 (lv_at hl 0 rfl) ?_
  refine lv_bipush (v := (32 : Int32)) hx hb dX5_highUnsigned_73 bp_32 ?_
  refine lv_lushr (v := (lushr_ v7 (32 : Int32))) hx hb dX5_highUnsigned_75 rfl ?_
  refine lv_ladd hx hb dX5_highUnsigned_76 ?_
  exact g_endRl hF hQ hr dX5_highUnsigned_77
def m_highSigned (a : Int64) (b : Int64) : Int64 := bnd (α := Int64) (if (0 : Int64) ≤ a then (0 : Int64) else b) fun p1 => if (0 : Int64) ≤ b then (((m_highUnsigned a b) - p1) - (0 : Int64)) else (((m_highUnsigned a b) - p1) - a)
abbrev rm_X5_highSigned : Room := { frames := 1, cells := 0, slots := 0, locals := 37 }
set_option maxHeartbeats 4000000 in
set_option maxRecDepth 100000 in
theorem m_X5_highSigned {l : Launch} (a : Int64) (b : Int64) (RES : Int64) (hr : RES = m_highSigned a b) : g_R l yX5_highSigned (ws_ yX5_highSigned cX5_highSigned 4 (some .long)) rm_X5_highSigned [.long a, .long b] (fun _ => True) (fun _ => True) (.long RES) := by
  refine g_ofR (by decide) (Nat.le_of_ble_eq_true rfl) ?_
  intro p e s m args below meth c ls Q hF hB hKp hl hQ
  obtain ⟨hx, hb, -, -, hml, hown, hts⟩ := id hF
  have hown : s.vm.findClass RX5 = some m.cls := hown
  have hC : CallFix p m c cX5_highSigned 4 s args lw_all RX5 := ⟨hx, hb, hml, hown, hts⟩
  have hl : lv_has ls 4 [(0, .long a), (2, .long b)] := hl
  unfold m_highSigned at hr
  refine lv_lload_n hx hb dX5_highSigned_0 rfl (lv_at hl 0 rfl) ?_
  refine lv_lload_n hx hb dX5_highSigned_1 rfl (lv_at hl 1 rfl) ?_
  refine g_RS (As := [.long a, .long b]) (rest := []) hC (m_X5_highUnsigned a b _ rfl) (va_cwS 2 hts cw_X5_281 rfl rfl rfl hd_X5_highUnsigned ⟨Nat.le_of_ble_eq_true rfl, Nat.le_of_ble_eq_true rfl⟩) g_Kst0 trivial trivial ⟨Nat.zero_le _, Nat.zero_le _⟩ rfl hl.1 rfl (Nat.le_of_ble_eq_true rfl) dX5_highSigned_2 ?_
  refine lv_lload_n hx hb dX5_highSigned_5 rfl (lv_at hl 0 rfl) ?_
  refine lv_lconst (v := (0 : Int64)) hx hb dX5_highSigned_6 lc_0 ?_
  obtain ⟨p1, ep1⟩ : ∃ z : Int64, z = (if (0 : Int64) ≤ a then (0 : Int64) else b) := ⟨_, rfl⟩
  replace hr := hr.trans (bnd_eq ep1)
  have kp1 : ∀ (ls : Array Slot), lv_has ls 4 [(0, .long a), (2, .long b)] → W p l e rm_X5_highSigned s m args below meth c s.heap [] 0 0 Q (F0 m 16 ls [.long p1, .long (m_highUnsigned a b)]) := by
    intro ls hl
    refine lv_lsub hx hb dX5_highSigned_16 ?_
    refine lv_lload_n hx hb dX5_highSigned_17 rfl (lv_at hl 1 rfl) ?_
    refine lv_lconst (v := (0 : Int64)) hx hb dX5_highSigned_18 lc_0 ?_
    refine lq_ge (tgt := 27) hx hb dX5_highSigned_19 dX5_highSigned_20 (by decide) (fun c_19 => ?_) (fun c_19 => ?_)
    · replace hr := hr.trans (if_pos c_19)
      refine lv_lconst (v := (0 : Int64)) hx hb dX5_highSigned_27 lc_0 ?_
      refine lv_lsub hx hb dX5_highSigned_28 ?_
      exact g_endRl hF hQ hr dX5_highSigned_29
    · replace hr := hr.trans (if_neg c_19)
      refine lv_lload_n hx hb dX5_highSigned_23 rfl (lv_at hl 0 rfl) ?_
      refine lv_goto (tgt := 28) hx hb dX5_highSigned_24 (by decide) ?_
      refine lv_lsub hx hb dX5_highSigned_28 ?_
      exact g_endRl hF hQ hr dX5_highSigned_29
  replace hr := ep1
  refine lq_ge (tgt := 15) hx hb dX5_highSigned_7 dX5_highSigned_8 (by decide) (fun c_7 => ?_) (fun c_7 => ?_)
  · replace hr := hr.trans (if_pos c_7)
    refine lv_lconst (v := (0 : Int64)) hx hb dX5_highSigned_15 lc_0 ?_
    subst hr
    exact kp1 ls (lv_sub hl [0, 1] rfl)
  · replace hr := hr.trans (if_neg c_7)
    refine lv_lload_n hx hb dX5_highSigned_11 rfl (lv_at hl 1 rfl) ?_
    refine lv_goto (tgt := 16) hx hb dX5_highSigned_12 (by decide) ?_
    subst hr
    exact kp1 ls (lv_sub hl [0, 1] rfl)
def m_isEither (K : MK) (k : Int32) : Bool := if ((km_kinds K) k.toNatClampNeg) = (1 : Int32) then true else (if ((km_kinds K) k.toNatClampNeg) = (2 : Int32) then true else false)
abbrev rm_X5_isEither : Room := { frames := 0, cells := 0, slots := 0, locals := 0 }
set_option maxHeartbeats 4000000 in
set_option maxRecDepth 100000 in
theorem m_X5_isEither {l : Launch} {D : va_G} {ad : Nat → Nat} {ca : Nat → ClassId} {K : MK} {d : MD} (k : Int32) (RES : Bool) (hr : RES = m_isEither K k) (hk : vp_in k 3) : g_R l yX5_isEither (ws_ yX5_isEither cX5_isEither 2 (some .boolean)) rm_X5_isEither [.ref (ad 0), .int k] (mKp D ca) (mB D ad ca K d) (.int (b2i RES)) := by
  refine g_ofR (by decide) (Nat.le_of_ble_eq_true rfl) ?_
  intro p e s m args below meth c ls Q hF hB hKp hl hQ
  obtain ⟨hx, hb, -, -, hml, hown, hts⟩ := id hF
  have hown : s.vm.findClass RX5 = some m.cls := hown
  have hC : CallFix p m c cX5_isEither 2 s args lw_all RX5 := ⟨hx, hb, hml, hown, hts⟩
  have hK : va_K D xcl (mtys ca) s := hKp
  have hP : va_P D xcl (MW ad ca K d) s.heap := hB
  have hl : lv_has ls 2 [(0, .ref (ad 0)), (1, .int k)] := hl
  unfold m_isEither at hr
  refine lv_aload_n hx hb dX5_isEither_0 rfl (lv_at hl 0 rfl) ?_
  refine mg_0_39 hx hb hts hown hK hP (hts _ q710) dX5_isEither_1 ?_
  refine lv_iload_n hx hb dX5_isEither_4 rfl (lv_at hl 1 rfl) ?_
  refine ml_9 hx hb hK hP hk dX5_isEither_5 ?_
  refine lv_iconst (v := (1 : Int32)) hx hb dX5_isEither_6 ic_1 ?_
  refine lv_icmp_eq (tgt := 20) hx hb dX5_isEither_7 (by decide) (fun c_7 => ?_) (fun c_7 => ?_)
  · replace hr := hr.trans (if_pos c_7)
    refine lv_iconst (v := (1 : Int32)) hx hb dX5_isEither_20 ic_1 ?_
    refine lv_goto (tgt := 25) hx hb dX5_isEither_21 (by decide) ?_
    exact g_endRz hF hQ hr rfl dX5_isEither_25
  · replace hr := hr.trans (if_neg c_7)
    refine lv_aload_n hx hb dX5_isEither_10 rfl (lv_at hl 0 rfl) ?_
    refine mg_0_39 hx hb hts hown hK hP (hts _ q710) dX5_isEither_11 ?_
    refine lv_iload_n hx hb dX5_isEither_14 rfl (lv_at hl 1 rfl) ?_
    refine ml_9 hx hb hK hP hk dX5_isEither_15 ?_
    refine lv_iconst (v := (2 : Int32)) hx hb dX5_isEither_16 ic_2 ?_
    refine lv_icmp_ne (tgt := 24) hx hb dX5_isEither_17 (by decide) (fun c_17 => ?_) (fun c_17 => ?_)
    · replace hr := hr.trans (if_neg c_17)
      refine lv_iconst (v := (0 : Int32)) hx hb dX5_isEither_24 ic_0 ?_
      exact g_endRz hF hQ hr rfl dX5_isEither_25
    · replace hr := hr.trans (if_pos c_17)
      refine lv_iconst (v := (1 : Int32)) hx hb dX5_isEither_20 ic_1 ?_
      refine lv_goto (tgt := 25) hx hb dX5_isEither_21 (by decide) ?_
      exact g_endRz hF hQ hr rfl dX5_isEither_25
def m_isNumber (K : MK) (k : Int32) (low : Int64) (high : Int64) : Bool := if ((km_kinds K) k.toNatClampNeg) = (3 : Int32) then (if (km_number K) < low then false else (if high < (km_number K) then false else true)) else false
abbrev rm_X5_isNumber : Room := { frames := 0, cells := 0, slots := 0, locals := 0 }
set_option maxHeartbeats 4000000 in
set_option maxRecDepth 100000 in
theorem m_X5_isNumber {l : Launch} {D : va_G} {ad : Nat → Nat} {ca : Nat → ClassId} {K : MK} {d : MD} (k : Int32) (low : Int64) (high : Int64) (RES : Bool) (hr : RES = m_isNumber K k low high) (hk : vp_in k 3) : g_R l yX5_isNumber (ws_ yX5_isNumber cX5_isNumber 6 (some .boolean)) rm_X5_isNumber [.ref (ad 0), .int k, .long low, .long high] (mKp D ca) (mB D ad ca K d) (.int (b2i RES)) := by
  refine g_ofR (by decide) (Nat.le_of_ble_eq_true rfl) ?_
  intro p e s m args below meth c ls Q hF hB hKp hl hQ
  obtain ⟨hx, hb, -, -, hml, hown, hts⟩ := id hF
  have hown : s.vm.findClass RX5 = some m.cls := hown
  have hC : CallFix p m c cX5_isNumber 6 s args lw_all RX5 := ⟨hx, hb, hml, hown, hts⟩
  have hK : va_K D xcl (mtys ca) s := hKp
  have hP : va_P D xcl (MW ad ca K d) s.heap := hB
  have hl : lv_has ls 6 [(0, .ref (ad 0)), (1, .int k), (2, .long low), (4, .long high)] := hl
  unfold m_isNumber at hr
  refine lv_aload_n hx hb dX5_isNumber_0 rfl (lv_at hl 0 rfl) ?_
  refine mg_0_39 hx hb hts hown hK hP (hts _ q710) dX5_isNumber_1 ?_
  refine lv_iload_n hx hb dX5_isNumber_4 rfl (lv_at hl 1 rfl) ?_
  refine ml_9 hx hb hK hP hk dX5_isNumber_5 ?_
  refine lv_iconst (v := (3 : Int32)) hx hb dX5_isNumber_6 ic_3 ?_
  refine lv_icmp_ne (tgt := 33) hx hb dX5_isNumber_7 (by decide) (fun c_7 => ?_) (fun c_7 => ?_)
  · replace hr := hr.trans (if_neg c_7)
    refine lv_iconst (v := (0 : Int32)) hx hb dX5_isNumber_33 ic_0 ?_
    exact g_endRz hF hQ hr rfl dX5_isNumber_34
  · replace hr := hr.trans (if_pos c_7)
    refine lv_aload_n hx hb dX5_isNumber_10 rfl (lv_at hl 0 rfl) ?_
    refine mg_0_38 hx hb hts hown hK hP (hts _ q709) dX5_isNumber_11 ?_
    refine lv_lload_n hx hb dX5_isNumber_14 rfl (lv_at hl 2 rfl) ?_
    refine lq_lt (tgt := 33) hx hb dX5_isNumber_15 dX5_isNumber_16 (by decide) (fun c_15 => ?_) (fun c_15 => ?_)
    · replace hr := hr.trans (if_pos c_15)
      refine lv_iconst (v := (0 : Int32)) hx hb dX5_isNumber_33 ic_0 ?_
      exact g_endRz hF hQ hr rfl dX5_isNumber_34
    · replace hr := hr.trans (if_neg c_15)
      refine lv_aload_n hx hb dX5_isNumber_19 rfl (lv_at hl 0 rfl) ?_
      refine mg_0_38 hx hb hts hown hK hP (hts _ q709) dX5_isNumber_20 ?_
      refine lv_lload hx hb dX5_isNumber_23 (lv_at hl 3 rfl) ?_
      refine lq_gt (tgt := 33) hx hb dX5_isNumber_25 dX5_isNumber_26 (by decide) (fun c_25 => ?_) (fun c_25 => ?_)
      · replace hr := hr.trans (if_pos c_25)
        refine lv_iconst (v := (0 : Int32)) hx hb dX5_isNumber_33 ic_0 ?_
        exact g_endRz hF hQ hr rfl dX5_isNumber_34
      · replace hr := hr.trans (if_neg c_25)
        refine lv_iconst (v := (1 : Int32)) hx hb dX5_isNumber_29 ic_1 ?_
        refine lv_goto (tgt := 34) hx hb dX5_isNumber_30 (by decide) ?_
        exact g_endRz hF hQ hr rfl dX5_isNumber_34
def m_isPlain (K : MK) (k : Int32) : Bool := bnd (α := Bool) (if (km_op K) = (8 : Int32) then (if (km_width K) = (8 : Int32) then true else false) else false) fun b1 => if b1 = true then (if ((km_kinds K) k.toNatClampNeg) = (3 : Int32) then true else false) else (if (km_width K) = (1 : Int32) then (m_isNumber K k (-128 : Int64) (127 : Int64)) else (m_isNumber K k (-2147483648 : Int64) (2147483647 : Int64)))
abbrev rm_X5_isPlain : Room := { frames := 1, cells := 0, slots := 0, locals := 25 }
set_option maxHeartbeats 4000000 in
set_option maxRecDepth 100000 in
theorem m_X5_isPlain {l : Launch} {D : va_G} {ad : Nat → Nat} {ca : Nat → ClassId} {K : MK} {d : MD} (k : Int32) (RES : Bool) (hr : RES = m_isPlain K k) (hk : vp_in k 3) : g_R l yX5_isPlain (ws_ yX5_isPlain cX5_isPlain 2 (some .boolean)) rm_X5_isPlain [.ref (ad 0), .int k] (mKp D ca) (mB D ad ca K d) (.int (b2i RES)) := by
  refine g_ofR (by decide) (Nat.le_of_ble_eq_true rfl) ?_
  intro p e s m args below meth c ls Q hF hB hKp hl hQ
  obtain ⟨hx, hb, -, -, hml, hown, hts⟩ := id hF
  have hown : s.vm.findClass RX5 = some m.cls := hown
  have hC : CallFix p m c cX5_isPlain 2 s args lw_all RX5 := ⟨hx, hb, hml, hown, hts⟩
  have hK : va_K D xcl (mtys ca) s := hKp
  have hP : va_P D xcl (MW ad ca K d) s.heap := hB
  have hl : lv_has ls 2 [(0, .ref (ad 0)), (1, .int k)] := hl
  unfold m_isPlain at hr
  refine lv_aload_n hx hb dX5_isPlain_0 rfl (lv_at hl 0 rfl) ?_
  refine mg_0_30 hx hb hts hown hK hP (hts _ q701) dX5_isPlain_1 ?_
  refine lv_bipush (v := (8 : Int32)) hx hb dX5_isPlain_4 bp_8 ?_
  obtain ⟨b1, eb1⟩ : ∃ z : Bool, z = (if (km_op K) = (8 : Int32) then (if (km_width K) = (8 : Int32) then true else false) else false) := ⟨_, rfl⟩
  replace hr := hr.trans (bnd_eq eb1)
  have kb1T : b1 = true → W p l e rm_X5_isPlain s m args below meth c s.heap [] 0 0 Q (F0 m 18 ls []) := by
    intro hb1
    replace hr := hr.trans (if_pos hb1)
    have er := eb1
    have c_6 : (km_op K) = (8 : Int32) := Decidable.byContradiction (fun q => absurd (hb1.symm.trans (er.trans (if_neg q))) (by decide))
    have er := er.trans (if_pos c_6)
    have c_15 : (km_width K) = (8 : Int32) := Decidable.byContradiction (fun q => absurd (hb1.symm.trans (er.trans (if_neg q))) (by decide))
    have er := er.trans (if_pos c_15)
    clear er
    refine lv_aload_n hx hb dX5_isPlain_18 rfl (lv_at hl 0 rfl) ?_
    refine mg_0_39 hx hb hts hown hK hP (hts _ q710) dX5_isPlain_19 ?_
    refine lv_iload_n hx hb dX5_isPlain_22 rfl (lv_at hl 1 rfl) ?_
    refine ml_9 hx hb hK hP hk dX5_isPlain_23 ?_
    refine lv_iconst (v := (3 : Int32)) hx hb dX5_isPlain_24 ic_3 ?_
    refine lv_icmp_ne (tgt := 32) hx hb dX5_isPlain_25 (by decide) (fun c_25 => ?_) (fun c_25 => ?_)
    · replace hr := hr.trans (if_neg c_25)
      refine lv_iconst (v := (0 : Int32)) hx hb dX5_isPlain_32 ic_0 ?_
      exact g_endRz hF hQ hr rfl dX5_isPlain_33
    · replace hr := hr.trans (if_pos c_25)
      refine lv_iconst (v := (1 : Int32)) hx hb dX5_isPlain_28 ic_1 ?_
      refine lv_goto (tgt := 33) hx hb dX5_isPlain_29 (by decide) ?_
      exact g_endRz hF hQ hr rfl dX5_isPlain_33
  have kb1F : ¬ b1 = true → W p l e rm_X5_isPlain s m args below meth c s.heap [] 0 0 Q (F0 m 34 ls []) := by
    intro hb1
    replace hr := hr.trans (if_neg hb1)
    refine lv_aload_n hx hb dX5_isPlain_34 rfl (lv_at hl 0 rfl) ?_
    refine mg_0_31 hx hb hts hown hK hP (hts _ q702) dX5_isPlain_35 ?_
    refine lv_iconst (v := (1 : Int32)) hx hb dX5_isPlain_38 ic_1 ?_
    refine lv_icmp_ne (tgt := 56) hx hb dX5_isPlain_39 (by decide) (fun c_39 => ?_) (fun c_39 => ?_)
    · replace hr := hr.trans (if_neg c_39)
      refine lv_aload_n hx hb dX5_isPlain_56 rfl (lv_at hl 0 rfl) ?_
      refine lv_iload_n hx hb dX5_isPlain_57 rfl (lv_at hl 1 rfl) ?_
      refine lv_ldc2 hx hb hown (hts _ q850) dX5_isPlain_58 ?_
      refine lv_ldc2 hx hb hown (hts _ q851) dX5_isPlain_61 ?_
      refine g_RV (As := [.int k, .long (-2147483648 : Int64), .long (2147483647 : Int64)]) (rest := []) hC (m_X5_isNumber (K := K) (d := d) k (-2147483648 : Int64) (2147483647 : Int64) _ rfl hk) (cwV 3 hts cw_X5_130 rfl rfl rfl hd_X5_isNumber ⟨Nat.le_of_ble_eq_true rfl, Nat.le_of_ble_eq_true rfl⟩) mKst (va_recv hK hP (ci := 5) (q0 := 0) rfl rfl) hP hKp ⟨Nat.zero_le _, Nat.zero_le _⟩ rfl hl.1 rfl (Nat.le_of_ble_eq_true rfl) dX5_isPlain_64 ?_
      exact g_endRz hF hQ hr rfl dX5_isPlain_67
    · replace hr := hr.trans (if_pos c_39)
      refine lv_aload_n hx hb dX5_isPlain_42 rfl (lv_at hl 0 rfl) ?_
      refine lv_iload_n hx hb dX5_isPlain_43 rfl (lv_at hl 1 rfl) ?_
      refine lv_ldc2 hx hb hown (hts _ q844) dX5_isPlain_44 ?_
      refine lv_ldc2 hx hb hown (hts _ q845) dX5_isPlain_47 ?_
      refine g_RV (As := [.int k, .long (-128 : Int64), .long (127 : Int64)]) (rest := []) hC (m_X5_isNumber (K := K) (d := d) k (-128 : Int64) (127 : Int64) _ rfl hk) (cwV 3 hts cw_X5_130 rfl rfl rfl hd_X5_isNumber ⟨Nat.le_of_ble_eq_true rfl, Nat.le_of_ble_eq_true rfl⟩) mKst (va_recv hK hP (ci := 5) (q0 := 0) rfl rfl) hP hKp ⟨Nat.zero_le _, Nat.zero_le _⟩ rfl hl.1 rfl (Nat.le_of_ble_eq_true rfl) dX5_isPlain_50 ?_
      refine lv_goto (tgt := 67) hx hb dX5_isPlain_53 (by decide) ?_
      exact g_endRz hF hQ hr rfl dX5_isPlain_67
  replace hr := eb1
  refine lv_icmp_ne (tgt := 34) hx hb dX5_isPlain_6 (by decide) (fun c_6 => ?_) (fun c_6 => ?_)
  · replace hr := hr.trans (if_neg c_6)
    exact kb1F (by rw [hr]; decide)
  · replace hr := hr.trans (if_pos c_6)
    refine lv_aload_n hx hb dX5_isPlain_9 rfl (lv_at hl 0 rfl) ?_
    refine mg_0_31 hx hb hts hown hK hP (hts _ q702) dX5_isPlain_10 ?_
    refine lv_bipush (v := (8 : Int32)) hx hb dX5_isPlain_13 bp_8 ?_
    refine lv_icmp_ne (tgt := 34) hx hb dX5_isPlain_15 (by decide) (fun c_15 => ?_) (fun c_15 => ?_)
    · replace hr := hr.trans (if_neg c_15)
      exact kb1F (by rw [hr]; decide)
    · replace hr := hr.trans (if_pos c_15)
      exact kb1T hr
def m_operandsFit (K : MK) : Bool := bnd (α := Int32) (((km_kinds K) (0 : Int32).toNatClampNeg)) fun v1 => bnd (α := Int32) (((km_kinds K) (1 : Int32).toNatClampNeg)) fun v2 => bnd (α := Bool) (if ((km_kinds K) (2 : Int32).toNatClampNeg) = 0 then true else false) fun p3 => bnd (α := Bool) (if v2 = 0 then (if (b2i p3) = 0 then false else true) else false) fun p4 => bnd (α := Bool) (if (km_op K) < (11 : Int32) then true else (if (km_op K) = (48 : Int32) then true else (if (km_op K) = (49 : Int32) then true else false))) fun b5 => if b5 = true then (if (b2i p3) = 0 then false else (if (b2i (m_isEither K (0 : Int32))) = 0 then (if (9 : Int32) ≤ (km_op K) then (if (10 : Int32) ≤ (km_op K) then false else (if (b2i (m_isEither K (0 : Int32))) = 0 then false else (if (b2i (m_isPlain K (1 : Int32))) = 0 then false else true))) else (bnd (α := Bool) (if v1 = (1 : Int32) then (if v2 = (2 : Int32) then false else true) else true) fun b6 => if b6 = true then (if (10 : Int32) ≤ (km_op K) then false else (if (b2i (m_isEither K (0 : Int32))) = 0 then false else (if (b2i (m_isPlain K (1 : Int32))) = 0 then false else true))) else true)) else (if v2 = (1 : Int32) then true else (if (9 : Int32) ≤ (km_op K) then (if (10 : Int32) ≤ (km_op K) then false else (if (b2i (m_isEither K (0 : Int32))) = 0 then false else (if (b2i (m_isPlain K (1 : Int32))) = 0 then false else true))) else (bnd (α := Bool) (if v1 = (1 : Int32) then (if v2 = (2 : Int32) then false else true) else true) fun b7 => if b7 = true then (if (10 : Int32) ≤ (km_op K) then false else (if (b2i (m_isEither K (0 : Int32))) = 0 then false else (if (b2i (m_isPlain K (1 : Int32))) = 0 then false else true))) else true))))) else (if (km_op K) = (11 : Int32) then (if (b2i p3) = 0 then false else (if v1 = (1 : Int32) then (if v2 = (2 : Int32) then true else false) else false)) else (bnd (α := Bool) (if (km_op K) < (15 : Int32) then true else (if (km_op K) = (36 : Int32) then true else (if (km_op K) = (44 : Int32) then true else (if (km_op K) = (45 : Int32) then true else false)))) fun b8 => if b8 = true then (if (b2i p3) = 0 then false else (if v1 = (1 : Int32) then (if (b2i (m_isEither K (1 : Int32))) = 0 then false else true) else false)) else (bnd (α := Bool) (if (km_op K) < (23 : Int32) then true else (if (km_op K) = (30 : Int32) then true else (if (km_op K) = (35 : Int32) then true else false))) fun b9 => if b9 = true then (if (b2i p4) = 0 then false else (if (b2i (m_isEither K (0 : Int32))) = 0 then false else true)) else (if (km_op K) = (23 : Int32) then (if v1 = (1 : Int32) then (if (b2i (m_isEither K (1 : Int32))) = 0 then false else (if (b2i p3) = 0 then (if (b2i (m_isPlain K (2 : Int32))) = 0 then false else true) else true)) else false) else (if (29 : Int32) ≤ (km_op K) then (bnd (α := Bool) (if (km_op K) = (29 : Int32) then true else (if (km_op K) = (31 : Int32) then true else (if (km_op K) = (32 : Int32) then true else false))) fun b10 => if b10 = true then (if (b2i p4) = 0 then false else (if (b2i (m_isEither K (0 : Int32))) = 0 then (if (b2i (m_isPlain K (0 : Int32))) = 0 then false else true) else true)) else (if (km_op K) = (33 : Int32) then (if (b2i p4) = 0 then false else (if v1 = 0 then true else (if (b2i (m_isNumber K (0 : Int32) (0 : Int64) (65535 : Int64))) = 0 then false else true))) else (if (km_op K) = (34 : Int32) then (if (b2i p4) = 0 then false else (if (b2i (m_isPlain K (0 : Int32))) = 0 then false else true)) else (if (km_op K) = (46 : Int32) then (if (b2i p4) = 0 then false else (if v1 = (1 : Int32) then true else false)) else (if (km_op K) = (47 : Int32) then (if (b2i p3) = 0 then false else (if (b2i (m_isEither K (0 : Int32))) = 0 then false else (if v2 = (1 : Int32) then true else (if (b2i (m_isNumber K (1 : Int32) (0 : Int64) (255 : Int64))) = 0 then false else true)))) else (if v1 = 0 then (if (b2i p4) = 0 then false else true) else false)))))) else (if (b2i p3) = 0 then false else (if (b2i (m_isEither K (0 : Int32))) = 0 then false else (if v2 = (1 : Int32) then (if ((km_places K) (1 : Int32).toNatClampNeg) = (1 : Int32) then true else (if (b2i (m_isNumber K (1 : Int32) (0 : Int64) (255 : Int64))) = 0 then false else true)) else (if (b2i (m_isNumber K (1 : Int32) (0 : Int64) (255 : Int64))) = 0 then false else true)))))))))
abbrev rm_X5_operandsFit : Room := { frames := 2, cells := 0, slots := 0, locals := 46 }
set_option maxHeartbeats 4000000 in
set_option maxRecDepth 100000 in
theorem m_X5_operandsFit {l : Launch} {D : va_G} {ad : Nat → Nat} {ca : Nat → ClassId} {K : MK} {d : MD} (RES : Bool) (hr : RES = m_operandsFit K) : g_R l yX5_operandsFit (ws_ yX5_operandsFit cX5_operandsFit 5 (some .boolean)) rm_X5_operandsFit [.ref (ad 0)] (mKp D ca) (mB D ad ca K d) (.int (b2i RES)) := by
  refine g_ofR (by decide) (Nat.le_of_ble_eq_true rfl) ?_
  intro p e s m args below meth c ls Q hF hB hKp hl hQ
  obtain ⟨hx, hb, -, -, hml, hown, hts⟩ := id hF
  have hown : s.vm.findClass RX5 = some m.cls := hown
  have hC : CallFix p m c cX5_operandsFit 5 s args lw_all RX5 := ⟨hx, hb, hml, hown, hts⟩
  have hK : va_K D xcl (mtys ca) s := hKp
  have hP : va_P D xcl (MW ad ca K d) s.heap := hB
  have hl : lv_has ls 5 [(0, .ref (ad 0))] := hl
  unfold m_operandsFit at hr
  refine lv_aload_n hx hb dX5_operandsFit_0 rfl (lv_at hl 0 rfl) ?_
  refine mg_0_39 hx hb hts hown hK hP (hts _ q710) dX5_operandsFit_1 ?_
  refine lv_iconst (v := (0 : Int32)) hx hb dX5_operandsFit_4 ic_0 ?_
  refine ml_9 hx hb hK hP (show ¬ ((0 : Int32) < 0 ∨ 3 ≤ (0 : Int32).toNatClampNeg) by decide) dX5_operandsFit_5 ?_
  refine lv_topi (fun v1 ev1 => ?_)
  replace hr := hr.trans (bnd_eq ev1)
  refine lv_istore_n (lv' := [(1, .int v1), (0, .ref (ad 0))]) hx hb dX5_operandsFit_6 rfl hl (by decide) rfl (fun ls hl => ?_)
  refine lv_aload_n hx hb dX5_operandsFit_7 rfl (lv_at hl 1 rfl) ?_
  refine mg_0_39 hx hb hts hown hK hP (hts _ q710) dX5_operandsFit_8 ?_
  refine lv_iconst (v := (1 : Int32)) hx hb dX5_operandsFit_11 ic_1 ?_
  refine ml_9 hx hb hK hP (show ¬ ((1 : Int32) < 0 ∨ 3 ≤ (1 : Int32).toNatClampNeg) by decide) dX5_operandsFit_12 ?_
  refine lv_topi (fun v2 ev2 => ?_)
  replace hr := hr.trans (bnd_eq ev2)
  refine lv_istore_n (lv' := [(2, .int v2), (1, .int v1), (0, .ref (ad 0))]) hx hb dX5_operandsFit_13 rfl hl (by decide) rfl (fun ls hl => ?_)
  refine lv_aload_n hx hb dX5_operandsFit_14 rfl (lv_at hl 2 rfl) ?_
  refine mg_0_39 hx hb hts hown hK hP (hts _ q710) dX5_operandsFit_15 ?_
  refine lv_iconst (v := (2 : Int32)) hx hb dX5_operandsFit_18 ic_2 ?_
  refine ml_9 hx hb hK hP (show ¬ ((2 : Int32) < 0 ∨ 3 ≤ (2 : Int32).toNatClampNeg) by decide) dX5_operandsFit_19 ?_
  obtain ⟨p3, ep3⟩ : ∃ z : Bool, z = (if ((km_kinds K) (2 : Int32).toNatClampNeg) = 0 then true else false) := ⟨_, rfl⟩
  replace hr := hr.trans (bnd_eq ep3)
  have kp3 : ∀ (ls : Array Slot), lv_has ls 5 [(2, .int v2), (1, .int v1), (0, .ref (ad 0))] → W p l e rm_X5_operandsFit s m args below meth c s.heap [] 0 0 Q (F0 m 28 ls [.int (b2i p3)]) := by
    intro ls hl
    refine lv_istore_n (lv' := [(3, .int (b2i p3)), (2, .int v2), (1, .int v1), (0, .ref (ad 0))]) hx hb dX5_operandsFit_28 rfl hl (by decide) rfl (fun ls hl => ?_)
    refine lv_iload_n hx hb dX5_operandsFit_29 rfl (lv_at hl 1 rfl) ?_
    obtain ⟨p4, ep4⟩ : ∃ z : Bool, z = (if v2 = 0 then (if (b2i p3) = 0 then false else true) else false) := ⟨_, rfl⟩
    replace hr := hr.trans (bnd_eq ep4)
    have kp4 : ∀ (ls : Array Slot), lv_has ls 5 [(3, .int (b2i p3)), (2, .int v2), (1, .int v1), (0, .ref (ad 0))] → W p l e rm_X5_operandsFit s m args below meth c s.heap [] 0 0 Q (F0 m 42 ls [.int (b2i p4)]) := by
      intro ls hl
      refine lv_istore (lv' := [(4, .int (b2i p4)), (3, .int (b2i p3)), (2, .int v2), (1, .int v1), (0, .ref (ad 0))]) hx hb dX5_operandsFit_42 hl (by decide) rfl (fun ls hl => ?_)
      refine lv_aload_n hx hb dX5_operandsFit_44 rfl (lv_at hl 4 rfl) ?_
      refine mg_0_30 hx hb hts hown hK hP (hts _ q701) dX5_operandsFit_45 ?_
      refine lv_bipush (v := (11 : Int32)) hx hb dX5_operandsFit_48 bp_11 ?_
      obtain ⟨b5, eb5⟩ : ∃ z : Bool, z = (if (km_op K) < (11 : Int32) then true else (if (km_op K) = (48 : Int32) then true else (if (km_op K) = (49 : Int32) then true else false))) := ⟨_, rfl⟩
      replace hr := hr.trans (bnd_eq eb5)
      have kb5T : b5 = true → W p l e rm_X5_operandsFit s m args below meth c s.heap [] 0 0 Q (F0 m 71 ls []) := by
        intro hb5
        replace hr := hr.trans (if_pos hb5)
        refine lv_iload_n hx hb dX5_operandsFit_71 rfl (lv_at hl 1 rfl) ?_
        refine lv_if_eq (tgt := 136) hx hb dX5_operandsFit_72 (by decide) (fun c_72 => ?_) (fun c_72 => ?_)
        · replace hr := hr.trans (if_pos c_72)
          refine lv_iconst (v := (0 : Int32)) hx hb dX5_operandsFit_136 ic_0 ?_
          exact g_endRz hF hQ hr rfl dX5_operandsFit_137
        · replace hr := hr.trans (if_neg c_72)
          refine lv_aload_n hx hb dX5_operandsFit_75 rfl (lv_at hl 4 rfl) ?_
          refine lv_iconst (v := (0 : Int32)) hx hb dX5_operandsFit_76 ic_0 ?_
          refine g_RV (As := [.int (0 : Int32)]) (rest := []) hC (m_X5_isEither (K := K) (d := d) (0 : Int32) _ rfl (show ¬ ((0 : Int32) < 0 ∨ 3 ≤ (0 : Int32).toNatClampNeg) by decide)) (cwV 1 hts cw_X5_138 rfl rfl rfl hd_X5_isEither ⟨Nat.le_of_ble_eq_true rfl, Nat.le_of_ble_eq_true rfl⟩) mKst (va_recv hK hP (ci := 5) (q0 := 0) rfl rfl) hP hKp ⟨Nat.zero_le _, Nat.zero_le _⟩ rfl hl.1 rfl (Nat.le_of_ble_eq_true rfl) dX5_operandsFit_77 ?_
          refine lv_if_eq (tgt := 88) hx hb dX5_operandsFit_80 (by decide) (fun c_80 => ?_) (fun c_80 => ?_)
          · replace hr := hr.trans (if_pos c_80)
            refine lv_aload_n hx hb dX5_operandsFit_88 rfl (lv_at hl 4 rfl) ?_
            refine mg_0_30 hx hb hts hown hK hP (hts _ q701) dX5_operandsFit_89 ?_
            refine lv_bipush (v := (9 : Int32)) hx hb dX5_operandsFit_92 bp_9 ?_
            refine lv_icmp_ge (tgt := 107) hx hb dX5_operandsFit_94 (by decide) (fun c_94 => ?_) (fun c_94 => ?_)
            · replace hr := hr.trans (if_pos c_94)
              refine lv_aload_n hx hb dX5_operandsFit_107 rfl (lv_at hl 4 rfl) ?_
              refine mg_0_30 hx hb hts hown hK hP (hts _ q701) dX5_operandsFit_108 ?_
              refine lv_bipush (v := (10 : Int32)) hx hb dX5_operandsFit_111 bp_10 ?_
              refine lv_icmp_ge (tgt := 136) hx hb dX5_operandsFit_113 (by decide) (fun c_113 => ?_) (fun c_113 => ?_)
              · replace hr := hr.trans (if_pos c_113)
                refine lv_iconst (v := (0 : Int32)) hx hb dX5_operandsFit_136 ic_0 ?_
                exact g_endRz hF hQ hr rfl dX5_operandsFit_137
              · replace hr := hr.trans (if_neg c_113)
                refine lv_aload_n hx hb dX5_operandsFit_116 rfl (lv_at hl 4 rfl) ?_
                refine lv_iconst (v := (0 : Int32)) hx hb dX5_operandsFit_117 ic_0 ?_
                refine g_RV (As := [.int (0 : Int32)]) (rest := []) hC (m_X5_isEither (K := K) (d := d) (0 : Int32) _ rfl (show ¬ ((0 : Int32) < 0 ∨ 3 ≤ (0 : Int32).toNatClampNeg) by decide)) (cwV 1 hts cw_X5_138 rfl rfl rfl hd_X5_isEither ⟨Nat.le_of_ble_eq_true rfl, Nat.le_of_ble_eq_true rfl⟩) mKst (va_recv hK hP (ci := 5) (q0 := 0) rfl rfl) hP hKp ⟨Nat.zero_le _, Nat.zero_le _⟩ rfl hl.1 rfl (Nat.le_of_ble_eq_true rfl) dX5_operandsFit_118 ?_
                refine lv_if_eq (tgt := 136) hx hb dX5_operandsFit_121 (by decide) (fun c_121 => ?_) (fun c_121 => ?_)
                · replace hr := hr.trans (if_pos c_121)
                  refine lv_iconst (v := (0 : Int32)) hx hb dX5_operandsFit_136 ic_0 ?_
                  exact g_endRz hF hQ hr rfl dX5_operandsFit_137
                · replace hr := hr.trans (if_neg c_121)
                  refine lv_aload_n hx hb dX5_operandsFit_124 rfl (lv_at hl 4 rfl) ?_
                  refine lv_iconst (v := (1 : Int32)) hx hb dX5_operandsFit_125 ic_1 ?_
                  refine g_RV (As := [.int (1 : Int32)]) (rest := []) hC (m_X5_isPlain (K := K) (d := d) (1 : Int32) _ rfl (show ¬ ((1 : Int32) < 0 ∨ 3 ≤ (1 : Int32).toNatClampNeg) by decide)) (cwV 1 hts cw_X5_142 rfl rfl rfl hd_X5_isPlain ⟨Nat.le_of_ble_eq_true rfl, Nat.le_of_ble_eq_true rfl⟩) mKst (va_recv hK hP (ci := 5) (q0 := 0) rfl rfl) hP hKp ⟨Nat.zero_le _, Nat.zero_le _⟩ rfl hl.1 rfl (Nat.le_of_ble_eq_true rfl) dX5_operandsFit_126 ?_
                  refine lv_if_eq (tgt := 136) hx hb dX5_operandsFit_129 (by decide) (fun c_129 => ?_) (fun c_129 => ?_)
                  · replace hr := hr.trans (if_pos c_129)
                    refine lv_iconst (v := (0 : Int32)) hx hb dX5_operandsFit_136 ic_0 ?_
                    exact g_endRz hF hQ hr rfl dX5_operandsFit_137
                  · replace hr := hr.trans (if_neg c_129)
                    refine lv_iconst (v := (1 : Int32)) hx hb dX5_operandsFit_132 ic_1 ?_
                    refine lv_goto (tgt := 137) hx hb dX5_operandsFit_133 (by decide) ?_
                    exact g_endRz hF hQ hr rfl dX5_operandsFit_137
            · replace hr := hr.trans (if_neg c_94)
              refine lv_iload_n hx hb dX5_operandsFit_97 rfl (lv_at hl 3 rfl) ?_
              refine lv_iconst (v := (1 : Int32)) hx hb dX5_operandsFit_98 ic_1 ?_
              obtain ⟨b6, eb6⟩ : ∃ z : Bool, z = (if v1 = (1 : Int32) then (if v2 = (2 : Int32) then false else true) else true) := ⟨_, rfl⟩
              replace hr := hr.trans (bnd_eq eb6)
              have kb6T : b6 = true → W p l e rm_X5_operandsFit s m args below meth c s.heap [] 0 0 Q (F0 m 107 ls []) := by
                intro hb6
                replace hr := hr.trans (if_pos hb6)
                refine lv_aload_n hx hb dX5_operandsFit_107 rfl (lv_at hl 4 rfl) ?_
                refine mg_0_30 hx hb hts hown hK hP (hts _ q701) dX5_operandsFit_108 ?_
                refine lv_bipush (v := (10 : Int32)) hx hb dX5_operandsFit_111 bp_10 ?_
                refine lv_icmp_ge (tgt := 136) hx hb dX5_operandsFit_113 (by decide) (fun c_113 => ?_) (fun c_113 => ?_)
                · replace hr := hr.trans (if_pos c_113)
                  refine lv_iconst (v := (0 : Int32)) hx hb dX5_operandsFit_136 ic_0 ?_
                  exact g_endRz hF hQ hr rfl dX5_operandsFit_137
                · replace hr := hr.trans (if_neg c_113)
                  refine lv_aload_n hx hb dX5_operandsFit_116 rfl (lv_at hl 4 rfl) ?_
                  refine lv_iconst (v := (0 : Int32)) hx hb dX5_operandsFit_117 ic_0 ?_
                  refine g_RV (As := [.int (0 : Int32)]) (rest := []) hC (m_X5_isEither (K := K) (d := d) (0 : Int32) _ rfl (show ¬ ((0 : Int32) < 0 ∨ 3 ≤ (0 : Int32).toNatClampNeg) by decide)) (cwV 1 hts cw_X5_138 rfl rfl rfl hd_X5_isEither ⟨Nat.le_of_ble_eq_true rfl, Nat.le_of_ble_eq_true rfl⟩) mKst (va_recv hK hP (ci := 5) (q0 := 0) rfl rfl) hP hKp ⟨Nat.zero_le _, Nat.zero_le _⟩ rfl hl.1 rfl (Nat.le_of_ble_eq_true rfl) dX5_operandsFit_118 ?_
                  refine lv_if_eq (tgt := 136) hx hb dX5_operandsFit_121 (by decide) (fun c_121 => ?_) (fun c_121 => ?_)
                  · replace hr := hr.trans (if_pos c_121)
                    refine lv_iconst (v := (0 : Int32)) hx hb dX5_operandsFit_136 ic_0 ?_
                    exact g_endRz hF hQ hr rfl dX5_operandsFit_137
                  · replace hr := hr.trans (if_neg c_121)
                    refine lv_aload_n hx hb dX5_operandsFit_124 rfl (lv_at hl 4 rfl) ?_
                    refine lv_iconst (v := (1 : Int32)) hx hb dX5_operandsFit_125 ic_1 ?_
                    refine g_RV (As := [.int (1 : Int32)]) (rest := []) hC (m_X5_isPlain (K := K) (d := d) (1 : Int32) _ rfl (show ¬ ((1 : Int32) < 0 ∨ 3 ≤ (1 : Int32).toNatClampNeg) by decide)) (cwV 1 hts cw_X5_142 rfl rfl rfl hd_X5_isPlain ⟨Nat.le_of_ble_eq_true rfl, Nat.le_of_ble_eq_true rfl⟩) mKst (va_recv hK hP (ci := 5) (q0 := 0) rfl rfl) hP hKp ⟨Nat.zero_le _, Nat.zero_le _⟩ rfl hl.1 rfl (Nat.le_of_ble_eq_true rfl) dX5_operandsFit_126 ?_
                    refine lv_if_eq (tgt := 136) hx hb dX5_operandsFit_129 (by decide) (fun c_129 => ?_) (fun c_129 => ?_)
                    · replace hr := hr.trans (if_pos c_129)
                      refine lv_iconst (v := (0 : Int32)) hx hb dX5_operandsFit_136 ic_0 ?_
                      exact g_endRz hF hQ hr rfl dX5_operandsFit_137
                    · replace hr := hr.trans (if_neg c_129)
                      refine lv_iconst (v := (1 : Int32)) hx hb dX5_operandsFit_132 ic_1 ?_
                      refine lv_goto (tgt := 137) hx hb dX5_operandsFit_133 (by decide) ?_
                      exact g_endRz hF hQ hr rfl dX5_operandsFit_137
              have kb6F : ¬ b6 = true → W p l e rm_X5_operandsFit s m args below meth c s.heap [] 0 0 Q (F0 m 132 ls []) := by
                intro hb6
                replace hr := hr.trans (if_neg hb6)
                have er := eb6
                have hf := Bool.eq_false_iff.mpr hb6
                have c_99 : v1 = (1 : Int32) := Decidable.byContradiction (fun q => absurd (hf.symm.trans (er.trans (if_neg q))) (by decide))
                have er := er.trans (if_pos c_99)
                have c_104 : v2 = (2 : Int32) := Decidable.byContradiction (fun q => absurd (hf.symm.trans (er.trans (if_neg q))) (by decide))
                have er := er.trans (if_pos c_104)
                clear er
                refine lv_iconst (v := (1 : Int32)) hx hb dX5_operandsFit_132 ic_1 ?_
                refine lv_goto (tgt := 137) hx hb dX5_operandsFit_133 (by decide) ?_
                exact g_endRz hF hQ hr rfl dX5_operandsFit_137
              replace hr := eb6
              refine lv_icmp_ne (tgt := 107) hx hb dX5_operandsFit_99 (by decide) (fun c_99 => ?_) (fun c_99 => ?_)
              · replace hr := hr.trans (if_neg c_99)
                exact kb6T hr
              · replace hr := hr.trans (if_pos c_99)
                refine lv_iload_n hx hb dX5_operandsFit_102 rfl (lv_at hl 2 rfl) ?_
                refine lv_iconst (v := (2 : Int32)) hx hb dX5_operandsFit_103 ic_2 ?_
                refine lv_icmp_eq (tgt := 132) hx hb dX5_operandsFit_104 (by decide) (fun c_104 => ?_) (fun c_104 => ?_)
                · replace hr := hr.trans (if_pos c_104)
                  exact kb6F (by rw [hr]; decide)
                · replace hr := hr.trans (if_neg c_104)
                  exact kb6T hr
          · replace hr := hr.trans (if_neg c_80)
            refine lv_iload_n hx hb dX5_operandsFit_83 rfl (lv_at hl 2 rfl) ?_
            refine lv_iconst (v := (1 : Int32)) hx hb dX5_operandsFit_84 ic_1 ?_
            refine lv_icmp_eq (tgt := 132) hx hb dX5_operandsFit_85 (by decide) (fun c_85 => ?_) (fun c_85 => ?_)
            · replace hr := hr.trans (if_pos c_85)
              refine lv_iconst (v := (1 : Int32)) hx hb dX5_operandsFit_132 ic_1 ?_
              refine lv_goto (tgt := 137) hx hb dX5_operandsFit_133 (by decide) ?_
              exact g_endRz hF hQ hr rfl dX5_operandsFit_137
            · replace hr := hr.trans (if_neg c_85)
              refine lv_aload_n hx hb dX5_operandsFit_88 rfl (lv_at hl 4 rfl) ?_
              refine mg_0_30 hx hb hts hown hK hP (hts _ q701) dX5_operandsFit_89 ?_
              refine lv_bipush (v := (9 : Int32)) hx hb dX5_operandsFit_92 bp_9 ?_
              refine lv_icmp_ge (tgt := 107) hx hb dX5_operandsFit_94 (by decide) (fun c_94 => ?_) (fun c_94 => ?_)
              · replace hr := hr.trans (if_pos c_94)
                refine lv_aload_n hx hb dX5_operandsFit_107 rfl (lv_at hl 4 rfl) ?_
                refine mg_0_30 hx hb hts hown hK hP (hts _ q701) dX5_operandsFit_108 ?_
                refine lv_bipush (v := (10 : Int32)) hx hb dX5_operandsFit_111 bp_10 ?_
                refine lv_icmp_ge (tgt := 136) hx hb dX5_operandsFit_113 (by decide) (fun c_113 => ?_) (fun c_113 => ?_)
                · replace hr := hr.trans (if_pos c_113)
                  refine lv_iconst (v := (0 : Int32)) hx hb dX5_operandsFit_136 ic_0 ?_
                  exact g_endRz hF hQ hr rfl dX5_operandsFit_137
                · replace hr := hr.trans (if_neg c_113)
                  refine lv_aload_n hx hb dX5_operandsFit_116 rfl (lv_at hl 4 rfl) ?_
                  refine lv_iconst (v := (0 : Int32)) hx hb dX5_operandsFit_117 ic_0 ?_
                  refine g_RV (As := [.int (0 : Int32)]) (rest := []) hC (m_X5_isEither (K := K) (d := d) (0 : Int32) _ rfl (show ¬ ((0 : Int32) < 0 ∨ 3 ≤ (0 : Int32).toNatClampNeg) by decide)) (cwV 1 hts cw_X5_138 rfl rfl rfl hd_X5_isEither ⟨Nat.le_of_ble_eq_true rfl, Nat.le_of_ble_eq_true rfl⟩) mKst (va_recv hK hP (ci := 5) (q0 := 0) rfl rfl) hP hKp ⟨Nat.zero_le _, Nat.zero_le _⟩ rfl hl.1 rfl (Nat.le_of_ble_eq_true rfl) dX5_operandsFit_118 ?_
                  refine lv_if_eq (tgt := 136) hx hb dX5_operandsFit_121 (by decide) (fun c_121 => ?_) (fun c_121 => ?_)
                  · replace hr := hr.trans (if_pos c_121)
                    refine lv_iconst (v := (0 : Int32)) hx hb dX5_operandsFit_136 ic_0 ?_
                    exact g_endRz hF hQ hr rfl dX5_operandsFit_137
                  · replace hr := hr.trans (if_neg c_121)
                    refine lv_aload_n hx hb dX5_operandsFit_124 rfl (lv_at hl 4 rfl) ?_
                    refine lv_iconst (v := (1 : Int32)) hx hb dX5_operandsFit_125 ic_1 ?_
                    refine g_RV (As := [.int (1 : Int32)]) (rest := []) hC (m_X5_isPlain (K := K) (d := d) (1 : Int32) _ rfl (show ¬ ((1 : Int32) < 0 ∨ 3 ≤ (1 : Int32).toNatClampNeg) by decide)) (cwV 1 hts cw_X5_142 rfl rfl rfl hd_X5_isPlain ⟨Nat.le_of_ble_eq_true rfl, Nat.le_of_ble_eq_true rfl⟩) mKst (va_recv hK hP (ci := 5) (q0 := 0) rfl rfl) hP hKp ⟨Nat.zero_le _, Nat.zero_le _⟩ rfl hl.1 rfl (Nat.le_of_ble_eq_true rfl) dX5_operandsFit_126 ?_
                    refine lv_if_eq (tgt := 136) hx hb dX5_operandsFit_129 (by decide) (fun c_129 => ?_) (fun c_129 => ?_)
                    · replace hr := hr.trans (if_pos c_129)
                      refine lv_iconst (v := (0 : Int32)) hx hb dX5_operandsFit_136 ic_0 ?_
                      exact g_endRz hF hQ hr rfl dX5_operandsFit_137
                    · replace hr := hr.trans (if_neg c_129)
                      refine lv_iconst (v := (1 : Int32)) hx hb dX5_operandsFit_132 ic_1 ?_
                      refine lv_goto (tgt := 137) hx hb dX5_operandsFit_133 (by decide) ?_
                      exact g_endRz hF hQ hr rfl dX5_operandsFit_137
              · replace hr := hr.trans (if_neg c_94)
                refine lv_iload_n hx hb dX5_operandsFit_97 rfl (lv_at hl 3 rfl) ?_
                refine lv_iconst (v := (1 : Int32)) hx hb dX5_operandsFit_98 ic_1 ?_
                obtain ⟨b7, eb7⟩ : ∃ z : Bool, z = (if v1 = (1 : Int32) then (if v2 = (2 : Int32) then false else true) else true) := ⟨_, rfl⟩
                replace hr := hr.trans (bnd_eq eb7)
                have kb7T : b7 = true → W p l e rm_X5_operandsFit s m args below meth c s.heap [] 0 0 Q (F0 m 107 ls []) := by
                  intro hb7
                  replace hr := hr.trans (if_pos hb7)
                  refine lv_aload_n hx hb dX5_operandsFit_107 rfl (lv_at hl 4 rfl) ?_
                  refine mg_0_30 hx hb hts hown hK hP (hts _ q701) dX5_operandsFit_108 ?_
                  refine lv_bipush (v := (10 : Int32)) hx hb dX5_operandsFit_111 bp_10 ?_
                  refine lv_icmp_ge (tgt := 136) hx hb dX5_operandsFit_113 (by decide) (fun c_113 => ?_) (fun c_113 => ?_)
                  · replace hr := hr.trans (if_pos c_113)
                    refine lv_iconst (v := (0 : Int32)) hx hb dX5_operandsFit_136 ic_0 ?_
                    exact g_endRz hF hQ hr rfl dX5_operandsFit_137
                  · replace hr := hr.trans (if_neg c_113)
                    refine lv_aload_n hx hb dX5_operandsFit_116 rfl (lv_at hl 4 rfl) ?_
                    refine lv_iconst (v := (0 : Int32)) hx hb dX5_operandsFit_117 ic_0 ?_
                    refine g_RV (As := [.int (0 : Int32)]) (rest := []) hC (m_X5_isEither (K := K) (d := d) (0 : Int32) _ rfl (show ¬ ((0 : Int32) < 0 ∨ 3 ≤ (0 : Int32).toNatClampNeg) by decide)) (cwV 1 hts cw_X5_138 rfl rfl rfl hd_X5_isEither ⟨Nat.le_of_ble_eq_true rfl, Nat.le_of_ble_eq_true rfl⟩) mKst (va_recv hK hP (ci := 5) (q0 := 0) rfl rfl) hP hKp ⟨Nat.zero_le _, Nat.zero_le _⟩ rfl hl.1 rfl (Nat.le_of_ble_eq_true rfl) dX5_operandsFit_118 ?_
                    refine lv_if_eq (tgt := 136) hx hb dX5_operandsFit_121 (by decide) (fun c_121 => ?_) (fun c_121 => ?_)
                    · replace hr := hr.trans (if_pos c_121)
                      refine lv_iconst (v := (0 : Int32)) hx hb dX5_operandsFit_136 ic_0 ?_
                      exact g_endRz hF hQ hr rfl dX5_operandsFit_137
                    · replace hr := hr.trans (if_neg c_121)
                      refine lv_aload_n hx hb dX5_operandsFit_124 rfl (lv_at hl 4 rfl) ?_
                      refine lv_iconst (v := (1 : Int32)) hx hb dX5_operandsFit_125 ic_1 ?_
                      refine g_RV (As := [.int (1 : Int32)]) (rest := []) hC (m_X5_isPlain (K := K) (d := d) (1 : Int32) _ rfl (show ¬ ((1 : Int32) < 0 ∨ 3 ≤ (1 : Int32).toNatClampNeg) by decide)) (cwV 1 hts cw_X5_142 rfl rfl rfl hd_X5_isPlain ⟨Nat.le_of_ble_eq_true rfl, Nat.le_of_ble_eq_true rfl⟩) mKst (va_recv hK hP (ci := 5) (q0 := 0) rfl rfl) hP hKp ⟨Nat.zero_le _, Nat.zero_le _⟩ rfl hl.1 rfl (Nat.le_of_ble_eq_true rfl) dX5_operandsFit_126 ?_
                      refine lv_if_eq (tgt := 136) hx hb dX5_operandsFit_129 (by decide) (fun c_129 => ?_) (fun c_129 => ?_)
                      · replace hr := hr.trans (if_pos c_129)
                        refine lv_iconst (v := (0 : Int32)) hx hb dX5_operandsFit_136 ic_0 ?_
                        exact g_endRz hF hQ hr rfl dX5_operandsFit_137
                      · replace hr := hr.trans (if_neg c_129)
                        refine lv_iconst (v := (1 : Int32)) hx hb dX5_operandsFit_132 ic_1 ?_
                        refine lv_goto (tgt := 137) hx hb dX5_operandsFit_133 (by decide) ?_
                        exact g_endRz hF hQ hr rfl dX5_operandsFit_137
                have kb7F : ¬ b7 = true → W p l e rm_X5_operandsFit s m args below meth c s.heap [] 0 0 Q (F0 m 132 ls []) := by
                  intro hb7
                  replace hr := hr.trans (if_neg hb7)
                  have er := eb7
                  have hf := Bool.eq_false_iff.mpr hb7
                  have c_99 : v1 = (1 : Int32) := Decidable.byContradiction (fun q => absurd (hf.symm.trans (er.trans (if_neg q))) (by decide))
                  have er := er.trans (if_pos c_99)
                  have c_104 : v2 = (2 : Int32) := Decidable.byContradiction (fun q => absurd (hf.symm.trans (er.trans (if_neg q))) (by decide))
                  have er := er.trans (if_pos c_104)
                  clear er
                  refine lv_iconst (v := (1 : Int32)) hx hb dX5_operandsFit_132 ic_1 ?_
                  refine lv_goto (tgt := 137) hx hb dX5_operandsFit_133 (by decide) ?_
                  exact g_endRz hF hQ hr rfl dX5_operandsFit_137
                replace hr := eb7
                refine lv_icmp_ne (tgt := 107) hx hb dX5_operandsFit_99 (by decide) (fun c_99 => ?_) (fun c_99 => ?_)
                · replace hr := hr.trans (if_neg c_99)
                  exact kb7T hr
                · replace hr := hr.trans (if_pos c_99)
                  refine lv_iload_n hx hb dX5_operandsFit_102 rfl (lv_at hl 2 rfl) ?_
                  refine lv_iconst (v := (2 : Int32)) hx hb dX5_operandsFit_103 ic_2 ?_
                  refine lv_icmp_eq (tgt := 132) hx hb dX5_operandsFit_104 (by decide) (fun c_104 => ?_) (fun c_104 => ?_)
                  · replace hr := hr.trans (if_pos c_104)
                    exact kb7F (by rw [hr]; decide)
                  · replace hr := hr.trans (if_neg c_104)
                    exact kb7T hr
      have kb5F : ¬ b5 = true → W p l e rm_X5_operandsFit s m args below meth c s.heap [] 0 0 Q (F0 m 138 ls []) := by
        intro hb5
        replace hr := hr.trans (if_neg hb5)
        have er := eb5
        have hf := Bool.eq_false_iff.mpr hb5
        have c_50 : ¬ ((km_op K) < (11 : Int32)) := fun q => absurd (hf.symm.trans (er.trans (if_pos q))) (by decide)
        have er := er.trans (if_neg c_50)
        have c_59 : ¬ ((km_op K) = (48 : Int32)) := fun q => absurd (hf.symm.trans (er.trans (if_pos q))) (by decide)
        have er := er.trans (if_neg c_59)
        have c_68 : ¬ ((km_op K) = (49 : Int32)) := fun q => absurd (hf.symm.trans (er.trans (if_pos q))) (by decide)
        have er := er.trans (if_neg c_68)
        clear er
        refine lv_aload_n hx hb dX5_operandsFit_138 rfl (lv_at hl 4 rfl) ?_
        refine mg_0_30 hx hb hts hown hK hP (hts _ q701) dX5_operandsFit_139 ?_
        refine lv_bipush (v := (11 : Int32)) hx hb dX5_operandsFit_142 bp_11 ?_
        refine lv_icmp_ne (tgt := 167) hx hb dX5_operandsFit_144 (by decide) (fun c_144 => ?_) (fun c_144 => ?_)
        · replace hr := hr.trans (if_neg c_144)
          refine lv_aload_n hx hb dX5_operandsFit_167 rfl (lv_at hl 4 rfl) ?_
          refine mg_0_30 hx hb hts hown hK hP (hts _ q701) dX5_operandsFit_168 ?_
          refine lv_bipush (v := (15 : Int32)) hx hb dX5_operandsFit_171 bp_15 ?_
          obtain ⟨b8, eb8⟩ : ∃ z : Bool, z = (if (km_op K) < (15 : Int32) then true else (if (km_op K) = (36 : Int32) then true else (if (km_op K) = (44 : Int32) then true else (if (km_op K) = (45 : Int32) then true else false)))) := ⟨_, rfl⟩
          replace hr := hr.trans (bnd_eq eb8)
          have kb8T : b8 = true → W p l e rm_X5_operandsFit s m args below meth c s.heap [] 0 0 Q (F0 m 203 ls []) := by
            intro hb8
            replace hr := hr.trans (if_pos hb8)
            refine lv_iload_n hx hb dX5_operandsFit_203 rfl (lv_at hl 1 rfl) ?_
            refine lv_if_eq (tgt := 224) hx hb dX5_operandsFit_204 (by decide) (fun c_204 => ?_) (fun c_204 => ?_)
            · replace hr := hr.trans (if_pos c_204)
              refine lv_iconst (v := (0 : Int32)) hx hb dX5_operandsFit_224 ic_0 ?_
              exact g_endRz hF hQ hr rfl dX5_operandsFit_225
            · replace hr := hr.trans (if_neg c_204)
              refine lv_iload_n hx hb dX5_operandsFit_207 rfl (lv_at hl 3 rfl) ?_
              refine lv_iconst (v := (1 : Int32)) hx hb dX5_operandsFit_208 ic_1 ?_
              refine lv_icmp_ne (tgt := 224) hx hb dX5_operandsFit_209 (by decide) (fun c_209 => ?_) (fun c_209 => ?_)
              · replace hr := hr.trans (if_neg c_209)
                refine lv_iconst (v := (0 : Int32)) hx hb dX5_operandsFit_224 ic_0 ?_
                exact g_endRz hF hQ hr rfl dX5_operandsFit_225
              · replace hr := hr.trans (if_pos c_209)
                refine lv_aload_n hx hb dX5_operandsFit_212 rfl (lv_at hl 4 rfl) ?_
                refine lv_iconst (v := (1 : Int32)) hx hb dX5_operandsFit_213 ic_1 ?_
                refine g_RV (As := [.int (1 : Int32)]) (rest := []) hC (m_X5_isEither (K := K) (d := d) (1 : Int32) _ rfl (show ¬ ((1 : Int32) < 0 ∨ 3 ≤ (1 : Int32).toNatClampNeg) by decide)) (cwV 1 hts cw_X5_138 rfl rfl rfl hd_X5_isEither ⟨Nat.le_of_ble_eq_true rfl, Nat.le_of_ble_eq_true rfl⟩) mKst (va_recv hK hP (ci := 5) (q0 := 0) rfl rfl) hP hKp ⟨Nat.zero_le _, Nat.zero_le _⟩ rfl hl.1 rfl (Nat.le_of_ble_eq_true rfl) dX5_operandsFit_214 ?_
                refine lv_if_eq (tgt := 224) hx hb dX5_operandsFit_217 (by decide) (fun c_217 => ?_) (fun c_217 => ?_)
                · replace hr := hr.trans (if_pos c_217)
                  refine lv_iconst (v := (0 : Int32)) hx hb dX5_operandsFit_224 ic_0 ?_
                  exact g_endRz hF hQ hr rfl dX5_operandsFit_225
                · replace hr := hr.trans (if_neg c_217)
                  refine lv_iconst (v := (1 : Int32)) hx hb dX5_operandsFit_220 ic_1 ?_
                  refine lv_goto (tgt := 225) hx hb dX5_operandsFit_221 (by decide) ?_
                  exact g_endRz hF hQ hr rfl dX5_operandsFit_225
          have kb8F : ¬ b8 = true → W p l e rm_X5_operandsFit s m args below meth c s.heap [] 0 0 Q (F0 m 226 ls []) := by
            intro hb8
            replace hr := hr.trans (if_neg hb8)
            have er := eb8
            have hf := Bool.eq_false_iff.mpr hb8
            have c_173 : ¬ ((km_op K) < (15 : Int32)) := fun q => absurd (hf.symm.trans (er.trans (if_pos q))) (by decide)
            have er := er.trans (if_neg c_173)
            have c_182 : ¬ ((km_op K) = (36 : Int32)) := fun q => absurd (hf.symm.trans (er.trans (if_pos q))) (by decide)
            have er := er.trans (if_neg c_182)
            have c_191 : ¬ ((km_op K) = (44 : Int32)) := fun q => absurd (hf.symm.trans (er.trans (if_pos q))) (by decide)
            have er := er.trans (if_neg c_191)
            have c_200 : ¬ ((km_op K) = (45 : Int32)) := fun q => absurd (hf.symm.trans (er.trans (if_pos q))) (by decide)
            have er := er.trans (if_neg c_200)
            clear er
            refine lv_aload_n hx hb dX5_operandsFit_226 rfl (lv_at hl 4 rfl) ?_
            refine mg_0_30 hx hb hts hown hK hP (hts _ q701) dX5_operandsFit_227 ?_
            refine lv_bipush (v := (23 : Int32)) hx hb dX5_operandsFit_230 bp_23 ?_
            obtain ⟨b9, eb9⟩ : ∃ z : Bool, z = (if (km_op K) < (23 : Int32) then true else (if (km_op K) = (30 : Int32) then true else (if (km_op K) = (35 : Int32) then true else false))) := ⟨_, rfl⟩
            replace hr := hr.trans (bnd_eq eb9)
            have kb9T : b9 = true → W p l e rm_X5_operandsFit s m args below meth c s.heap [] 0 0 Q (F0 m 253 ls []) := by
              intro hb9
              replace hr := hr.trans (if_pos hb9)
              refine lv_iload hx hb dX5_operandsFit_253 (lv_at hl 0 rfl) ?_
              refine lv_if_eq (tgt := 270) hx hb dX5_operandsFit_255 (by decide) (fun c_255 => ?_) (fun c_255 => ?_)
              · replace hr := hr.trans (if_pos c_255)
                refine lv_iconst (v := (0 : Int32)) hx hb dX5_operandsFit_270 ic_0 ?_
                exact g_endRz hF hQ hr rfl dX5_operandsFit_271
              · replace hr := hr.trans (if_neg c_255)
                refine lv_aload_n hx hb dX5_operandsFit_258 rfl (lv_at hl 4 rfl) ?_
                refine lv_iconst (v := (0 : Int32)) hx hb dX5_operandsFit_259 ic_0 ?_
                refine g_RV (As := [.int (0 : Int32)]) (rest := []) hC (m_X5_isEither (K := K) (d := d) (0 : Int32) _ rfl (show ¬ ((0 : Int32) < 0 ∨ 3 ≤ (0 : Int32).toNatClampNeg) by decide)) (cwV 1 hts cw_X5_138 rfl rfl rfl hd_X5_isEither ⟨Nat.le_of_ble_eq_true rfl, Nat.le_of_ble_eq_true rfl⟩) mKst (va_recv hK hP (ci := 5) (q0 := 0) rfl rfl) hP hKp ⟨Nat.zero_le _, Nat.zero_le _⟩ rfl hl.1 rfl (Nat.le_of_ble_eq_true rfl) dX5_operandsFit_260 ?_
                refine lv_if_eq (tgt := 270) hx hb dX5_operandsFit_263 (by decide) (fun c_263 => ?_) (fun c_263 => ?_)
                · replace hr := hr.trans (if_pos c_263)
                  refine lv_iconst (v := (0 : Int32)) hx hb dX5_operandsFit_270 ic_0 ?_
                  exact g_endRz hF hQ hr rfl dX5_operandsFit_271
                · replace hr := hr.trans (if_neg c_263)
                  refine lv_iconst (v := (1 : Int32)) hx hb dX5_operandsFit_266 ic_1 ?_
                  refine lv_goto (tgt := 271) hx hb dX5_operandsFit_267 (by decide) ?_
                  exact g_endRz hF hQ hr rfl dX5_operandsFit_271
            have kb9F : ¬ b9 = true → W p l e rm_X5_operandsFit s m args below meth c s.heap [] 0 0 Q (F0 m 272 ls []) := by
              intro hb9
              replace hr := hr.trans (if_neg hb9)
              have er := eb9
              have hf := Bool.eq_false_iff.mpr hb9
              have c_232 : ¬ ((km_op K) < (23 : Int32)) := fun q => absurd (hf.symm.trans (er.trans (if_pos q))) (by decide)
              have er := er.trans (if_neg c_232)
              have c_241 : ¬ ((km_op K) = (30 : Int32)) := fun q => absurd (hf.symm.trans (er.trans (if_pos q))) (by decide)
              have er := er.trans (if_neg c_241)
              have c_250 : ¬ ((km_op K) = (35 : Int32)) := fun q => absurd (hf.symm.trans (er.trans (if_pos q))) (by decide)
              have er := er.trans (if_neg c_250)
              clear er
              refine lv_aload_n hx hb dX5_operandsFit_272 rfl (lv_at hl 4 rfl) ?_
              refine mg_0_30 hx hb hts hown hK hP (hts _ q701) dX5_operandsFit_273 ?_
              refine lv_bipush (v := (23 : Int32)) hx hb dX5_operandsFit_276 bp_23 ?_
              refine lv_icmp_ne (tgt := 312) hx hb dX5_operandsFit_278 (by decide) (fun c_278 => ?_) (fun c_278 => ?_)
              · replace hr := hr.trans (if_neg c_278)
                refine lv_aload_n hx hb dX5_operandsFit_312 rfl (lv_at hl 4 rfl) ?_
                refine mg_0_30 hx hb hts hown hK hP (hts _ q701) dX5_operandsFit_313 ?_
                refine lv_bipush (v := (29 : Int32)) hx hb dX5_operandsFit_316 bp_29 ?_
                refine lv_icmp_ge (tgt := 366) hx hb dX5_operandsFit_318 (by decide) (fun c_318 => ?_) (fun c_318 => ?_)
                · replace hr := hr.trans (if_pos c_318)
                  refine lv_aload_n hx hb dX5_operandsFit_366 rfl (lv_at hl 4 rfl) ?_
                  refine mg_0_30 hx hb hts hown hK hP (hts _ q701) dX5_operandsFit_367 ?_
                  refine lv_bipush (v := (29 : Int32)) hx hb dX5_operandsFit_370 bp_29 ?_
                  obtain ⟨b10, eb10⟩ : ∃ z : Bool, z = (if (km_op K) = (29 : Int32) then true else (if (km_op K) = (31 : Int32) then true else (if (km_op K) = (32 : Int32) then true else false))) := ⟨_, rfl⟩
                  replace hr := hr.trans (bnd_eq eb10)
                  have kb10T : b10 = true → W p l e rm_X5_operandsFit s m args below meth c s.heap [] 0 0 Q (F0 m 393 ls []) := by
                    intro hb10
                    replace hr := hr.trans (if_pos hb10)
                    refine lv_iload hx hb dX5_operandsFit_393 (lv_at hl 0 rfl) ?_
                    refine lv_if_eq (tgt := 418) hx hb dX5_operandsFit_395 (by decide) (fun c_395 => ?_) (fun c_395 => ?_)
                    · replace hr := hr.trans (if_pos c_395)
                      refine lv_iconst (v := (0 : Int32)) hx hb dX5_operandsFit_418 ic_0 ?_
                      exact g_endRz hF hQ hr rfl dX5_operandsFit_419
                    · replace hr := hr.trans (if_neg c_395)
                      refine lv_aload_n hx hb dX5_operandsFit_398 rfl (lv_at hl 4 rfl) ?_
                      refine lv_iconst (v := (0 : Int32)) hx hb dX5_operandsFit_399 ic_0 ?_
                      refine g_RV (As := [.int (0 : Int32)]) (rest := []) hC (m_X5_isEither (K := K) (d := d) (0 : Int32) _ rfl (show ¬ ((0 : Int32) < 0 ∨ 3 ≤ (0 : Int32).toNatClampNeg) by decide)) (cwV 1 hts cw_X5_138 rfl rfl rfl hd_X5_isEither ⟨Nat.le_of_ble_eq_true rfl, Nat.le_of_ble_eq_true rfl⟩) mKst (va_recv hK hP (ci := 5) (q0 := 0) rfl rfl) hP hKp ⟨Nat.zero_le _, Nat.zero_le _⟩ rfl hl.1 rfl (Nat.le_of_ble_eq_true rfl) dX5_operandsFit_400 ?_
                      refine lv_if_ne (tgt := 414) hx hb dX5_operandsFit_403 (by decide) (fun c_403 => ?_) (fun c_403 => ?_)
                      · replace hr := hr.trans (if_neg c_403)
                        refine lv_iconst (v := (1 : Int32)) hx hb dX5_operandsFit_414 ic_1 ?_
                        refine lv_goto (tgt := 419) hx hb dX5_operandsFit_415 (by decide) ?_
                        exact g_endRz hF hQ hr rfl dX5_operandsFit_419
                      · replace hr := hr.trans (if_pos c_403)
                        refine lv_aload_n hx hb dX5_operandsFit_406 rfl (lv_at hl 4 rfl) ?_
                        refine lv_iconst (v := (0 : Int32)) hx hb dX5_operandsFit_407 ic_0 ?_
                        refine g_RV (As := [.int (0 : Int32)]) (rest := []) hC (m_X5_isPlain (K := K) (d := d) (0 : Int32) _ rfl (show ¬ ((0 : Int32) < 0 ∨ 3 ≤ (0 : Int32).toNatClampNeg) by decide)) (cwV 1 hts cw_X5_142 rfl rfl rfl hd_X5_isPlain ⟨Nat.le_of_ble_eq_true rfl, Nat.le_of_ble_eq_true rfl⟩) mKst (va_recv hK hP (ci := 5) (q0 := 0) rfl rfl) hP hKp ⟨Nat.zero_le _, Nat.zero_le _⟩ rfl hl.1 rfl (Nat.le_of_ble_eq_true rfl) dX5_operandsFit_408 ?_
                        refine lv_if_eq (tgt := 418) hx hb dX5_operandsFit_411 (by decide) (fun c_411 => ?_) (fun c_411 => ?_)
                        · replace hr := hr.trans (if_pos c_411)
                          refine lv_iconst (v := (0 : Int32)) hx hb dX5_operandsFit_418 ic_0 ?_
                          exact g_endRz hF hQ hr rfl dX5_operandsFit_419
                        · replace hr := hr.trans (if_neg c_411)
                          refine lv_iconst (v := (1 : Int32)) hx hb dX5_operandsFit_414 ic_1 ?_
                          refine lv_goto (tgt := 419) hx hb dX5_operandsFit_415 (by decide) ?_
                          exact g_endRz hF hQ hr rfl dX5_operandsFit_419
                  have kb10F : ¬ b10 = true → W p l e rm_X5_operandsFit s m args below meth c s.heap [] 0 0 Q (F0 m 420 ls []) := by
                    intro hb10
                    replace hr := hr.trans (if_neg hb10)
                    have er := eb10
                    have hf := Bool.eq_false_iff.mpr hb10
                    have c_372 : ¬ ((km_op K) = (29 : Int32)) := fun q => absurd (hf.symm.trans (er.trans (if_pos q))) (by decide)
                    have er := er.trans (if_neg c_372)
                    have c_381 : ¬ ((km_op K) = (31 : Int32)) := fun q => absurd (hf.symm.trans (er.trans (if_pos q))) (by decide)
                    have er := er.trans (if_neg c_381)
                    have c_390 : ¬ ((km_op K) = (32 : Int32)) := fun q => absurd (hf.symm.trans (er.trans (if_pos q))) (by decide)
                    have er := er.trans (if_neg c_390)
                    clear er
                    refine lv_aload_n hx hb dX5_operandsFit_420 rfl (lv_at hl 4 rfl) ?_
                    refine mg_0_30 hx hb hts hown hK hP (hts _ q701) dX5_operandsFit_421 ?_
                    refine lv_bipush (v := (33 : Int32)) hx hb dX5_operandsFit_424 bp_33 ?_
                    refine lv_icmp_ne (tgt := 456) hx hb dX5_operandsFit_426 (by decide) (fun c_426 => ?_) (fun c_426 => ?_)
                    · replace hr := hr.trans (if_neg c_426)
                      refine lv_aload_n hx hb dX5_operandsFit_456 rfl (lv_at hl 4 rfl) ?_
                      refine mg_0_30 hx hb hts hown hK hP (hts _ q701) dX5_operandsFit_457 ?_
                      refine lv_bipush (v := (34 : Int32)) hx hb dX5_operandsFit_460 bp_34 ?_
                      refine lv_icmp_ne (tgt := 484) hx hb dX5_operandsFit_462 (by decide) (fun c_462 => ?_) (fun c_462 => ?_)
                      · replace hr := hr.trans (if_neg c_462)
                        refine lv_aload_n hx hb dX5_operandsFit_484 rfl (lv_at hl 4 rfl) ?_
                        refine mg_0_30 hx hb hts hown hK hP (hts _ q701) dX5_operandsFit_485 ?_
                        refine lv_bipush (v := (46 : Int32)) hx hb dX5_operandsFit_488 bp_46 ?_
                        refine lv_icmp_ne (tgt := 509) hx hb dX5_operandsFit_490 (by decide) (fun c_490 => ?_) (fun c_490 => ?_)
                        · replace hr := hr.trans (if_neg c_490)
                          refine lv_aload_n hx hb dX5_operandsFit_509 rfl (lv_at hl 4 rfl) ?_
                          refine mg_0_30 hx hb hts hown hK hP (hts _ q701) dX5_operandsFit_510 ?_
                          refine lv_bipush (v := (47 : Int32)) hx hb dX5_operandsFit_513 bp_47 ?_
                          refine lv_icmp_ne (tgt := 553) hx hb dX5_operandsFit_515 (by decide) (fun c_515 => ?_) (fun c_515 => ?_)
                          · replace hr := hr.trans (if_neg c_515)
                            refine lv_iload_n hx hb dX5_operandsFit_553 rfl (lv_at hl 3 rfl) ?_
                            refine lv_if_ne (tgt := 566) hx hb dX5_operandsFit_554 (by decide) (fun c_554 => ?_) (fun c_554 => ?_)
                            · replace hr := hr.trans (if_neg c_554)
                              refine lv_iconst (v := (0 : Int32)) hx hb dX5_operandsFit_566 ic_0 ?_
                              exact g_endRz hF hQ hr rfl dX5_operandsFit_567
                            · replace hr := hr.trans (if_pos c_554)
                              refine lv_iload hx hb dX5_operandsFit_557 (lv_at hl 0 rfl) ?_
                              refine lv_if_eq (tgt := 566) hx hb dX5_operandsFit_559 (by decide) (fun c_559 => ?_) (fun c_559 => ?_)
                              · replace hr := hr.trans (if_pos c_559)
                                refine lv_iconst (v := (0 : Int32)) hx hb dX5_operandsFit_566 ic_0 ?_
                                exact g_endRz hF hQ hr rfl dX5_operandsFit_567
                              · replace hr := hr.trans (if_neg c_559)
                                refine lv_iconst (v := (1 : Int32)) hx hb dX5_operandsFit_562 ic_1 ?_
                                refine lv_goto (tgt := 567) hx hb dX5_operandsFit_563 (by decide) ?_
                                exact g_endRz hF hQ hr rfl dX5_operandsFit_567
                          · replace hr := hr.trans (if_pos c_515)
                            refine lv_iload_n hx hb dX5_operandsFit_518 rfl (lv_at hl 1 rfl) ?_
                            refine lv_if_eq (tgt := 551) hx hb dX5_operandsFit_519 (by decide) (fun c_519 => ?_) (fun c_519 => ?_)
                            · replace hr := hr.trans (if_pos c_519)
                              refine lv_iconst (v := (0 : Int32)) hx hb dX5_operandsFit_551 ic_0 ?_
                              exact g_endRz hF hQ hr rfl dX5_operandsFit_552
                            · replace hr := hr.trans (if_neg c_519)
                              refine lv_aload_n hx hb dX5_operandsFit_522 rfl (lv_at hl 4 rfl) ?_
                              refine lv_iconst (v := (0 : Int32)) hx hb dX5_operandsFit_523 ic_0 ?_
                              refine g_RV (As := [.int (0 : Int32)]) (rest := []) hC (m_X5_isEither (K := K) (d := d) (0 : Int32) _ rfl (show ¬ ((0 : Int32) < 0 ∨ 3 ≤ (0 : Int32).toNatClampNeg) by decide)) (cwV 1 hts cw_X5_138 rfl rfl rfl hd_X5_isEither ⟨Nat.le_of_ble_eq_true rfl, Nat.le_of_ble_eq_true rfl⟩) mKst (va_recv hK hP (ci := 5) (q0 := 0) rfl rfl) hP hKp ⟨Nat.zero_le _, Nat.zero_le _⟩ rfl hl.1 rfl (Nat.le_of_ble_eq_true rfl) dX5_operandsFit_524 ?_
                              refine lv_if_eq (tgt := 551) hx hb dX5_operandsFit_527 (by decide) (fun c_527 => ?_) (fun c_527 => ?_)
                              · replace hr := hr.trans (if_pos c_527)
                                refine lv_iconst (v := (0 : Int32)) hx hb dX5_operandsFit_551 ic_0 ?_
                                exact g_endRz hF hQ hr rfl dX5_operandsFit_552
                              · replace hr := hr.trans (if_neg c_527)
                                refine lv_iload_n hx hb dX5_operandsFit_530 rfl (lv_at hl 2 rfl) ?_
                                refine lv_iconst (v := (1 : Int32)) hx hb dX5_operandsFit_531 ic_1 ?_
                                refine lv_icmp_eq (tgt := 547) hx hb dX5_operandsFit_532 (by decide) (fun c_532 => ?_) (fun c_532 => ?_)
                                · replace hr := hr.trans (if_pos c_532)
                                  refine lv_iconst (v := (1 : Int32)) hx hb dX5_operandsFit_547 ic_1 ?_
                                  refine lv_goto (tgt := 552) hx hb dX5_operandsFit_548 (by decide) ?_
                                  exact g_endRz hF hQ hr rfl dX5_operandsFit_552
                                · replace hr := hr.trans (if_neg c_532)
                                  refine lv_aload_n hx hb dX5_operandsFit_535 rfl (lv_at hl 4 rfl) ?_
                                  refine lv_iconst (v := (1 : Int32)) hx hb dX5_operandsFit_536 ic_1 ?_
                                  refine lv_lconst (v := (0 : Int64)) hx hb dX5_operandsFit_537 lc_0 ?_
                                  refine lv_ldc2 hx hb hown (hts _ q852) dX5_operandsFit_538 ?_
                                  refine g_RV (As := [.int (1 : Int32), .long (0 : Int64), .long (255 : Int64)]) (rest := []) hC (m_X5_isNumber (K := K) (d := d) (1 : Int32) (0 : Int64) (255 : Int64) _ rfl (show ¬ ((1 : Int32) < 0 ∨ 3 ≤ (1 : Int32).toNatClampNeg) by decide)) (cwV 3 hts cw_X5_130 rfl rfl rfl hd_X5_isNumber ⟨Nat.le_of_ble_eq_true rfl, Nat.le_of_ble_eq_true rfl⟩) mKst (va_recv hK hP (ci := 5) (q0 := 0) rfl rfl) hP hKp ⟨Nat.zero_le _, Nat.zero_le _⟩ rfl hl.1 rfl (Nat.le_of_ble_eq_true rfl) dX5_operandsFit_541 ?_
                                  refine lv_if_eq (tgt := 551) hx hb dX5_operandsFit_544 (by decide) (fun c_544 => ?_) (fun c_544 => ?_)
                                  · replace hr := hr.trans (if_pos c_544)
                                    refine lv_iconst (v := (0 : Int32)) hx hb dX5_operandsFit_551 ic_0 ?_
                                    exact g_endRz hF hQ hr rfl dX5_operandsFit_552
                                  · replace hr := hr.trans (if_neg c_544)
                                    refine lv_iconst (v := (1 : Int32)) hx hb dX5_operandsFit_547 ic_1 ?_
                                    refine lv_goto (tgt := 552) hx hb dX5_operandsFit_548 (by decide) ?_
                                    exact g_endRz hF hQ hr rfl dX5_operandsFit_552
                        · replace hr := hr.trans (if_pos c_490)
                          refine lv_iload hx hb dX5_operandsFit_493 (lv_at hl 0 rfl) ?_
                          refine lv_if_eq (tgt := 507) hx hb dX5_operandsFit_495 (by decide) (fun c_495 => ?_) (fun c_495 => ?_)
                          · replace hr := hr.trans (if_pos c_495)
                            refine lv_iconst (v := (0 : Int32)) hx hb dX5_operandsFit_507 ic_0 ?_
                            exact g_endRz hF hQ hr rfl dX5_operandsFit_508
                          · replace hr := hr.trans (if_neg c_495)
                            refine lv_iload_n hx hb dX5_operandsFit_498 rfl (lv_at hl 3 rfl) ?_
                            refine lv_iconst (v := (1 : Int32)) hx hb dX5_operandsFit_499 ic_1 ?_
                            refine lv_icmp_ne (tgt := 507) hx hb dX5_operandsFit_500 (by decide) (fun c_500 => ?_) (fun c_500 => ?_)
                            · replace hr := hr.trans (if_neg c_500)
                              refine lv_iconst (v := (0 : Int32)) hx hb dX5_operandsFit_507 ic_0 ?_
                              exact g_endRz hF hQ hr rfl dX5_operandsFit_508
                            · replace hr := hr.trans (if_pos c_500)
                              refine lv_iconst (v := (1 : Int32)) hx hb dX5_operandsFit_503 ic_1 ?_
                              refine lv_goto (tgt := 508) hx hb dX5_operandsFit_504 (by decide) ?_
                              exact g_endRz hF hQ hr rfl dX5_operandsFit_508
                      · replace hr := hr.trans (if_pos c_462)
                        refine lv_iload hx hb dX5_operandsFit_465 (lv_at hl 0 rfl) ?_
                        refine lv_if_eq (tgt := 482) hx hb dX5_operandsFit_467 (by decide) (fun c_467 => ?_) (fun c_467 => ?_)
                        · replace hr := hr.trans (if_pos c_467)
                          refine lv_iconst (v := (0 : Int32)) hx hb dX5_operandsFit_482 ic_0 ?_
                          exact g_endRz hF hQ hr rfl dX5_operandsFit_483
                        · replace hr := hr.trans (if_neg c_467)
                          refine lv_aload_n hx hb dX5_operandsFit_470 rfl (lv_at hl 4 rfl) ?_
                          refine lv_iconst (v := (0 : Int32)) hx hb dX5_operandsFit_471 ic_0 ?_
                          refine g_RV (As := [.int (0 : Int32)]) (rest := []) hC (m_X5_isPlain (K := K) (d := d) (0 : Int32) _ rfl (show ¬ ((0 : Int32) < 0 ∨ 3 ≤ (0 : Int32).toNatClampNeg) by decide)) (cwV 1 hts cw_X5_142 rfl rfl rfl hd_X5_isPlain ⟨Nat.le_of_ble_eq_true rfl, Nat.le_of_ble_eq_true rfl⟩) mKst (va_recv hK hP (ci := 5) (q0 := 0) rfl rfl) hP hKp ⟨Nat.zero_le _, Nat.zero_le _⟩ rfl hl.1 rfl (Nat.le_of_ble_eq_true rfl) dX5_operandsFit_472 ?_
                          refine lv_if_eq (tgt := 482) hx hb dX5_operandsFit_475 (by decide) (fun c_475 => ?_) (fun c_475 => ?_)
                          · replace hr := hr.trans (if_pos c_475)
                            refine lv_iconst (v := (0 : Int32)) hx hb dX5_operandsFit_482 ic_0 ?_
                            exact g_endRz hF hQ hr rfl dX5_operandsFit_483
                          · replace hr := hr.trans (if_neg c_475)
                            refine lv_iconst (v := (1 : Int32)) hx hb dX5_operandsFit_478 ic_1 ?_
                            refine lv_goto (tgt := 483) hx hb dX5_operandsFit_479 (by decide) ?_
                            exact g_endRz hF hQ hr rfl dX5_operandsFit_483
                    · replace hr := hr.trans (if_pos c_426)
                      refine lv_iload hx hb dX5_operandsFit_429 (lv_at hl 0 rfl) ?_
                      refine lv_if_eq (tgt := 454) hx hb dX5_operandsFit_431 (by decide) (fun c_431 => ?_) (fun c_431 => ?_)
                      · replace hr := hr.trans (if_pos c_431)
                        refine lv_iconst (v := (0 : Int32)) hx hb dX5_operandsFit_454 ic_0 ?_
                        exact g_endRz hF hQ hr rfl dX5_operandsFit_455
                      · replace hr := hr.trans (if_neg c_431)
                        refine lv_iload_n hx hb dX5_operandsFit_434 rfl (lv_at hl 3 rfl) ?_
                        refine lv_if_eq (tgt := 450) hx hb dX5_operandsFit_435 (by decide) (fun c_435 => ?_) (fun c_435 => ?_)
                        · replace hr := hr.trans (if_pos c_435)
                          refine lv_iconst (v := (1 : Int32)) hx hb dX5_operandsFit_450 ic_1 ?_
                          refine lv_goto (tgt := 455) hx hb dX5_operandsFit_451 (by decide) ?_
                          exact g_endRz hF hQ hr rfl dX5_operandsFit_455
                        · replace hr := hr.trans (if_neg c_435)
                          refine lv_aload_n hx hb dX5_operandsFit_438 rfl (lv_at hl 4 rfl) ?_
                          refine lv_iconst (v := (0 : Int32)) hx hb dX5_operandsFit_439 ic_0 ?_
                          refine lv_lconst (v := (0 : Int64)) hx hb dX5_operandsFit_440 lc_0 ?_
                          refine lv_ldc2 hx hb hown (hts _ q853) dX5_operandsFit_441 ?_
                          refine g_RV (As := [.int (0 : Int32), .long (0 : Int64), .long (65535 : Int64)]) (rest := []) hC (m_X5_isNumber (K := K) (d := d) (0 : Int32) (0 : Int64) (65535 : Int64) _ rfl (show ¬ ((0 : Int32) < 0 ∨ 3 ≤ (0 : Int32).toNatClampNeg) by decide)) (cwV 3 hts cw_X5_130 rfl rfl rfl hd_X5_isNumber ⟨Nat.le_of_ble_eq_true rfl, Nat.le_of_ble_eq_true rfl⟩) mKst (va_recv hK hP (ci := 5) (q0 := 0) rfl rfl) hP hKp ⟨Nat.zero_le _, Nat.zero_le _⟩ rfl hl.1 rfl (Nat.le_of_ble_eq_true rfl) dX5_operandsFit_444 ?_
                          refine lv_if_eq (tgt := 454) hx hb dX5_operandsFit_447 (by decide) (fun c_447 => ?_) (fun c_447 => ?_)
                          · replace hr := hr.trans (if_pos c_447)
                            refine lv_iconst (v := (0 : Int32)) hx hb dX5_operandsFit_454 ic_0 ?_
                            exact g_endRz hF hQ hr rfl dX5_operandsFit_455
                          · replace hr := hr.trans (if_neg c_447)
                            refine lv_iconst (v := (1 : Int32)) hx hb dX5_operandsFit_450 ic_1 ?_
                            refine lv_goto (tgt := 455) hx hb dX5_operandsFit_451 (by decide) ?_
                            exact g_endRz hF hQ hr rfl dX5_operandsFit_455
                  replace hr := eb10
                  refine lv_icmp_eq (tgt := 393) hx hb dX5_operandsFit_372 (by decide) (fun c_372 => ?_) (fun c_372 => ?_)
                  · replace hr := hr.trans (if_pos c_372)
                    exact kb10T hr
                  · replace hr := hr.trans (if_neg c_372)
                    refine lv_aload_n hx hb dX5_operandsFit_375 rfl (lv_at hl 4 rfl) ?_
                    refine mg_0_30 hx hb hts hown hK hP (hts _ q701) dX5_operandsFit_376 ?_
                    refine lv_bipush (v := (31 : Int32)) hx hb dX5_operandsFit_379 bp_31 ?_
                    refine lv_icmp_eq (tgt := 393) hx hb dX5_operandsFit_381 (by decide) (fun c_381 => ?_) (fun c_381 => ?_)
                    · replace hr := hr.trans (if_pos c_381)
                      exact kb10T hr
                    · replace hr := hr.trans (if_neg c_381)
                      refine lv_aload_n hx hb dX5_operandsFit_384 rfl (lv_at hl 4 rfl) ?_
                      refine mg_0_30 hx hb hts hown hK hP (hts _ q701) dX5_operandsFit_385 ?_
                      refine lv_bipush (v := (32 : Int32)) hx hb dX5_operandsFit_388 bp_32 ?_
                      refine lv_icmp_ne (tgt := 420) hx hb dX5_operandsFit_390 (by decide) (fun c_390 => ?_) (fun c_390 => ?_)
                      · replace hr := hr.trans (if_neg c_390)
                        exact kb10F (by rw [hr]; decide)
                      · replace hr := hr.trans (if_pos c_390)
                        exact kb10T hr
                · replace hr := hr.trans (if_neg c_318)
                  refine lv_iload_n hx hb dX5_operandsFit_321 rfl (lv_at hl 1 rfl) ?_
                  refine lv_if_eq (tgt := 364) hx hb dX5_operandsFit_322 (by decide) (fun c_322 => ?_) (fun c_322 => ?_)
                  · replace hr := hr.trans (if_pos c_322)
                    refine lv_iconst (v := (0 : Int32)) hx hb dX5_operandsFit_364 ic_0 ?_
                    exact g_endRz hF hQ hr rfl dX5_operandsFit_365
                  · replace hr := hr.trans (if_neg c_322)
                    refine lv_aload_n hx hb dX5_operandsFit_325 rfl (lv_at hl 4 rfl) ?_
                    refine lv_iconst (v := (0 : Int32)) hx hb dX5_operandsFit_326 ic_0 ?_
                    refine g_RV (As := [.int (0 : Int32)]) (rest := []) hC (m_X5_isEither (K := K) (d := d) (0 : Int32) _ rfl (show ¬ ((0 : Int32) < 0 ∨ 3 ≤ (0 : Int32).toNatClampNeg) by decide)) (cwV 1 hts cw_X5_138 rfl rfl rfl hd_X5_isEither ⟨Nat.le_of_ble_eq_true rfl, Nat.le_of_ble_eq_true rfl⟩) mKst (va_recv hK hP (ci := 5) (q0 := 0) rfl rfl) hP hKp ⟨Nat.zero_le _, Nat.zero_le _⟩ rfl hl.1 rfl (Nat.le_of_ble_eq_true rfl) dX5_operandsFit_327 ?_
                    refine lv_if_eq (tgt := 364) hx hb dX5_operandsFit_330 (by decide) (fun c_330 => ?_) (fun c_330 => ?_)
                    · replace hr := hr.trans (if_pos c_330)
                      refine lv_iconst (v := (0 : Int32)) hx hb dX5_operandsFit_364 ic_0 ?_
                      exact g_endRz hF hQ hr rfl dX5_operandsFit_365
                    · replace hr := hr.trans (if_neg c_330)
                      refine lv_iload_n hx hb dX5_operandsFit_333 rfl (lv_at hl 2 rfl) ?_
                      refine lv_iconst (v := (1 : Int32)) hx hb dX5_operandsFit_334 ic_1 ?_
                      refine lv_icmp_ne (tgt := 348) hx hb dX5_operandsFit_335 (by decide) (fun c_335 => ?_) (fun c_335 => ?_)
                      · replace hr := hr.trans (if_neg c_335)
                        refine lv_aload_n hx hb dX5_operandsFit_348 rfl (lv_at hl 4 rfl) ?_
                        refine lv_iconst (v := (1 : Int32)) hx hb dX5_operandsFit_349 ic_1 ?_
                        refine lv_lconst (v := (0 : Int64)) hx hb dX5_operandsFit_350 lc_0 ?_
                        refine lv_ldc2 hx hb hown (hts _ q852) dX5_operandsFit_351 ?_
                        refine g_RV (As := [.int (1 : Int32), .long (0 : Int64), .long (255 : Int64)]) (rest := []) hC (m_X5_isNumber (K := K) (d := d) (1 : Int32) (0 : Int64) (255 : Int64) _ rfl (show ¬ ((1 : Int32) < 0 ∨ 3 ≤ (1 : Int32).toNatClampNeg) by decide)) (cwV 3 hts cw_X5_130 rfl rfl rfl hd_X5_isNumber ⟨Nat.le_of_ble_eq_true rfl, Nat.le_of_ble_eq_true rfl⟩) mKst (va_recv hK hP (ci := 5) (q0 := 0) rfl rfl) hP hKp ⟨Nat.zero_le _, Nat.zero_le _⟩ rfl hl.1 rfl (Nat.le_of_ble_eq_true rfl) dX5_operandsFit_354 ?_
                        refine lv_if_eq (tgt := 364) hx hb dX5_operandsFit_357 (by decide) (fun c_357 => ?_) (fun c_357 => ?_)
                        · replace hr := hr.trans (if_pos c_357)
                          refine lv_iconst (v := (0 : Int32)) hx hb dX5_operandsFit_364 ic_0 ?_
                          exact g_endRz hF hQ hr rfl dX5_operandsFit_365
                        · replace hr := hr.trans (if_neg c_357)
                          refine lv_iconst (v := (1 : Int32)) hx hb dX5_operandsFit_360 ic_1 ?_
                          refine lv_goto (tgt := 365) hx hb dX5_operandsFit_361 (by decide) ?_
                          exact g_endRz hF hQ hr rfl dX5_operandsFit_365
                      · replace hr := hr.trans (if_pos c_335)
                        refine lv_aload_n hx hb dX5_operandsFit_338 rfl (lv_at hl 4 rfl) ?_
                        refine mg_0_40 hx hb hts hown hK hP (hts _ q711) dX5_operandsFit_339 ?_
                        refine lv_iconst (v := (1 : Int32)) hx hb dX5_operandsFit_342 ic_1 ?_
                        refine ml_10 hx hb hK hP (show ¬ ((1 : Int32) < 0 ∨ 3 ≤ (1 : Int32).toNatClampNeg) by decide) dX5_operandsFit_343 ?_
                        refine lv_iconst (v := (1 : Int32)) hx hb dX5_operandsFit_344 ic_1 ?_
                        refine lv_icmp_eq (tgt := 360) hx hb dX5_operandsFit_345 (by decide) (fun c_345 => ?_) (fun c_345 => ?_)
                        · replace hr := hr.trans (if_pos c_345)
                          refine lv_iconst (v := (1 : Int32)) hx hb dX5_operandsFit_360 ic_1 ?_
                          refine lv_goto (tgt := 365) hx hb dX5_operandsFit_361 (by decide) ?_
                          exact g_endRz hF hQ hr rfl dX5_operandsFit_365
                        · replace hr := hr.trans (if_neg c_345)
                          refine lv_aload_n hx hb dX5_operandsFit_348 rfl (lv_at hl 4 rfl) ?_
                          refine lv_iconst (v := (1 : Int32)) hx hb dX5_operandsFit_349 ic_1 ?_
                          refine lv_lconst (v := (0 : Int64)) hx hb dX5_operandsFit_350 lc_0 ?_
                          refine lv_ldc2 hx hb hown (hts _ q852) dX5_operandsFit_351 ?_
                          refine g_RV (As := [.int (1 : Int32), .long (0 : Int64), .long (255 : Int64)]) (rest := []) hC (m_X5_isNumber (K := K) (d := d) (1 : Int32) (0 : Int64) (255 : Int64) _ rfl (show ¬ ((1 : Int32) < 0 ∨ 3 ≤ (1 : Int32).toNatClampNeg) by decide)) (cwV 3 hts cw_X5_130 rfl rfl rfl hd_X5_isNumber ⟨Nat.le_of_ble_eq_true rfl, Nat.le_of_ble_eq_true rfl⟩) mKst (va_recv hK hP (ci := 5) (q0 := 0) rfl rfl) hP hKp ⟨Nat.zero_le _, Nat.zero_le _⟩ rfl hl.1 rfl (Nat.le_of_ble_eq_true rfl) dX5_operandsFit_354 ?_
                          refine lv_if_eq (tgt := 364) hx hb dX5_operandsFit_357 (by decide) (fun c_357 => ?_) (fun c_357 => ?_)
                          · replace hr := hr.trans (if_pos c_357)
                            refine lv_iconst (v := (0 : Int32)) hx hb dX5_operandsFit_364 ic_0 ?_
                            exact g_endRz hF hQ hr rfl dX5_operandsFit_365
                          · replace hr := hr.trans (if_neg c_357)
                            refine lv_iconst (v := (1 : Int32)) hx hb dX5_operandsFit_360 ic_1 ?_
                            refine lv_goto (tgt := 365) hx hb dX5_operandsFit_361 (by decide) ?_
                            exact g_endRz hF hQ hr rfl dX5_operandsFit_365
              · replace hr := hr.trans (if_pos c_278)
                refine lv_iload_n hx hb dX5_operandsFit_281 rfl (lv_at hl 3 rfl) ?_
                refine lv_iconst (v := (1 : Int32)) hx hb dX5_operandsFit_282 ic_1 ?_
                refine lv_icmp_ne (tgt := 310) hx hb dX5_operandsFit_283 (by decide) (fun c_283 => ?_) (fun c_283 => ?_)
                · replace hr := hr.trans (if_neg c_283)
                  refine lv_iconst (v := (0 : Int32)) hx hb dX5_operandsFit_310 ic_0 ?_
                  exact g_endRz hF hQ hr rfl dX5_operandsFit_311
                · replace hr := hr.trans (if_pos c_283)
                  refine lv_aload_n hx hb dX5_operandsFit_286 rfl (lv_at hl 4 rfl) ?_
                  refine lv_iconst (v := (1 : Int32)) hx hb dX5_operandsFit_287 ic_1 ?_
                  refine g_RV (As := [.int (1 : Int32)]) (rest := []) hC (m_X5_isEither (K := K) (d := d) (1 : Int32) _ rfl (show ¬ ((1 : Int32) < 0 ∨ 3 ≤ (1 : Int32).toNatClampNeg) by decide)) (cwV 1 hts cw_X5_138 rfl rfl rfl hd_X5_isEither ⟨Nat.le_of_ble_eq_true rfl, Nat.le_of_ble_eq_true rfl⟩) mKst (va_recv hK hP (ci := 5) (q0 := 0) rfl rfl) hP hKp ⟨Nat.zero_le _, Nat.zero_le _⟩ rfl hl.1 rfl (Nat.le_of_ble_eq_true rfl) dX5_operandsFit_288 ?_
                  refine lv_if_eq (tgt := 310) hx hb dX5_operandsFit_291 (by decide) (fun c_291 => ?_) (fun c_291 => ?_)
                  · replace hr := hr.trans (if_pos c_291)
                    refine lv_iconst (v := (0 : Int32)) hx hb dX5_operandsFit_310 ic_0 ?_
                    exact g_endRz hF hQ hr rfl dX5_operandsFit_311
                  · replace hr := hr.trans (if_neg c_291)
                    refine lv_iload_n hx hb dX5_operandsFit_294 rfl (lv_at hl 1 rfl) ?_
                    refine lv_if_ne (tgt := 306) hx hb dX5_operandsFit_295 (by decide) (fun c_295 => ?_) (fun c_295 => ?_)
                    · replace hr := hr.trans (if_neg c_295)
                      refine lv_iconst (v := (1 : Int32)) hx hb dX5_operandsFit_306 ic_1 ?_
                      refine lv_goto (tgt := 311) hx hb dX5_operandsFit_307 (by decide) ?_
                      exact g_endRz hF hQ hr rfl dX5_operandsFit_311
                    · replace hr := hr.trans (if_pos c_295)
                      refine lv_aload_n hx hb dX5_operandsFit_298 rfl (lv_at hl 4 rfl) ?_
                      refine lv_iconst (v := (2 : Int32)) hx hb dX5_operandsFit_299 ic_2 ?_
                      refine g_RV (As := [.int (2 : Int32)]) (rest := []) hC (m_X5_isPlain (K := K) (d := d) (2 : Int32) _ rfl (show ¬ ((2 : Int32) < 0 ∨ 3 ≤ (2 : Int32).toNatClampNeg) by decide)) (cwV 1 hts cw_X5_142 rfl rfl rfl hd_X5_isPlain ⟨Nat.le_of_ble_eq_true rfl, Nat.le_of_ble_eq_true rfl⟩) mKst (va_recv hK hP (ci := 5) (q0 := 0) rfl rfl) hP hKp ⟨Nat.zero_le _, Nat.zero_le _⟩ rfl hl.1 rfl (Nat.le_of_ble_eq_true rfl) dX5_operandsFit_300 ?_
                      refine lv_if_eq (tgt := 310) hx hb dX5_operandsFit_303 (by decide) (fun c_303 => ?_) (fun c_303 => ?_)
                      · replace hr := hr.trans (if_pos c_303)
                        refine lv_iconst (v := (0 : Int32)) hx hb dX5_operandsFit_310 ic_0 ?_
                        exact g_endRz hF hQ hr rfl dX5_operandsFit_311
                      · replace hr := hr.trans (if_neg c_303)
                        refine lv_iconst (v := (1 : Int32)) hx hb dX5_operandsFit_306 ic_1 ?_
                        refine lv_goto (tgt := 311) hx hb dX5_operandsFit_307 (by decide) ?_
                        exact g_endRz hF hQ hr rfl dX5_operandsFit_311
            replace hr := eb9
            refine lv_icmp_lt (tgt := 253) hx hb dX5_operandsFit_232 (by decide) (fun c_232 => ?_) (fun c_232 => ?_)
            · replace hr := hr.trans (if_pos c_232)
              exact kb9T hr
            · replace hr := hr.trans (if_neg c_232)
              refine lv_aload_n hx hb dX5_operandsFit_235 rfl (lv_at hl 4 rfl) ?_
              refine mg_0_30 hx hb hts hown hK hP (hts _ q701) dX5_operandsFit_236 ?_
              refine lv_bipush (v := (30 : Int32)) hx hb dX5_operandsFit_239 bp_30 ?_
              refine lv_icmp_eq (tgt := 253) hx hb dX5_operandsFit_241 (by decide) (fun c_241 => ?_) (fun c_241 => ?_)
              · replace hr := hr.trans (if_pos c_241)
                exact kb9T hr
              · replace hr := hr.trans (if_neg c_241)
                refine lv_aload_n hx hb dX5_operandsFit_244 rfl (lv_at hl 4 rfl) ?_
                refine mg_0_30 hx hb hts hown hK hP (hts _ q701) dX5_operandsFit_245 ?_
                refine lv_bipush (v := (35 : Int32)) hx hb dX5_operandsFit_248 bp_35 ?_
                refine lv_icmp_ne (tgt := 272) hx hb dX5_operandsFit_250 (by decide) (fun c_250 => ?_) (fun c_250 => ?_)
                · replace hr := hr.trans (if_neg c_250)
                  exact kb9F (by rw [hr]; decide)
                · replace hr := hr.trans (if_pos c_250)
                  exact kb9T hr
          replace hr := eb8
          refine lv_icmp_lt (tgt := 203) hx hb dX5_operandsFit_173 (by decide) (fun c_173 => ?_) (fun c_173 => ?_)
          · replace hr := hr.trans (if_pos c_173)
            exact kb8T hr
          · replace hr := hr.trans (if_neg c_173)
            refine lv_aload_n hx hb dX5_operandsFit_176 rfl (lv_at hl 4 rfl) ?_
            refine mg_0_30 hx hb hts hown hK hP (hts _ q701) dX5_operandsFit_177 ?_
            refine lv_bipush (v := (36 : Int32)) hx hb dX5_operandsFit_180 bp_36 ?_
            refine lv_icmp_eq (tgt := 203) hx hb dX5_operandsFit_182 (by decide) (fun c_182 => ?_) (fun c_182 => ?_)
            · replace hr := hr.trans (if_pos c_182)
              exact kb8T hr
            · replace hr := hr.trans (if_neg c_182)
              refine lv_aload_n hx hb dX5_operandsFit_185 rfl (lv_at hl 4 rfl) ?_
              refine mg_0_30 hx hb hts hown hK hP (hts _ q701) dX5_operandsFit_186 ?_
              refine lv_bipush (v := (44 : Int32)) hx hb dX5_operandsFit_189 bp_44 ?_
              refine lv_icmp_eq (tgt := 203) hx hb dX5_operandsFit_191 (by decide) (fun c_191 => ?_) (fun c_191 => ?_)
              · replace hr := hr.trans (if_pos c_191)
                exact kb8T hr
              · replace hr := hr.trans (if_neg c_191)
                refine lv_aload_n hx hb dX5_operandsFit_194 rfl (lv_at hl 4 rfl) ?_
                refine mg_0_30 hx hb hts hown hK hP (hts _ q701) dX5_operandsFit_195 ?_
                refine lv_bipush (v := (45 : Int32)) hx hb dX5_operandsFit_198 bp_45 ?_
                refine lv_icmp_ne (tgt := 226) hx hb dX5_operandsFit_200 (by decide) (fun c_200 => ?_) (fun c_200 => ?_)
                · replace hr := hr.trans (if_neg c_200)
                  exact kb8F (by rw [hr]; decide)
                · replace hr := hr.trans (if_pos c_200)
                  exact kb8T hr
        · replace hr := hr.trans (if_pos c_144)
          refine lv_iload_n hx hb dX5_operandsFit_147 rfl (lv_at hl 1 rfl) ?_
          refine lv_if_eq (tgt := 165) hx hb dX5_operandsFit_148 (by decide) (fun c_148 => ?_) (fun c_148 => ?_)
          · replace hr := hr.trans (if_pos c_148)
            refine lv_iconst (v := (0 : Int32)) hx hb dX5_operandsFit_165 ic_0 ?_
            exact g_endRz hF hQ hr rfl dX5_operandsFit_166
          · replace hr := hr.trans (if_neg c_148)
            refine lv_iload_n hx hb dX5_operandsFit_151 rfl (lv_at hl 3 rfl) ?_
            refine lv_iconst (v := (1 : Int32)) hx hb dX5_operandsFit_152 ic_1 ?_
            refine lv_icmp_ne (tgt := 165) hx hb dX5_operandsFit_153 (by decide) (fun c_153 => ?_) (fun c_153 => ?_)
            · replace hr := hr.trans (if_neg c_153)
              refine lv_iconst (v := (0 : Int32)) hx hb dX5_operandsFit_165 ic_0 ?_
              exact g_endRz hF hQ hr rfl dX5_operandsFit_166
            · replace hr := hr.trans (if_pos c_153)
              refine lv_iload_n hx hb dX5_operandsFit_156 rfl (lv_at hl 2 rfl) ?_
              refine lv_iconst (v := (2 : Int32)) hx hb dX5_operandsFit_157 ic_2 ?_
              refine lv_icmp_ne (tgt := 165) hx hb dX5_operandsFit_158 (by decide) (fun c_158 => ?_) (fun c_158 => ?_)
              · replace hr := hr.trans (if_neg c_158)
                refine lv_iconst (v := (0 : Int32)) hx hb dX5_operandsFit_165 ic_0 ?_
                exact g_endRz hF hQ hr rfl dX5_operandsFit_166
              · replace hr := hr.trans (if_pos c_158)
                refine lv_iconst (v := (1 : Int32)) hx hb dX5_operandsFit_161 ic_1 ?_
                refine lv_goto (tgt := 166) hx hb dX5_operandsFit_162 (by decide) ?_
                exact g_endRz hF hQ hr rfl dX5_operandsFit_166
      replace hr := eb5
      refine lv_icmp_lt (tgt := 71) hx hb dX5_operandsFit_50 (by decide) (fun c_50 => ?_) (fun c_50 => ?_)
      · replace hr := hr.trans (if_pos c_50)
        exact kb5T hr
      · replace hr := hr.trans (if_neg c_50)
        refine lv_aload_n hx hb dX5_operandsFit_53 rfl (lv_at hl 4 rfl) ?_
        refine mg_0_30 hx hb hts hown hK hP (hts _ q701) dX5_operandsFit_54 ?_
        refine lv_bipush (v := (48 : Int32)) hx hb dX5_operandsFit_57 bp_48 ?_
        refine lv_icmp_eq (tgt := 71) hx hb dX5_operandsFit_59 (by decide) (fun c_59 => ?_) (fun c_59 => ?_)
        · replace hr := hr.trans (if_pos c_59)
          exact kb5T hr
        · replace hr := hr.trans (if_neg c_59)
          refine lv_aload_n hx hb dX5_operandsFit_62 rfl (lv_at hl 4 rfl) ?_
          refine mg_0_30 hx hb hts hown hK hP (hts _ q701) dX5_operandsFit_63 ?_
          refine lv_bipush (v := (49 : Int32)) hx hb dX5_operandsFit_66 bp_49 ?_
          refine lv_icmp_ne (tgt := 138) hx hb dX5_operandsFit_68 (by decide) (fun c_68 => ?_) (fun c_68 => ?_)
          · replace hr := hr.trans (if_neg c_68)
            exact kb5F (by rw [hr]; decide)
          · replace hr := hr.trans (if_pos c_68)
            exact kb5T hr
    replace hr := ep4
    refine lv_if_ne (tgt := 41) hx hb dX5_operandsFit_30 (by decide) (fun c_30 => ?_) (fun c_30 => ?_)
    · replace hr := hr.trans (if_neg c_30)
      refine lv_iconst (v := (0 : Int32)) hx hb dX5_operandsFit_41 ic_0 ?_
      subst hr
      exact kp4 ls (lv_sub hl [0, 1, 2, 3] rfl)
    · replace hr := hr.trans (if_pos c_30)
      refine lv_iload_n hx hb dX5_operandsFit_33 rfl (lv_at hl 0 rfl) ?_
      refine lv_if_eq (tgt := 41) hx hb dX5_operandsFit_34 (by decide) (fun c_34 => ?_) (fun c_34 => ?_)
      · replace hr := hr.trans (if_pos c_34)
        refine lv_iconst (v := (0 : Int32)) hx hb dX5_operandsFit_41 ic_0 ?_
        subst hr
        exact kp4 ls (lv_sub hl [0, 1, 2, 3] rfl)
      · replace hr := hr.trans (if_neg c_34)
        refine lv_iconst (v := (1 : Int32)) hx hb dX5_operandsFit_37 ic_1 ?_
        refine lv_goto (tgt := 42) hx hb dX5_operandsFit_38 (by decide) ?_
        subst hr
        exact kp4 ls (lv_sub hl [0, 1, 2, 3] rfl)
  replace hr := ep3
  refine lv_if_ne (tgt := 27) hx hb dX5_operandsFit_20 (by decide) (fun c_20 => ?_) (fun c_20 => ?_)
  · replace hr := hr.trans (if_neg c_20)
    refine lv_iconst (v := (0 : Int32)) hx hb dX5_operandsFit_27 ic_0 ?_
    subst hr
    exact kp3 ls (lv_sub hl [0, 1, 2] rfl)
  · replace hr := hr.trans (if_pos c_20)
    refine lv_iconst (v := (1 : Int32)) hx hb dX5_operandsFit_23 ic_1 ?_
    refine lv_goto (tgt := 28) hx hb dX5_operandsFit_24 (by decide) ?_
    subst hr
    exact kp3 ls (lv_sub hl [0, 1, 2] rfl)
def m_sizeFits (K : MK) : Bool := bnd (α := Bool) (if (km_width K) = (1 : Int32) then true else (if (km_width K) = (4 : Int32) then true else (if (km_width K) = (8 : Int32) then true else false))) fun p1 => bnd (α := Bool) (if (km_width K) = (4 : Int32) then true else (if (km_width K) = (8 : Int32) then true else false)) fun p2 => bnd (α := Bool) (if (km_op K) = (14 : Int32) then true else (if (km_op K) = (29 : Int32) then true else (if (km_op K) = (30 : Int32) then true else false))) fun b3 => if b3 = true then (if (km_width K) = (8 : Int32) then true else false) else (if (km_op K) = (35 : Int32) then (if (km_width K) = (1 : Int32) then true else false) else (bnd (α := Bool) (if (km_op K) ≤ (30 : Int32) then (if (km_op K) ≤ (38 : Int32) then false else (if (44 : Int32) ≤ (km_op K) then false else true)) else (if (km_op K) < (35 : Int32) then true else (if (km_op K) ≤ (38 : Int32) then false else (if (44 : Int32) ≤ (km_op K) then false else true)))) fun b4 => if b4 = true then (if (km_width K) = 0 then true else false) else (bnd (α := Bool) (if (km_op K) < (11 : Int32) then true else (if (km_op K) ≤ (14 : Int32) then (if (km_op K) ≤ (23 : Int32) then (if (km_op K) = (48 : Int32) then true else (if (km_op K) = (49 : Int32) then true else (if (km_op K) ≤ (49 : Int32) then false else true))) else (if (km_op K) < (29 : Int32) then true else (if (km_op K) = (48 : Int32) then true else (if (km_op K) = (49 : Int32) then true else (if (km_op K) ≤ (49 : Int32) then false else true))))) else (if (km_op K) < (23 : Int32) then true else (if (km_op K) ≤ (23 : Int32) then (if (km_op K) = (48 : Int32) then true else (if (km_op K) = (49 : Int32) then true else (if (km_op K) ≤ (49 : Int32) then false else true))) else (if (km_op K) < (29 : Int32) then true else (if (km_op K) = (48 : Int32) then true else (if (km_op K) = (49 : Int32) then true else (if (km_op K) ≤ (49 : Int32) then false else true)))))))) fun p5 => if (b2i p5) = 0 then p2 else p1)))
abbrev rm_X5_sizeFits : Room := { frames := 0, cells := 0, slots := 0, locals := 0 }
set_option maxHeartbeats 4000000 in
set_option maxRecDepth 100000 in
theorem m_X5_sizeFits {l : Launch} {D : va_G} {ad : Nat → Nat} {ca : Nat → ClassId} {K : MK} {d : MD} (RES : Bool) (hr : RES = m_sizeFits K) : g_R l yX5_sizeFits (ws_ yX5_sizeFits cX5_sizeFits 4 (some .boolean)) rm_X5_sizeFits [.ref (ad 0)] (mKp D ca) (mB D ad ca K d) (.int (b2i RES)) := by
  refine g_ofR (by decide) (Nat.le_of_ble_eq_true rfl) ?_
  intro p e s m args below meth c ls Q hF hB hKp hl hQ
  obtain ⟨hx, hb, -, -, hml, hown, hts⟩ := id hF
  have hown : s.vm.findClass RX5 = some m.cls := hown
  have hC : CallFix p m c cX5_sizeFits 4 s args lw_all RX5 := ⟨hx, hb, hml, hown, hts⟩
  have hK : va_K D xcl (mtys ca) s := hKp
  have hP : va_P D xcl (MW ad ca K d) s.heap := hB
  have hl : lv_has ls 4 [(0, .ref (ad 0))] := hl
  unfold m_sizeFits at hr
  refine lv_aload_n hx hb dX5_sizeFits_0 rfl (lv_at hl 0 rfl) ?_
  refine mg_0_31 hx hb hts hown hK hP (hts _ q702) dX5_sizeFits_1 ?_
  refine lv_iconst (v := (1 : Int32)) hx hb dX5_sizeFits_4 ic_1 ?_
  obtain ⟨p1, ep1⟩ : ∃ z : Bool, z = (if (km_width K) = (1 : Int32) then true else (if (km_width K) = (4 : Int32) then true else (if (km_width K) = (8 : Int32) then true else false))) := ⟨_, rfl⟩
  replace hr := hr.trans (bnd_eq ep1)
  have kp1 : ∀ (ls : Array Slot), lv_has ls 4 [(0, .ref (ad 0))] → W p l e rm_X5_sizeFits s m args below meth c s.heap [] 0 0 Q (F0 m 30 ls [.int (b2i p1)]) := by
    intro ls hl
    refine lv_istore_n (lv' := [(1, .int (b2i p1)), (0, .ref (ad 0))]) hx hb dX5_sizeFits_30 rfl hl (by decide) rfl (fun ls hl => ?_)
    refine lv_aload_n hx hb dX5_sizeFits_31 rfl (lv_at hl 1 rfl) ?_
    refine mg_0_31 hx hb hts hown hK hP (hts _ q702) dX5_sizeFits_32 ?_
    refine lv_iconst (v := (4 : Int32)) hx hb dX5_sizeFits_35 ic_4 ?_
    obtain ⟨p2, ep2⟩ : ∃ z : Bool, z = (if (km_width K) = (4 : Int32) then true else (if (km_width K) = (8 : Int32) then true else false)) := ⟨_, rfl⟩
    replace hr := hr.trans (bnd_eq ep2)
    have kp2 : ∀ (ls : Array Slot), lv_has ls 4 [(1, .int (b2i p1)), (0, .ref (ad 0))] → W p l e rm_X5_sizeFits s m args below meth c s.heap [] 0 0 Q (F0 m 53 ls [.int (b2i p2)]) := by
      intro ls hl
      refine lv_istore_n (lv' := [(2, .int (b2i p2)), (1, .int (b2i p1)), (0, .ref (ad 0))]) hx hb dX5_sizeFits_53 rfl hl (by decide) rfl (fun ls hl => ?_)
      refine lv_aload_n hx hb dX5_sizeFits_54 rfl (lv_at hl 2 rfl) ?_
      refine mg_0_30 hx hb hts hown hK hP (hts _ q701) dX5_sizeFits_55 ?_
      refine lv_bipush (v := (14 : Int32)) hx hb dX5_sizeFits_58 bp_14 ?_
      obtain ⟨b3, eb3⟩ : ∃ z : Bool, z = (if (km_op K) = (14 : Int32) then true else (if (km_op K) = (29 : Int32) then true else (if (km_op K) = (30 : Int32) then true else false))) := ⟨_, rfl⟩
      replace hr := hr.trans (bnd_eq eb3)
      have kb3T : b3 = true → W p l e rm_X5_sizeFits s m args below meth c s.heap [] 0 0 Q (F0 m 81 ls []) := by
        intro hb3
        replace hr := hr.trans (if_pos hb3)
        refine lv_aload_n hx hb dX5_sizeFits_81 rfl (lv_at hl 2 rfl) ?_
        refine mg_0_31 hx hb hts hown hK hP (hts _ q702) dX5_sizeFits_82 ?_
        refine lv_bipush (v := (8 : Int32)) hx hb dX5_sizeFits_85 bp_8 ?_
        refine lv_icmp_ne (tgt := 94) hx hb dX5_sizeFits_87 (by decide) (fun c_87 => ?_) (fun c_87 => ?_)
        · replace hr := hr.trans (if_neg c_87)
          refine lv_iconst (v := (0 : Int32)) hx hb dX5_sizeFits_94 ic_0 ?_
          exact g_endRz hF hQ hr rfl dX5_sizeFits_95
        · replace hr := hr.trans (if_pos c_87)
          refine lv_iconst (v := (1 : Int32)) hx hb dX5_sizeFits_90 ic_1 ?_
          refine lv_goto (tgt := 95) hx hb dX5_sizeFits_91 (by decide) ?_
          exact g_endRz hF hQ hr rfl dX5_sizeFits_95
      have kb3F : ¬ b3 = true → W p l e rm_X5_sizeFits s m args below meth c s.heap [] 0 0 Q (F0 m 96 ls []) := by
        intro hb3
        replace hr := hr.trans (if_neg hb3)
        have er := eb3
        have hf := Bool.eq_false_iff.mpr hb3
        have c_60 : ¬ ((km_op K) = (14 : Int32)) := fun q => absurd (hf.symm.trans (er.trans (if_pos q))) (by decide)
        have er := er.trans (if_neg c_60)
        have c_69 : ¬ ((km_op K) = (29 : Int32)) := fun q => absurd (hf.symm.trans (er.trans (if_pos q))) (by decide)
        have er := er.trans (if_neg c_69)
        have c_78 : ¬ ((km_op K) = (30 : Int32)) := fun q => absurd (hf.symm.trans (er.trans (if_pos q))) (by decide)
        have er := er.trans (if_neg c_78)
        clear er
        refine lv_aload_n hx hb dX5_sizeFits_96 rfl (lv_at hl 2 rfl) ?_
        refine mg_0_30 hx hb hts hown hK hP (hts _ q701) dX5_sizeFits_97 ?_
        refine lv_bipush (v := (35 : Int32)) hx hb dX5_sizeFits_100 bp_35 ?_
        refine lv_icmp_ne (tgt := 119) hx hb dX5_sizeFits_102 (by decide) (fun c_102 => ?_) (fun c_102 => ?_)
        · replace hr := hr.trans (if_neg c_102)
          refine lv_aload_n hx hb dX5_sizeFits_119 rfl (lv_at hl 2 rfl) ?_
          refine mg_0_30 hx hb hts hown hK hP (hts _ q701) dX5_sizeFits_120 ?_
          refine lv_bipush (v := (30 : Int32)) hx hb dX5_sizeFits_123 bp_30 ?_
          obtain ⟨b4, eb4⟩ : ∃ z : Bool, z = (if (km_op K) ≤ (30 : Int32) then (if (km_op K) ≤ (38 : Int32) then false else (if (44 : Int32) ≤ (km_op K) then false else true)) else (if (km_op K) < (35 : Int32) then true else (if (km_op K) ≤ (38 : Int32) then false else (if (44 : Int32) ≤ (km_op K) then false else true)))) := ⟨_, rfl⟩
          replace hr := hr.trans (bnd_eq eb4)
          have kb4T : b4 = true → W p l e rm_X5_sizeFits s m args below meth c s.heap [] 0 0 Q (F0 m 155 ls []) := by
            intro hb4
            replace hr := hr.trans (if_pos hb4)
            refine lv_aload_n hx hb dX5_sizeFits_155 rfl (lv_at hl 2 rfl) ?_
            refine mg_0_31 hx hb hts hown hK hP (hts _ q702) dX5_sizeFits_156 ?_
            refine lv_if_ne (tgt := 166) hx hb dX5_sizeFits_159 (by decide) (fun c_159 => ?_) (fun c_159 => ?_)
            · replace hr := hr.trans (if_neg c_159)
              refine lv_iconst (v := (0 : Int32)) hx hb dX5_sizeFits_166 ic_0 ?_
              exact g_endRz hF hQ hr rfl dX5_sizeFits_167
            · replace hr := hr.trans (if_pos c_159)
              refine lv_iconst (v := (1 : Int32)) hx hb dX5_sizeFits_162 ic_1 ?_
              refine lv_goto (tgt := 167) hx hb dX5_sizeFits_163 (by decide) ?_
              exact g_endRz hF hQ hr rfl dX5_sizeFits_167
          have kb4F : ¬ b4 = true → W p l e rm_X5_sizeFits s m args below meth c s.heap [] 0 0 Q (F0 m 168 ls []) := by
            intro hb4
            replace hr := hr.trans (if_neg hb4)
            refine lv_aload_n hx hb dX5_sizeFits_168 rfl (lv_at hl 2 rfl) ?_
            refine mg_0_30 hx hb hts hown hK hP (hts _ q701) dX5_sizeFits_169 ?_
            refine lv_bipush (v := (11 : Int32)) hx hb dX5_sizeFits_172 bp_11 ?_
            obtain ⟨p5, ep5⟩ : ∃ z : Bool, z = (if (km_op K) < (11 : Int32) then true else (if (km_op K) ≤ (14 : Int32) then (if (km_op K) ≤ (23 : Int32) then (if (km_op K) = (48 : Int32) then true else (if (km_op K) = (49 : Int32) then true else (if (km_op K) ≤ (49 : Int32) then false else true))) else (if (km_op K) < (29 : Int32) then true else (if (km_op K) = (48 : Int32) then true else (if (km_op K) = (49 : Int32) then true else (if (km_op K) ≤ (49 : Int32) then false else true))))) else (if (km_op K) < (23 : Int32) then true else (if (km_op K) ≤ (23 : Int32) then (if (km_op K) = (48 : Int32) then true else (if (km_op K) = (49 : Int32) then true else (if (km_op K) ≤ (49 : Int32) then false else true))) else (if (km_op K) < (29 : Int32) then true else (if (km_op K) = (48 : Int32) then true else (if (km_op K) = (49 : Int32) then true else (if (km_op K) ≤ (49 : Int32) then false else true)))))))) := ⟨_, rfl⟩
            replace hr := hr.trans (bnd_eq ep5)
            have kp5 : ∀ (ls : Array Slot), lv_has ls 4 [(2, .int (b2i p2)), (1, .int (b2i p1)), (0, .ref (ad 0))] → W p l e rm_X5_sizeFits s m args below meth c s.heap [] 0 0 Q (F0 m 245 ls [.int (b2i p5)]) := by
              intro ls hl
              refine lv_istore_n (lv' := [(3, .int (b2i p5)), (2, .int (b2i p2)), (1, .int (b2i p1)), (0, .ref (ad 0))]) hx hb dX5_sizeFits_245 rfl hl (by decide) rfl (fun ls hl => ?_)
              refine lv_iload_n hx hb dX5_sizeFits_246 rfl (lv_at hl 0 rfl) ?_
              refine lv_if_eq (tgt := 254) hx hb dX5_sizeFits_247 (by decide) (fun c_247 => ?_) (fun c_247 => ?_)
              · replace hr := hr.trans (if_pos c_247)
                refine lv_iload_n hx hb dX5_sizeFits_254 rfl (lv_at hl 1 rfl) ?_
                exact g_endRz hF hQ hr rfl dX5_sizeFits_255
              · replace hr := hr.trans (if_neg c_247)
                refine lv_iload_n hx hb dX5_sizeFits_250 rfl (lv_at hl 2 rfl) ?_
                refine lv_goto (tgt := 255) hx hb dX5_sizeFits_251 (by decide) ?_
                exact g_endRz hF hQ hr rfl dX5_sizeFits_255
            replace hr := ep5
            refine lv_icmp_lt (tgt := 240) hx hb dX5_sizeFits_174 (by decide) (fun c_174 => ?_) (fun c_174 => ?_)
            · replace hr := hr.trans (if_pos c_174)
              refine lv_iconst (v := (1 : Int32)) hx hb dX5_sizeFits_240 ic_1 ?_
              refine lv_goto (tgt := 245) hx hb dX5_sizeFits_241 (by decide) ?_
              subst hr
              exact kp5 ls (lv_sub hl [0, 1, 2] rfl)
            · replace hr := hr.trans (if_neg c_174)
              refine lv_aload_n hx hb dX5_sizeFits_177 rfl (lv_at hl 2 rfl) ?_
              refine mg_0_30 hx hb hts hown hK hP (hts _ q701) dX5_sizeFits_178 ?_
              refine lv_bipush (v := (14 : Int32)) hx hb dX5_sizeFits_181 bp_14 ?_
              refine lv_icmp_le (tgt := 195) hx hb dX5_sizeFits_183 (by decide) (fun c_183 => ?_) (fun c_183 => ?_)
              · replace hr := hr.trans (if_pos c_183)
                refine lv_aload_n hx hb dX5_sizeFits_195 rfl (lv_at hl 2 rfl) ?_
                refine mg_0_30 hx hb hts hown hK hP (hts _ q701) dX5_sizeFits_196 ?_
                refine lv_bipush (v := (23 : Int32)) hx hb dX5_sizeFits_199 bp_23 ?_
                refine lv_icmp_le (tgt := 213) hx hb dX5_sizeFits_201 (by decide) (fun c_201 => ?_) (fun c_201 => ?_)
                · replace hr := hr.trans (if_pos c_201)
                  refine lv_aload_n hx hb dX5_sizeFits_213 rfl (lv_at hl 2 rfl) ?_
                  refine mg_0_30 hx hb hts hown hK hP (hts _ q701) dX5_sizeFits_214 ?_
                  refine lv_bipush (v := (48 : Int32)) hx hb dX5_sizeFits_217 bp_48 ?_
                  refine lv_icmp_eq (tgt := 240) hx hb dX5_sizeFits_219 (by decide) (fun c_219 => ?_) (fun c_219 => ?_)
                  · replace hr := hr.trans (if_pos c_219)
                    refine lv_iconst (v := (1 : Int32)) hx hb dX5_sizeFits_240 ic_1 ?_
                    refine lv_goto (tgt := 245) hx hb dX5_sizeFits_241 (by decide) ?_
                    subst hr
                    exact kp5 ls (lv_sub hl [0, 1, 2] rfl)
                  · replace hr := hr.trans (if_neg c_219)
                    refine lv_aload_n hx hb dX5_sizeFits_222 rfl (lv_at hl 2 rfl) ?_
                    refine mg_0_30 hx hb hts hown hK hP (hts _ q701) dX5_sizeFits_223 ?_
                    refine lv_bipush (v := (49 : Int32)) hx hb dX5_sizeFits_226 bp_49 ?_
                    refine lv_icmp_eq (tgt := 240) hx hb dX5_sizeFits_228 (by decide) (fun c_228 => ?_) (fun c_228 => ?_)
                    · replace hr := hr.trans (if_pos c_228)
                      refine lv_iconst (v := (1 : Int32)) hx hb dX5_sizeFits_240 ic_1 ?_
                      refine lv_goto (tgt := 245) hx hb dX5_sizeFits_241 (by decide) ?_
                      subst hr
                      exact kp5 ls (lv_sub hl [0, 1, 2] rfl)
                    · replace hr := hr.trans (if_neg c_228)
                      refine lv_aload_n hx hb dX5_sizeFits_231 rfl (lv_at hl 2 rfl) ?_
                      refine mg_0_30 hx hb hts hown hK hP (hts _ q701) dX5_sizeFits_232 ?_
                      refine lv_bipush (v := (49 : Int32)) hx hb dX5_sizeFits_235 bp_49 ?_
                      refine lv_icmp_le (tgt := 244) hx hb dX5_sizeFits_237 (by decide) (fun c_237 => ?_) (fun c_237 => ?_)
                      · replace hr := hr.trans (if_pos c_237)
                        refine lv_iconst (v := (0 : Int32)) hx hb dX5_sizeFits_244 ic_0 ?_
                        subst hr
                        exact kp5 ls (lv_sub hl [0, 1, 2] rfl)
                      · replace hr := hr.trans (if_neg c_237)
                        refine lv_iconst (v := (1 : Int32)) hx hb dX5_sizeFits_240 ic_1 ?_
                        refine lv_goto (tgt := 245) hx hb dX5_sizeFits_241 (by decide) ?_
                        subst hr
                        exact kp5 ls (lv_sub hl [0, 1, 2] rfl)
                · replace hr := hr.trans (if_neg c_201)
                  refine lv_aload_n hx hb dX5_sizeFits_204 rfl (lv_at hl 2 rfl) ?_
                  refine mg_0_30 hx hb hts hown hK hP (hts _ q701) dX5_sizeFits_205 ?_
                  refine lv_bipush (v := (29 : Int32)) hx hb dX5_sizeFits_208 bp_29 ?_
                  refine lv_icmp_lt (tgt := 240) hx hb dX5_sizeFits_210 (by decide) (fun c_210 => ?_) (fun c_210 => ?_)
                  · replace hr := hr.trans (if_pos c_210)
                    refine lv_iconst (v := (1 : Int32)) hx hb dX5_sizeFits_240 ic_1 ?_
                    refine lv_goto (tgt := 245) hx hb dX5_sizeFits_241 (by decide) ?_
                    subst hr
                    exact kp5 ls (lv_sub hl [0, 1, 2] rfl)
                  · replace hr := hr.trans (if_neg c_210)
                    refine lv_aload_n hx hb dX5_sizeFits_213 rfl (lv_at hl 2 rfl) ?_
                    refine mg_0_30 hx hb hts hown hK hP (hts _ q701) dX5_sizeFits_214 ?_
                    refine lv_bipush (v := (48 : Int32)) hx hb dX5_sizeFits_217 bp_48 ?_
                    refine lv_icmp_eq (tgt := 240) hx hb dX5_sizeFits_219 (by decide) (fun c_219 => ?_) (fun c_219 => ?_)
                    · replace hr := hr.trans (if_pos c_219)
                      refine lv_iconst (v := (1 : Int32)) hx hb dX5_sizeFits_240 ic_1 ?_
                      refine lv_goto (tgt := 245) hx hb dX5_sizeFits_241 (by decide) ?_
                      subst hr
                      exact kp5 ls (lv_sub hl [0, 1, 2] rfl)
                    · replace hr := hr.trans (if_neg c_219)
                      refine lv_aload_n hx hb dX5_sizeFits_222 rfl (lv_at hl 2 rfl) ?_
                      refine mg_0_30 hx hb hts hown hK hP (hts _ q701) dX5_sizeFits_223 ?_
                      refine lv_bipush (v := (49 : Int32)) hx hb dX5_sizeFits_226 bp_49 ?_
                      refine lv_icmp_eq (tgt := 240) hx hb dX5_sizeFits_228 (by decide) (fun c_228 => ?_) (fun c_228 => ?_)
                      · replace hr := hr.trans (if_pos c_228)
                        refine lv_iconst (v := (1 : Int32)) hx hb dX5_sizeFits_240 ic_1 ?_
                        refine lv_goto (tgt := 245) hx hb dX5_sizeFits_241 (by decide) ?_
                        subst hr
                        exact kp5 ls (lv_sub hl [0, 1, 2] rfl)
                      · replace hr := hr.trans (if_neg c_228)
                        refine lv_aload_n hx hb dX5_sizeFits_231 rfl (lv_at hl 2 rfl) ?_
                        refine mg_0_30 hx hb hts hown hK hP (hts _ q701) dX5_sizeFits_232 ?_
                        refine lv_bipush (v := (49 : Int32)) hx hb dX5_sizeFits_235 bp_49 ?_
                        refine lv_icmp_le (tgt := 244) hx hb dX5_sizeFits_237 (by decide) (fun c_237 => ?_) (fun c_237 => ?_)
                        · replace hr := hr.trans (if_pos c_237)
                          refine lv_iconst (v := (0 : Int32)) hx hb dX5_sizeFits_244 ic_0 ?_
                          subst hr
                          exact kp5 ls (lv_sub hl [0, 1, 2] rfl)
                        · replace hr := hr.trans (if_neg c_237)
                          refine lv_iconst (v := (1 : Int32)) hx hb dX5_sizeFits_240 ic_1 ?_
                          refine lv_goto (tgt := 245) hx hb dX5_sizeFits_241 (by decide) ?_
                          subst hr
                          exact kp5 ls (lv_sub hl [0, 1, 2] rfl)
              · replace hr := hr.trans (if_neg c_183)
                refine lv_aload_n hx hb dX5_sizeFits_186 rfl (lv_at hl 2 rfl) ?_
                refine mg_0_30 hx hb hts hown hK hP (hts _ q701) dX5_sizeFits_187 ?_
                refine lv_bipush (v := (23 : Int32)) hx hb dX5_sizeFits_190 bp_23 ?_
                refine lv_icmp_lt (tgt := 240) hx hb dX5_sizeFits_192 (by decide) (fun c_192 => ?_) (fun c_192 => ?_)
                · replace hr := hr.trans (if_pos c_192)
                  refine lv_iconst (v := (1 : Int32)) hx hb dX5_sizeFits_240 ic_1 ?_
                  refine lv_goto (tgt := 245) hx hb dX5_sizeFits_241 (by decide) ?_
                  subst hr
                  exact kp5 ls (lv_sub hl [0, 1, 2] rfl)
                · replace hr := hr.trans (if_neg c_192)
                  refine lv_aload_n hx hb dX5_sizeFits_195 rfl (lv_at hl 2 rfl) ?_
                  refine mg_0_30 hx hb hts hown hK hP (hts _ q701) dX5_sizeFits_196 ?_
                  refine lv_bipush (v := (23 : Int32)) hx hb dX5_sizeFits_199 bp_23 ?_
                  refine lv_icmp_le (tgt := 213) hx hb dX5_sizeFits_201 (by decide) (fun c_201 => ?_) (fun c_201 => ?_)
                  · replace hr := hr.trans (if_pos c_201)
                    refine lv_aload_n hx hb dX5_sizeFits_213 rfl (lv_at hl 2 rfl) ?_
                    refine mg_0_30 hx hb hts hown hK hP (hts _ q701) dX5_sizeFits_214 ?_
                    refine lv_bipush (v := (48 : Int32)) hx hb dX5_sizeFits_217 bp_48 ?_
                    refine lv_icmp_eq (tgt := 240) hx hb dX5_sizeFits_219 (by decide) (fun c_219 => ?_) (fun c_219 => ?_)
                    · replace hr := hr.trans (if_pos c_219)
                      refine lv_iconst (v := (1 : Int32)) hx hb dX5_sizeFits_240 ic_1 ?_
                      refine lv_goto (tgt := 245) hx hb dX5_sizeFits_241 (by decide) ?_
                      subst hr
                      exact kp5 ls (lv_sub hl [0, 1, 2] rfl)
                    · replace hr := hr.trans (if_neg c_219)
                      refine lv_aload_n hx hb dX5_sizeFits_222 rfl (lv_at hl 2 rfl) ?_
                      refine mg_0_30 hx hb hts hown hK hP (hts _ q701) dX5_sizeFits_223 ?_
                      refine lv_bipush (v := (49 : Int32)) hx hb dX5_sizeFits_226 bp_49 ?_
                      refine lv_icmp_eq (tgt := 240) hx hb dX5_sizeFits_228 (by decide) (fun c_228 => ?_) (fun c_228 => ?_)
                      · replace hr := hr.trans (if_pos c_228)
                        refine lv_iconst (v := (1 : Int32)) hx hb dX5_sizeFits_240 ic_1 ?_
                        refine lv_goto (tgt := 245) hx hb dX5_sizeFits_241 (by decide) ?_
                        subst hr
                        exact kp5 ls (lv_sub hl [0, 1, 2] rfl)
                      · replace hr := hr.trans (if_neg c_228)
                        refine lv_aload_n hx hb dX5_sizeFits_231 rfl (lv_at hl 2 rfl) ?_
                        refine mg_0_30 hx hb hts hown hK hP (hts _ q701) dX5_sizeFits_232 ?_
                        refine lv_bipush (v := (49 : Int32)) hx hb dX5_sizeFits_235 bp_49 ?_
                        refine lv_icmp_le (tgt := 244) hx hb dX5_sizeFits_237 (by decide) (fun c_237 => ?_) (fun c_237 => ?_)
                        · replace hr := hr.trans (if_pos c_237)
                          refine lv_iconst (v := (0 : Int32)) hx hb dX5_sizeFits_244 ic_0 ?_
                          subst hr
                          exact kp5 ls (lv_sub hl [0, 1, 2] rfl)
                        · replace hr := hr.trans (if_neg c_237)
                          refine lv_iconst (v := (1 : Int32)) hx hb dX5_sizeFits_240 ic_1 ?_
                          refine lv_goto (tgt := 245) hx hb dX5_sizeFits_241 (by decide) ?_
                          subst hr
                          exact kp5 ls (lv_sub hl [0, 1, 2] rfl)
                  · replace hr := hr.trans (if_neg c_201)
                    refine lv_aload_n hx hb dX5_sizeFits_204 rfl (lv_at hl 2 rfl) ?_
                    refine mg_0_30 hx hb hts hown hK hP (hts _ q701) dX5_sizeFits_205 ?_
                    refine lv_bipush (v := (29 : Int32)) hx hb dX5_sizeFits_208 bp_29 ?_
                    refine lv_icmp_lt (tgt := 240) hx hb dX5_sizeFits_210 (by decide) (fun c_210 => ?_) (fun c_210 => ?_)
                    · replace hr := hr.trans (if_pos c_210)
                      refine lv_iconst (v := (1 : Int32)) hx hb dX5_sizeFits_240 ic_1 ?_
                      refine lv_goto (tgt := 245) hx hb dX5_sizeFits_241 (by decide) ?_
                      subst hr
                      exact kp5 ls (lv_sub hl [0, 1, 2] rfl)
                    · replace hr := hr.trans (if_neg c_210)
                      refine lv_aload_n hx hb dX5_sizeFits_213 rfl (lv_at hl 2 rfl) ?_
                      refine mg_0_30 hx hb hts hown hK hP (hts _ q701) dX5_sizeFits_214 ?_
                      refine lv_bipush (v := (48 : Int32)) hx hb dX5_sizeFits_217 bp_48 ?_
                      refine lv_icmp_eq (tgt := 240) hx hb dX5_sizeFits_219 (by decide) (fun c_219 => ?_) (fun c_219 => ?_)
                      · replace hr := hr.trans (if_pos c_219)
                        refine lv_iconst (v := (1 : Int32)) hx hb dX5_sizeFits_240 ic_1 ?_
                        refine lv_goto (tgt := 245) hx hb dX5_sizeFits_241 (by decide) ?_
                        subst hr
                        exact kp5 ls (lv_sub hl [0, 1, 2] rfl)
                      · replace hr := hr.trans (if_neg c_219)
                        refine lv_aload_n hx hb dX5_sizeFits_222 rfl (lv_at hl 2 rfl) ?_
                        refine mg_0_30 hx hb hts hown hK hP (hts _ q701) dX5_sizeFits_223 ?_
                        refine lv_bipush (v := (49 : Int32)) hx hb dX5_sizeFits_226 bp_49 ?_
                        refine lv_icmp_eq (tgt := 240) hx hb dX5_sizeFits_228 (by decide) (fun c_228 => ?_) (fun c_228 => ?_)
                        · replace hr := hr.trans (if_pos c_228)
                          refine lv_iconst (v := (1 : Int32)) hx hb dX5_sizeFits_240 ic_1 ?_
                          refine lv_goto (tgt := 245) hx hb dX5_sizeFits_241 (by decide) ?_
                          subst hr
                          exact kp5 ls (lv_sub hl [0, 1, 2] rfl)
                        · replace hr := hr.trans (if_neg c_228)
                          refine lv_aload_n hx hb dX5_sizeFits_231 rfl (lv_at hl 2 rfl) ?_
                          refine mg_0_30 hx hb hts hown hK hP (hts _ q701) dX5_sizeFits_232 ?_
                          refine lv_bipush (v := (49 : Int32)) hx hb dX5_sizeFits_235 bp_49 ?_
                          refine lv_icmp_le (tgt := 244) hx hb dX5_sizeFits_237 (by decide) (fun c_237 => ?_) (fun c_237 => ?_)
                          · replace hr := hr.trans (if_pos c_237)
                            refine lv_iconst (v := (0 : Int32)) hx hb dX5_sizeFits_244 ic_0 ?_
                            subst hr
                            exact kp5 ls (lv_sub hl [0, 1, 2] rfl)
                          · replace hr := hr.trans (if_neg c_237)
                            refine lv_iconst (v := (1 : Int32)) hx hb dX5_sizeFits_240 ic_1 ?_
                            refine lv_goto (tgt := 245) hx hb dX5_sizeFits_241 (by decide) ?_
                            subst hr
                            exact kp5 ls (lv_sub hl [0, 1, 2] rfl)
          replace hr := eb4
          refine lv_icmp_le (tgt := 137) hx hb dX5_sizeFits_125 (by decide) (fun c_125 => ?_) (fun c_125 => ?_)
          · replace hr := hr.trans (if_pos c_125)
            refine lv_aload_n hx hb dX5_sizeFits_137 rfl (lv_at hl 2 rfl) ?_
            refine mg_0_30 hx hb hts hown hK hP (hts _ q701) dX5_sizeFits_138 ?_
            refine lv_bipush (v := (38 : Int32)) hx hb dX5_sizeFits_141 bp_38 ?_
            refine lv_icmp_le (tgt := 168) hx hb dX5_sizeFits_143 (by decide) (fun c_143 => ?_) (fun c_143 => ?_)
            · replace hr := hr.trans (if_pos c_143)
              exact kb4F (by rw [hr]; decide)
            · replace hr := hr.trans (if_neg c_143)
              refine lv_aload_n hx hb dX5_sizeFits_146 rfl (lv_at hl 2 rfl) ?_
              refine mg_0_30 hx hb hts hown hK hP (hts _ q701) dX5_sizeFits_147 ?_
              refine lv_bipush (v := (44 : Int32)) hx hb dX5_sizeFits_150 bp_44 ?_
              refine lv_icmp_ge (tgt := 168) hx hb dX5_sizeFits_152 (by decide) (fun c_152 => ?_) (fun c_152 => ?_)
              · replace hr := hr.trans (if_pos c_152)
                exact kb4F (by rw [hr]; decide)
              · replace hr := hr.trans (if_neg c_152)
                exact kb4T hr
          · replace hr := hr.trans (if_neg c_125)
            refine lv_aload_n hx hb dX5_sizeFits_128 rfl (lv_at hl 2 rfl) ?_
            refine mg_0_30 hx hb hts hown hK hP (hts _ q701) dX5_sizeFits_129 ?_
            refine lv_bipush (v := (35 : Int32)) hx hb dX5_sizeFits_132 bp_35 ?_
            refine lv_icmp_lt (tgt := 155) hx hb dX5_sizeFits_134 (by decide) (fun c_134 => ?_) (fun c_134 => ?_)
            · replace hr := hr.trans (if_pos c_134)
              exact kb4T hr
            · replace hr := hr.trans (if_neg c_134)
              refine lv_aload_n hx hb dX5_sizeFits_137 rfl (lv_at hl 2 rfl) ?_
              refine mg_0_30 hx hb hts hown hK hP (hts _ q701) dX5_sizeFits_138 ?_
              refine lv_bipush (v := (38 : Int32)) hx hb dX5_sizeFits_141 bp_38 ?_
              refine lv_icmp_le (tgt := 168) hx hb dX5_sizeFits_143 (by decide) (fun c_143 => ?_) (fun c_143 => ?_)
              · replace hr := hr.trans (if_pos c_143)
                exact kb4F (by rw [hr]; decide)
              · replace hr := hr.trans (if_neg c_143)
                refine lv_aload_n hx hb dX5_sizeFits_146 rfl (lv_at hl 2 rfl) ?_
                refine mg_0_30 hx hb hts hown hK hP (hts _ q701) dX5_sizeFits_147 ?_
                refine lv_bipush (v := (44 : Int32)) hx hb dX5_sizeFits_150 bp_44 ?_
                refine lv_icmp_ge (tgt := 168) hx hb dX5_sizeFits_152 (by decide) (fun c_152 => ?_) (fun c_152 => ?_)
                · replace hr := hr.trans (if_pos c_152)
                  exact kb4F (by rw [hr]; decide)
                · replace hr := hr.trans (if_neg c_152)
                  exact kb4T hr
        · replace hr := hr.trans (if_pos c_102)
          refine lv_aload_n hx hb dX5_sizeFits_105 rfl (lv_at hl 2 rfl) ?_
          refine mg_0_31 hx hb hts hown hK hP (hts _ q702) dX5_sizeFits_106 ?_
          refine lv_iconst (v := (1 : Int32)) hx hb dX5_sizeFits_109 ic_1 ?_
          refine lv_icmp_ne (tgt := 117) hx hb dX5_sizeFits_110 (by decide) (fun c_110 => ?_) (fun c_110 => ?_)
          · replace hr := hr.trans (if_neg c_110)
            refine lv_iconst (v := (0 : Int32)) hx hb dX5_sizeFits_117 ic_0 ?_
            exact g_endRz hF hQ hr rfl dX5_sizeFits_118
          · replace hr := hr.trans (if_pos c_110)
            refine lv_iconst (v := (1 : Int32)) hx hb dX5_sizeFits_113 ic_1 ?_
            refine lv_goto (tgt := 118) hx hb dX5_sizeFits_114 (by decide) ?_
            exact g_endRz hF hQ hr rfl dX5_sizeFits_118
      replace hr := eb3
      refine lv_icmp_eq (tgt := 81) hx hb dX5_sizeFits_60 (by decide) (fun c_60 => ?_) (fun c_60 => ?_)
      · replace hr := hr.trans (if_pos c_60)
        exact kb3T hr
      · replace hr := hr.trans (if_neg c_60)
        refine lv_aload_n hx hb dX5_sizeFits_63 rfl (lv_at hl 2 rfl) ?_
        refine mg_0_30 hx hb hts hown hK hP (hts _ q701) dX5_sizeFits_64 ?_
        refine lv_bipush (v := (29 : Int32)) hx hb dX5_sizeFits_67 bp_29 ?_
        refine lv_icmp_eq (tgt := 81) hx hb dX5_sizeFits_69 (by decide) (fun c_69 => ?_) (fun c_69 => ?_)
        · replace hr := hr.trans (if_pos c_69)
          exact kb3T hr
        · replace hr := hr.trans (if_neg c_69)
          refine lv_aload_n hx hb dX5_sizeFits_72 rfl (lv_at hl 2 rfl) ?_
          refine mg_0_30 hx hb hts hown hK hP (hts _ q701) dX5_sizeFits_73 ?_
          refine lv_bipush (v := (30 : Int32)) hx hb dX5_sizeFits_76 bp_30 ?_
          refine lv_icmp_ne (tgt := 96) hx hb dX5_sizeFits_78 (by decide) (fun c_78 => ?_) (fun c_78 => ?_)
          · replace hr := hr.trans (if_neg c_78)
            exact kb3F (by rw [hr]; decide)
          · replace hr := hr.trans (if_pos c_78)
            exact kb3T hr
    replace hr := ep2
    refine lv_icmp_eq (tgt := 48) hx hb dX5_sizeFits_36 (by decide) (fun c_36 => ?_) (fun c_36 => ?_)
    · replace hr := hr.trans (if_pos c_36)
      refine lv_iconst (v := (1 : Int32)) hx hb dX5_sizeFits_48 ic_1 ?_
      refine lv_goto (tgt := 53) hx hb dX5_sizeFits_49 (by decide) ?_
      subst hr
      exact kp2 ls (lv_sub hl [0, 1] rfl)
    · replace hr := hr.trans (if_neg c_36)
      refine lv_aload_n hx hb dX5_sizeFits_39 rfl (lv_at hl 1 rfl) ?_
      refine mg_0_31 hx hb hts hown hK hP (hts _ q702) dX5_sizeFits_40 ?_
      refine lv_bipush (v := (8 : Int32)) hx hb dX5_sizeFits_43 bp_8 ?_
      refine lv_icmp_ne (tgt := 52) hx hb dX5_sizeFits_45 (by decide) (fun c_45 => ?_) (fun c_45 => ?_)
      · replace hr := hr.trans (if_neg c_45)
        refine lv_iconst (v := (0 : Int32)) hx hb dX5_sizeFits_52 ic_0 ?_
        subst hr
        exact kp2 ls (lv_sub hl [0, 1] rfl)
      · replace hr := hr.trans (if_pos c_45)
        refine lv_iconst (v := (1 : Int32)) hx hb dX5_sizeFits_48 ic_1 ?_
        refine lv_goto (tgt := 53) hx hb dX5_sizeFits_49 (by decide) ?_
        subst hr
        exact kp2 ls (lv_sub hl [0, 1] rfl)
  replace hr := ep1
  refine lv_icmp_eq (tgt := 25) hx hb dX5_sizeFits_5 (by decide) (fun c_5 => ?_) (fun c_5 => ?_)
  · replace hr := hr.trans (if_pos c_5)
    refine lv_iconst (v := (1 : Int32)) hx hb dX5_sizeFits_25 ic_1 ?_
    refine lv_goto (tgt := 30) hx hb dX5_sizeFits_26 (by decide) ?_
    subst hr
    exact kp1 ls (lv_sub hl [0] rfl)
  · replace hr := hr.trans (if_neg c_5)
    refine lv_aload_n hx hb dX5_sizeFits_8 rfl (lv_at hl 0 rfl) ?_
    refine mg_0_31 hx hb hts hown hK hP (hts _ q702) dX5_sizeFits_9 ?_
    refine lv_iconst (v := (4 : Int32)) hx hb dX5_sizeFits_12 ic_4 ?_
    refine lv_icmp_eq (tgt := 25) hx hb dX5_sizeFits_13 (by decide) (fun c_13 => ?_) (fun c_13 => ?_)
    · replace hr := hr.trans (if_pos c_13)
      refine lv_iconst (v := (1 : Int32)) hx hb dX5_sizeFits_25 ic_1 ?_
      refine lv_goto (tgt := 30) hx hb dX5_sizeFits_26 (by decide) ?_
      subst hr
      exact kp1 ls (lv_sub hl [0] rfl)
    · replace hr := hr.trans (if_neg c_13)
      refine lv_aload_n hx hb dX5_sizeFits_16 rfl (lv_at hl 0 rfl) ?_
      refine mg_0_31 hx hb hts hown hK hP (hts _ q702) dX5_sizeFits_17 ?_
      refine lv_bipush (v := (8 : Int32)) hx hb dX5_sizeFits_20 bp_8 ?_
      refine lv_icmp_ne (tgt := 29) hx hb dX5_sizeFits_22 (by decide) (fun c_22 => ?_) (fun c_22 => ?_)
      · replace hr := hr.trans (if_neg c_22)
        refine lv_iconst (v := (0 : Int32)) hx hb dX5_sizeFits_29 ic_0 ?_
        subst hr
        exact kp1 ls (lv_sub hl [0] rfl)
      · replace hr := hr.trans (if_pos c_22)
        refine lv_iconst (v := (1 : Int32)) hx hb dX5_sizeFits_25 ic_1 ?_
        refine lv_goto (tgt := 30) hx hb dX5_sizeFits_26 (by decide) ?_
        subst hr
        exact kp1 ls (lv_sub hl [0] rfl)
def m_memoryFits (K : MK) : Bool := bnd (α := Bool) (if (km_scale K) = (1 : Int32) then true else (if (km_scale K) = (2 : Int32) then true else (if (km_scale K) = (4 : Int32) then true else (if (km_scale K) = (8 : Int32) then true else false)))) fun p1 => if (km_base K) < (-1 : Int32) then false else (if (16 : Int32) < (km_base K) then false else (if (km_index K) < (-1 : Int32) then false else (if (15 : Int32) < (km_index K) then false else (if (km_index K) = (4 : Int32) then false else (if (b2i p1) = 0 then false else (if 0 ≤ (km_index K) then (if (km_base K) = (16 : Int32) then (if 0 ≤ (km_index K) then false else true) else true) else (if (km_scale K) = (1 : Int32) then (if (km_base K) = (16 : Int32) then (if 0 ≤ (km_index K) then false else true) else true) else false)))))))
abbrev rm_X5_memoryFits : Room := { frames := 0, cells := 0, slots := 0, locals := 0 }
set_option maxHeartbeats 4000000 in
set_option maxRecDepth 100000 in
theorem m_X5_memoryFits {l : Launch} {D : va_G} {ad : Nat → Nat} {ca : Nat → ClassId} {K : MK} {d : MD} (RES : Bool) (hr : RES = m_memoryFits K) : g_R l yX5_memoryFits (ws_ yX5_memoryFits cX5_memoryFits 2 (some .boolean)) rm_X5_memoryFits [.ref (ad 0)] (mKp D ca) (mB D ad ca K d) (.int (b2i RES)) := by
  refine g_ofR (by decide) (Nat.le_of_ble_eq_true rfl) ?_
  intro p e s m args below meth c ls Q hF hB hKp hl hQ
  obtain ⟨hx, hb, -, -, hml, hown, hts⟩ := id hF
  have hown : s.vm.findClass RX5 = some m.cls := hown
  have hC : CallFix p m c cX5_memoryFits 2 s args lw_all RX5 := ⟨hx, hb, hml, hown, hts⟩
  have hK : va_K D xcl (mtys ca) s := hKp
  have hP : va_P D xcl (MW ad ca K d) s.heap := hB
  have hl : lv_has ls 2 [(0, .ref (ad 0))] := hl
  unfold m_memoryFits at hr
  refine lv_aload_n hx hb dX5_memoryFits_0 rfl (lv_at hl 0 rfl) ?_
  refine mg_0_35 hx hb hts hown hK hP (hts _ q706) dX5_memoryFits_1 ?_
  refine lv_iconst (v := (1 : Int32)) hx hb dX5_memoryFits_4 ic_1 ?_
  obtain ⟨p1, ep1⟩ : ∃ z : Bool, z = (if (km_scale K) = (1 : Int32) then true else (if (km_scale K) = (2 : Int32) then true else (if (km_scale K) = (4 : Int32) then true else (if (km_scale K) = (8 : Int32) then true else false)))) := ⟨_, rfl⟩
  replace hr := hr.trans (bnd_eq ep1)
  have kp1 : ∀ (ls : Array Slot), lv_has ls 2 [(0, .ref (ad 0))] → W p l e rm_X5_memoryFits s m args below meth c s.heap [] 0 0 Q (F0 m 38 ls [.int (b2i p1)]) := by
    intro ls hl
    refine lv_istore_n (lv' := [(1, .int (b2i p1)), (0, .ref (ad 0))]) hx hb dX5_memoryFits_38 rfl hl (by decide) rfl (fun ls hl => ?_)
    refine lv_aload_n hx hb dX5_memoryFits_39 rfl (lv_at hl 1 rfl) ?_
    refine mg_0_33 hx hb hts hown hK hP (hts _ q704) dX5_memoryFits_40 ?_
    refine lv_iconst (v := (-1 : Int32)) hx hb dX5_memoryFits_43 ic_m1 ?_
    refine lv_icmp_lt (tgt := 120) hx hb dX5_memoryFits_44 (by decide) (fun c_44 => ?_) (fun c_44 => ?_)
    · replace hr := hr.trans (if_pos c_44)
      refine lv_iconst (v := (0 : Int32)) hx hb dX5_memoryFits_120 ic_0 ?_
      exact g_endRz hF hQ hr rfl dX5_memoryFits_121
    · replace hr := hr.trans (if_neg c_44)
      refine lv_aload_n hx hb dX5_memoryFits_47 rfl (lv_at hl 1 rfl) ?_
      refine mg_0_33 hx hb hts hown hK hP (hts _ q704) dX5_memoryFits_48 ?_
      refine lv_bipush (v := (16 : Int32)) hx hb dX5_memoryFits_51 bp_16 ?_
      refine lv_icmp_gt (tgt := 120) hx hb dX5_memoryFits_53 (by decide) (fun c_53 => ?_) (fun c_53 => ?_)
      · replace hr := hr.trans (if_pos c_53)
        refine lv_iconst (v := (0 : Int32)) hx hb dX5_memoryFits_120 ic_0 ?_
        exact g_endRz hF hQ hr rfl dX5_memoryFits_121
      · replace hr := hr.trans (if_neg c_53)
        refine lv_aload_n hx hb dX5_memoryFits_56 rfl (lv_at hl 1 rfl) ?_
        refine mg_0_34 hx hb hts hown hK hP (hts _ q705) dX5_memoryFits_57 ?_
        refine lv_iconst (v := (-1 : Int32)) hx hb dX5_memoryFits_60 ic_m1 ?_
        refine lv_icmp_lt (tgt := 120) hx hb dX5_memoryFits_61 (by decide) (fun c_61 => ?_) (fun c_61 => ?_)
        · replace hr := hr.trans (if_pos c_61)
          refine lv_iconst (v := (0 : Int32)) hx hb dX5_memoryFits_120 ic_0 ?_
          exact g_endRz hF hQ hr rfl dX5_memoryFits_121
        · replace hr := hr.trans (if_neg c_61)
          refine lv_aload_n hx hb dX5_memoryFits_64 rfl (lv_at hl 1 rfl) ?_
          refine mg_0_34 hx hb hts hown hK hP (hts _ q705) dX5_memoryFits_65 ?_
          refine lv_bipush (v := (15 : Int32)) hx hb dX5_memoryFits_68 bp_15 ?_
          refine lv_icmp_gt (tgt := 120) hx hb dX5_memoryFits_70 (by decide) (fun c_70 => ?_) (fun c_70 => ?_)
          · replace hr := hr.trans (if_pos c_70)
            refine lv_iconst (v := (0 : Int32)) hx hb dX5_memoryFits_120 ic_0 ?_
            exact g_endRz hF hQ hr rfl dX5_memoryFits_121
          · replace hr := hr.trans (if_neg c_70)
            refine lv_aload_n hx hb dX5_memoryFits_73 rfl (lv_at hl 1 rfl) ?_
            refine mg_0_34 hx hb hts hown hK hP (hts _ q705) dX5_memoryFits_74 ?_
            refine lv_iconst (v := (4 : Int32)) hx hb dX5_memoryFits_77 ic_4 ?_
            refine lv_icmp_eq (tgt := 120) hx hb dX5_memoryFits_78 (by decide) (fun c_78 => ?_) (fun c_78 => ?_)
            · replace hr := hr.trans (if_pos c_78)
              refine lv_iconst (v := (0 : Int32)) hx hb dX5_memoryFits_120 ic_0 ?_
              exact g_endRz hF hQ hr rfl dX5_memoryFits_121
            · replace hr := hr.trans (if_neg c_78)
              refine lv_iload_n hx hb dX5_memoryFits_81 rfl (lv_at hl 0 rfl) ?_
              refine lv_if_eq (tgt := 120) hx hb dX5_memoryFits_82 (by decide) (fun c_82 => ?_) (fun c_82 => ?_)
              · replace hr := hr.trans (if_pos c_82)
                refine lv_iconst (v := (0 : Int32)) hx hb dX5_memoryFits_120 ic_0 ?_
                exact g_endRz hF hQ hr rfl dX5_memoryFits_121
              · replace hr := hr.trans (if_neg c_82)
                refine lv_aload_n hx hb dX5_memoryFits_85 rfl (lv_at hl 1 rfl) ?_
                refine mg_0_34 hx hb hts hown hK hP (hts _ q705) dX5_memoryFits_86 ?_
                refine lv_if_ge (tgt := 100) hx hb dX5_memoryFits_89 (by decide) (fun c_89 => ?_) (fun c_89 => ?_)
                · replace hr := hr.trans (if_pos c_89)
                  refine lv_aload_n hx hb dX5_memoryFits_100 rfl (lv_at hl 1 rfl) ?_
                  refine mg_0_33 hx hb hts hown hK hP (hts _ q704) dX5_memoryFits_101 ?_
                  refine lv_bipush (v := (16 : Int32)) hx hb dX5_memoryFits_104 bp_16 ?_
                  refine lv_icmp_ne (tgt := 116) hx hb dX5_memoryFits_106 (by decide) (fun c_106 => ?_) (fun c_106 => ?_)
                  · replace hr := hr.trans (if_neg c_106)
                    refine lv_iconst (v := (1 : Int32)) hx hb dX5_memoryFits_116 ic_1 ?_
                    refine lv_goto (tgt := 121) hx hb dX5_memoryFits_117 (by decide) ?_
                    exact g_endRz hF hQ hr rfl dX5_memoryFits_121
                  · replace hr := hr.trans (if_pos c_106)
                    refine lv_aload_n hx hb dX5_memoryFits_109 rfl (lv_at hl 1 rfl) ?_
                    refine mg_0_34 hx hb hts hown hK hP (hts _ q705) dX5_memoryFits_110 ?_
                    refine lv_if_ge (tgt := 120) hx hb dX5_memoryFits_113 (by decide) (fun c_113 => ?_) (fun c_113 => ?_)
                    · replace hr := hr.trans (if_pos c_113)
                      refine lv_iconst (v := (0 : Int32)) hx hb dX5_memoryFits_120 ic_0 ?_
                      exact g_endRz hF hQ hr rfl dX5_memoryFits_121
                    · replace hr := hr.trans (if_neg c_113)
                      refine lv_iconst (v := (1 : Int32)) hx hb dX5_memoryFits_116 ic_1 ?_
                      refine lv_goto (tgt := 121) hx hb dX5_memoryFits_117 (by decide) ?_
                      exact g_endRz hF hQ hr rfl dX5_memoryFits_121
                · replace hr := hr.trans (if_neg c_89)
                  refine lv_aload_n hx hb dX5_memoryFits_92 rfl (lv_at hl 1 rfl) ?_
                  refine mg_0_35 hx hb hts hown hK hP (hts _ q706) dX5_memoryFits_93 ?_
                  refine lv_iconst (v := (1 : Int32)) hx hb dX5_memoryFits_96 ic_1 ?_
                  refine lv_icmp_ne (tgt := 120) hx hb dX5_memoryFits_97 (by decide) (fun c_97 => ?_) (fun c_97 => ?_)
                  · replace hr := hr.trans (if_neg c_97)
                    refine lv_iconst (v := (0 : Int32)) hx hb dX5_memoryFits_120 ic_0 ?_
                    exact g_endRz hF hQ hr rfl dX5_memoryFits_121
                  · replace hr := hr.trans (if_pos c_97)
                    refine lv_aload_n hx hb dX5_memoryFits_100 rfl (lv_at hl 1 rfl) ?_
                    refine mg_0_33 hx hb hts hown hK hP (hts _ q704) dX5_memoryFits_101 ?_
                    refine lv_bipush (v := (16 : Int32)) hx hb dX5_memoryFits_104 bp_16 ?_
                    refine lv_icmp_ne (tgt := 116) hx hb dX5_memoryFits_106 (by decide) (fun c_106 => ?_) (fun c_106 => ?_)
                    · replace hr := hr.trans (if_neg c_106)
                      refine lv_iconst (v := (1 : Int32)) hx hb dX5_memoryFits_116 ic_1 ?_
                      refine lv_goto (tgt := 121) hx hb dX5_memoryFits_117 (by decide) ?_
                      exact g_endRz hF hQ hr rfl dX5_memoryFits_121
                    · replace hr := hr.trans (if_pos c_106)
                      refine lv_aload_n hx hb dX5_memoryFits_109 rfl (lv_at hl 1 rfl) ?_
                      refine mg_0_34 hx hb hts hown hK hP (hts _ q705) dX5_memoryFits_110 ?_
                      refine lv_if_ge (tgt := 120) hx hb dX5_memoryFits_113 (by decide) (fun c_113 => ?_) (fun c_113 => ?_)
                      · replace hr := hr.trans (if_pos c_113)
                        refine lv_iconst (v := (0 : Int32)) hx hb dX5_memoryFits_120 ic_0 ?_
                        exact g_endRz hF hQ hr rfl dX5_memoryFits_121
                      · replace hr := hr.trans (if_neg c_113)
                        refine lv_iconst (v := (1 : Int32)) hx hb dX5_memoryFits_116 ic_1 ?_
                        refine lv_goto (tgt := 121) hx hb dX5_memoryFits_117 (by decide) ?_
                        exact g_endRz hF hQ hr rfl dX5_memoryFits_121
  replace hr := ep1
  refine lv_icmp_eq (tgt := 33) hx hb dX5_memoryFits_5 (by decide) (fun c_5 => ?_) (fun c_5 => ?_)
  · replace hr := hr.trans (if_pos c_5)
    refine lv_iconst (v := (1 : Int32)) hx hb dX5_memoryFits_33 ic_1 ?_
    refine lv_goto (tgt := 38) hx hb dX5_memoryFits_34 (by decide) ?_
    subst hr
    exact kp1 ls (lv_sub hl [0] rfl)
  · replace hr := hr.trans (if_neg c_5)
    refine lv_aload_n hx hb dX5_memoryFits_8 rfl (lv_at hl 0 rfl) ?_
    refine mg_0_35 hx hb hts hown hK hP (hts _ q706) dX5_memoryFits_9 ?_
    refine lv_iconst (v := (2 : Int32)) hx hb dX5_memoryFits_12 ic_2 ?_
    refine lv_icmp_eq (tgt := 33) hx hb dX5_memoryFits_13 (by decide) (fun c_13 => ?_) (fun c_13 => ?_)
    · replace hr := hr.trans (if_pos c_13)
      refine lv_iconst (v := (1 : Int32)) hx hb dX5_memoryFits_33 ic_1 ?_
      refine lv_goto (tgt := 38) hx hb dX5_memoryFits_34 (by decide) ?_
      subst hr
      exact kp1 ls (lv_sub hl [0] rfl)
    · replace hr := hr.trans (if_neg c_13)
      refine lv_aload_n hx hb dX5_memoryFits_16 rfl (lv_at hl 0 rfl) ?_
      refine mg_0_35 hx hb hts hown hK hP (hts _ q706) dX5_memoryFits_17 ?_
      refine lv_iconst (v := (4 : Int32)) hx hb dX5_memoryFits_20 ic_4 ?_
      refine lv_icmp_eq (tgt := 33) hx hb dX5_memoryFits_21 (by decide) (fun c_21 => ?_) (fun c_21 => ?_)
      · replace hr := hr.trans (if_pos c_21)
        refine lv_iconst (v := (1 : Int32)) hx hb dX5_memoryFits_33 ic_1 ?_
        refine lv_goto (tgt := 38) hx hb dX5_memoryFits_34 (by decide) ?_
        subst hr
        exact kp1 ls (lv_sub hl [0] rfl)
      · replace hr := hr.trans (if_neg c_21)
        refine lv_aload_n hx hb dX5_memoryFits_24 rfl (lv_at hl 0 rfl) ?_
        refine mg_0_35 hx hb hts hown hK hP (hts _ q706) dX5_memoryFits_25 ?_
        refine lv_bipush (v := (8 : Int32)) hx hb dX5_memoryFits_28 bp_8 ?_
        refine lv_icmp_ne (tgt := 37) hx hb dX5_memoryFits_30 (by decide) (fun c_30 => ?_) (fun c_30 => ?_)
        · replace hr := hr.trans (if_neg c_30)
          refine lv_iconst (v := (0 : Int32)) hx hb dX5_memoryFits_37 ic_0 ?_
          subst hr
          exact kp1 ls (lv_sub hl [0] rfl)
        · replace hr := hr.trans (if_pos c_30)
          refine lv_iconst (v := (1 : Int32)) hx hb dX5_memoryFits_33 ic_1 ?_
          refine lv_goto (tgt := 38) hx hb dX5_memoryFits_34 (by decide) ?_
          subst hr
          exact kp1 ls (lv_sub hl [0] rfl)
def m_isSound_L91 (K : MK) (p1 : Bool) : Nat → Int32 → Int32 → Bool
  | 0, w91_2, w91_3 => false
  | n + 1, w91_2, w91_3 => if (3 : Int32) ≤ w91_3 then (if (b2i p1) = 0 then false else (if (2 : Int32) ≤ w91_2 then false else (if w91_2 = 0 then true else (if (b2i (m_memoryFits K)) = 0 then false else true)))) else (if ((km_kinds K) w91_3.toNatClampNeg) = (2 : Int32) then (bnd (α := Int32) ((w91_2 + (1 : Int32))) fun v4 => bnd (α := Int32) ((w91_3 + (1 : Int32))) fun v5 => m_isSound_L91 K p1 n v4 v5) else (bnd (α := Int32) ((w91_2 + (0 : Int32))) fun v2 => bnd (α := Int32) ((w91_3 + (1 : Int32))) fun v3 => m_isSound_L91 K p1 n v2 v3))
theorem m_isSound_L91_s (K : MK) (p1 : Bool) (n : Nat) (w91_2 : Int32) (w91_3 : Int32) : m_isSound_L91 K p1 (n + 1) w91_2 w91_3 = if (3 : Int32) ≤ w91_3 then (if (b2i p1) = 0 then false else (if (2 : Int32) ≤ w91_2 then false else (if w91_2 = 0 then true else (if (b2i (m_memoryFits K)) = 0 then false else true)))) else (if ((km_kinds K) w91_3.toNatClampNeg) = (2 : Int32) then (bnd (α := Int32) ((w91_2 + (1 : Int32))) fun v4 => bnd (α := Int32) ((w91_3 + (1 : Int32))) fun v5 => m_isSound_L91 K p1 n v4 v5) else (bnd (α := Int32) ((w91_2 + (0 : Int32))) fun v2 => bnd (α := Int32) ((w91_3 + (1 : Int32))) fun v3 => m_isSound_L91 K p1 n v2 v3)) := rfl
def m_isSound (K : MK) : Bool := if (km_op K) < 0 then false else (if (53 : Int32) < (km_op K) then false else (if (b2i (m_sizeFits K)) = 0 then false else (if (b2i (m_operandsFit K)) = 0 then false else (bnd (α := Bool) (if (km_op K) ≤ (33 : Int32) then (if (km_condition K) = 0 then true else false) else (if (37 : Int32) ≤ (km_op K) then (if (km_condition K) = 0 then true else false) else (if (km_condition K) < 0 then false else (if (16 : Int32) ≤ (km_condition K) then false else true)))) fun p1 => m_isSound_L91 K p1 (mI (0 : Int32) (3 : Int32) + 1) (0 : Int32) (0 : Int32)))))
abbrev rm_X5_isSound : Room := { frames := 3, cells := 0, slots := 0, locals := 70 }
set_option maxHeartbeats 4000000 in
set_option maxRecDepth 100000 in
theorem m_X5_isSound {l : Launch} {D : va_G} {ad : Nat → Nat} {ca : Nat → ClassId} {K : MK} {d : MD} (RES : Bool) (hr : RES = m_isSound K) : g_R l yX5_isSound (ws_ yX5_isSound cX5_isSound 4 (some .boolean)) rm_X5_isSound [.ref (ad 0)] (mKp D ca) (mB D ad ca K d) (.int (b2i RES)) := by
  refine g_ofR (by decide) (Nat.le_of_ble_eq_true rfl) ?_
  intro p e s m args below meth c ls Q hF hB hKp hl hQ
  obtain ⟨hx, hb, -, -, hml, hown, hts⟩ := id hF
  have hown : s.vm.findClass RX5 = some m.cls := hown
  have hC : CallFix p m c cX5_isSound 4 s args lw_all RX5 := ⟨hx, hb, hml, hown, hts⟩
  have hK : va_K D xcl (mtys ca) s := hKp
  have hP : va_P D xcl (MW ad ca K d) s.heap := hB
  have hl : lv_has ls 4 [(0, .ref (ad 0))] := hl
  unfold m_isSound at hr
  refine lv_aload_n hx hb dX5_isSound_0 rfl (lv_at hl 0 rfl) ?_
  refine mg_0_30 hx hb hts hown hK hP (hts _ q701) dX5_isSound_1 ?_
  refine lv_if_lt (tgt := 30) hx hb dX5_isSound_4 (by decide) (fun c_4 => ?_) (fun c_4 => ?_)
  · replace hr := hr.trans (if_pos c_4)
    refine lv_iconst (v := (0 : Int32)) hx hb dX5_isSound_30 ic_0 ?_
    exact g_endRz hF hQ hr rfl dX5_isSound_31
  · replace hr := hr.trans (if_neg c_4)
    refine lv_aload_n hx hb dX5_isSound_7 rfl (lv_at hl 0 rfl) ?_
    refine mg_0_30 hx hb hts hown hK hP (hts _ q701) dX5_isSound_8 ?_
    refine lv_bipush (v := (53 : Int32)) hx hb dX5_isSound_11 bp_53 ?_
    refine lv_icmp_gt (tgt := 30) hx hb dX5_isSound_13 (by decide) (fun c_13 => ?_) (fun c_13 => ?_)
    · replace hr := hr.trans (if_pos c_13)
      refine lv_iconst (v := (0 : Int32)) hx hb dX5_isSound_30 ic_0 ?_
      exact g_endRz hF hQ hr rfl dX5_isSound_31
    · replace hr := hr.trans (if_neg c_13)
      refine lv_aload_n hx hb dX5_isSound_16 rfl (lv_at hl 0 rfl) ?_
      refine g_RV (As := []) (rest := []) hC (m_X5_sizeFits (K := K) (d := d)  _ rfl) (cwV 0 hts cw_X5_149 rfl rfl rfl hd_X5_sizeFits ⟨Nat.le_of_ble_eq_true rfl, Nat.le_of_ble_eq_true rfl⟩) mKst (va_recv hK hP (ci := 5) (q0 := 0) rfl rfl) hP hKp ⟨Nat.zero_le _, Nat.zero_le _⟩ rfl hl.1 rfl (Nat.le_of_ble_eq_true rfl) dX5_isSound_17 ?_
      refine lv_if_eq (tgt := 30) hx hb dX5_isSound_20 (by decide) (fun c_20 => ?_) (fun c_20 => ?_)
      · replace hr := hr.trans (if_pos c_20)
        refine lv_iconst (v := (0 : Int32)) hx hb dX5_isSound_30 ic_0 ?_
        exact g_endRz hF hQ hr rfl dX5_isSound_31
      · replace hr := hr.trans (if_neg c_20)
        refine lv_aload_n hx hb dX5_isSound_23 rfl (lv_at hl 0 rfl) ?_
        refine g_RV (As := []) (rest := []) hC (m_X5_operandsFit (K := K) (d := d)  _ rfl) (cwV 0 hts cw_X5_153 rfl rfl rfl hd_X5_operandsFit ⟨Nat.le_of_ble_eq_true rfl, Nat.le_of_ble_eq_true rfl⟩) mKst (va_recv hK hP (ci := 5) (q0 := 0) rfl rfl) hP hKp ⟨Nat.zero_le _, Nat.zero_le _⟩ rfl hl.1 rfl (Nat.le_of_ble_eq_true rfl) dX5_isSound_24 ?_
        refine lv_if_ne (tgt := 32) hx hb dX5_isSound_27 (by decide) (fun c_27 => ?_) (fun c_27 => ?_)
        · replace hr := hr.trans (if_neg c_27)
          refine lv_aload_n hx hb dX5_isSound_32 rfl (lv_at hl 0 rfl) ?_
          refine mg_0_30 hx hb hts hown hK hP (hts _ q701) dX5_isSound_33 ?_
          refine lv_bipush (v := (33 : Int32)) hx hb dX5_isSound_36 bp_33 ?_
          obtain ⟨p1, ep1⟩ : ∃ z : Bool, z = (if (km_op K) ≤ (33 : Int32) then (if (km_condition K) = 0 then true else false) else (if (37 : Int32) ≤ (km_op K) then (if (km_condition K) = 0 then true else false) else (if (km_condition K) < 0 then false else (if (16 : Int32) ≤ (km_condition K) then false else true)))) := ⟨_, rfl⟩
          replace hr := hr.trans (bnd_eq ep1)
          have kp1 : ∀ (ls : Array Slot), lv_has ls 4 [(0, .ref (ad 0))] → W p l e rm_X5_isSound s m args below meth c s.heap [] 0 0 Q (F0 m 86 ls [.int (b2i p1)]) := by
            intro ls hl
            refine lv_istore_n (lv' := [(1, .int (b2i p1)), (0, .ref (ad 0))]) hx hb dX5_isSound_86 rfl hl (by decide) rfl (fun ls hl => ?_)
            refine lv_iconst (v := (0 : Int32)) hx hb dX5_isSound_87 ic_0 ?_
            refine lv_istore_n (lv' := [(2, .int (0 : Int32)), (1, .int (b2i p1)), (0, .ref (ad 0))]) hx hb dX5_isSound_88 rfl hl (by decide) rfl (fun ls hl => ?_)
            refine lv_iconst (v := (0 : Int32)) hx hb dX5_isSound_89 ic_0 ?_
            refine lv_istore_n (lv' := [(3, .int (0 : Int32)), (2, .int (0 : Int32)), (1, .int (b2i p1)), (0, .ref (ad 0))]) hx hb dX5_isSound_90 rfl hl (by decide) rfl (fun ls hl => ?_)
            have lp91 : ∀ (n : Nat) (w91_2 : Int32) (w91_3 : Int32) (ls : Array Slot), mI w91_3 (3 : Int32) < n → (0 ≤ w91_3) → RES = m_isSound_L91 K p1 n w91_2 w91_3 → lv_has ls 4 [(3, .int w91_3), (2, .int w91_2), (1, .int (b2i p1)), (0, .ref (ad 0))] → W p l e rm_X5_isSound s m args below meth c s.heap [] 0 0 Q (F0 m 91 ls []) := by
              intro n
              induction n with
              | zero =>
                intro w91_2 w91_3 ls hm
                exact absurd hm (Nat.not_lt_zero _)
              | succ n ih =>
                intro w91_2 w91_3 ls hm h0 hr hl
                replace hr := hr.trans (m_isSound_L91_s K p1 n w91_2 w91_3)
                refine lv_iload_n hx hb dX5_isSound_91 rfl (lv_at hl 0 rfl) ?_
                refine lv_iconst (v := (3 : Int32)) hx hb dX5_isSound_92 ic_3 ?_
                refine lv_icmp_ge (tgt := 120) hx hb dX5_isSound_93 (by decide) (fun c_93 => ?_) (fun c_93 => ?_)
                · replace hr := hr.trans (if_pos c_93)
                  refine lv_iload_n hx hb dX5_isSound_120 rfl (lv_at hl 2 rfl) ?_
                  refine lv_if_eq (tgt := 144) hx hb dX5_isSound_121 (by decide) (fun c_121 => ?_) (fun c_121 => ?_)
                  · replace hr := hr.trans (if_pos c_121)
                    refine lv_iconst (v := (0 : Int32)) hx hb dX5_isSound_144 ic_0 ?_
                    exact g_endRz hF hQ hr rfl dX5_isSound_145
                  · replace hr := hr.trans (if_neg c_121)
                    refine lv_iload_n hx hb dX5_isSound_124 rfl (lv_at hl 1 rfl) ?_
                    refine lv_iconst (v := (2 : Int32)) hx hb dX5_isSound_125 ic_2 ?_
                    refine lv_icmp_ge (tgt := 144) hx hb dX5_isSound_126 (by decide) (fun c_126 => ?_) (fun c_126 => ?_)
                    · replace hr := hr.trans (if_pos c_126)
                      refine lv_iconst (v := (0 : Int32)) hx hb dX5_isSound_144 ic_0 ?_
                      exact g_endRz hF hQ hr rfl dX5_isSound_145
                    · replace hr := hr.trans (if_neg c_126)
                      refine lv_iload_n hx hb dX5_isSound_129 rfl (lv_at hl 1 rfl) ?_
                      refine lv_if_eq (tgt := 140) hx hb dX5_isSound_130 (by decide) (fun c_130 => ?_) (fun c_130 => ?_)
                      · replace hr := hr.trans (if_pos c_130)
                        refine lv_iconst (v := (1 : Int32)) hx hb dX5_isSound_140 ic_1 ?_
                        refine lv_goto (tgt := 145) hx hb dX5_isSound_141 (by decide) ?_
                        exact g_endRz hF hQ hr rfl dX5_isSound_145
                      · replace hr := hr.trans (if_neg c_130)
                        refine lv_aload_n hx hb dX5_isSound_133 rfl (lv_at hl 3 rfl) ?_
                        refine g_RV (As := []) (rest := []) hC (m_X5_memoryFits (K := K) (d := d)  _ rfl) (cwV 0 hts cw_X5_156 rfl rfl rfl hd_X5_memoryFits ⟨Nat.le_of_ble_eq_true rfl, Nat.le_of_ble_eq_true rfl⟩) mKst (va_recv hK hP (ci := 5) (q0 := 0) rfl rfl) hP hKp ⟨Nat.zero_le _, Nat.zero_le _⟩ rfl hl.1 rfl (Nat.le_of_ble_eq_true rfl) dX5_isSound_134 ?_
                        refine lv_if_eq (tgt := 144) hx hb dX5_isSound_137 (by decide) (fun c_137 => ?_) (fun c_137 => ?_)
                        · replace hr := hr.trans (if_pos c_137)
                          refine lv_iconst (v := (0 : Int32)) hx hb dX5_isSound_144 ic_0 ?_
                          exact g_endRz hF hQ hr rfl dX5_isSound_145
                        · replace hr := hr.trans (if_neg c_137)
                          refine lv_iconst (v := (1 : Int32)) hx hb dX5_isSound_140 ic_1 ?_
                          refine lv_goto (tgt := 145) hx hb dX5_isSound_141 (by decide) ?_
                          exact g_endRz hF hQ hr rfl dX5_isSound_145
                · replace hr := hr.trans (if_neg c_93)
                  refine lv_iload_n hx hb dX5_isSound_96 rfl (lv_at hl 1 rfl) ?_
                  refine lv_aload_n hx hb dX5_isSound_97 rfl (lv_at hl 3 rfl) ?_
                  refine mg_0_39 hx hb hts hown hK hP (hts _ q710) dX5_isSound_98 ?_
                  refine lv_iload_n hx hb dX5_isSound_101 rfl (lv_at hl 0 rfl) ?_
                  refine ml_9 hx hb hK hP (i_in h0 c_93 (by decide)) dX5_isSound_102 ?_
                  refine lv_iconst (v := (2 : Int32)) hx hb dX5_isSound_103 ic_2 ?_
                  refine lv_icmp_ne (tgt := 111) hx hb dX5_isSound_104 (by decide) (fun c_104 => ?_) (fun c_104 => ?_)
                  · replace hr := hr.trans (if_neg c_104)
                    refine lv_iconst (v := (0 : Int32)) hx hb dX5_isSound_111 ic_0 ?_
                    refine lv_iadd hx hb dX5_isSound_112 ?_
                    refine lv_topi (fun v2 ev2 => ?_)
                    replace hr := hr.trans (bnd_eq ev2)
                    refine lv_istore_n (lv' := [(2, .int v2), (3, .int w91_3), (1, .int (b2i p1)), (0, .ref (ad 0))]) hx hb dX5_isSound_113 rfl hl (by decide) rfl (fun ls hl => ?_)
                    obtain ⟨v3, ev3⟩ : ∃ z : Int32, z = (w91_3 + (1 : Int32)) := ⟨_, rfl⟩
                    replace hr := hr.trans (bnd_eq ev3)
                    refine lv_iinc (v := v3) (lv' := [(3, .int v3), (2, .int v2), (1, .int (b2i p1)), (0, .ref (ad 0))]) hx hb dX5_isSound_114 hl (k := 1) rfl (by rw [ev3, ← ic_1]) (by decide) rfl (fun ls hl => ?_)
                    refine lv_goto (tgt := 91) hx hb dX5_isSound_117 (by decide) ?_
                    exact ih v2 v3 ls (mI_dec c_93 hm ev3) (i_nn h0 c_93 ev3) hr (lv_sub hl [0, 1, 2, 3] rfl)
                  · replace hr := hr.trans (if_pos c_104)
                    refine lv_iconst (v := (1 : Int32)) hx hb dX5_isSound_107 ic_1 ?_
                    refine lv_goto (tgt := 112) hx hb dX5_isSound_108 (by decide) ?_
                    refine lv_iadd hx hb dX5_isSound_112 ?_
                    refine lv_topi (fun v4 ev4 => ?_)
                    replace hr := hr.trans (bnd_eq ev4)
                    refine lv_istore_n (lv' := [(2, .int v4), (3, .int w91_3), (1, .int (b2i p1)), (0, .ref (ad 0))]) hx hb dX5_isSound_113 rfl hl (by decide) rfl (fun ls hl => ?_)
                    obtain ⟨v5, ev5⟩ : ∃ z : Int32, z = (w91_3 + (1 : Int32)) := ⟨_, rfl⟩
                    replace hr := hr.trans (bnd_eq ev5)
                    refine lv_iinc (v := v5) (lv' := [(3, .int v5), (2, .int v4), (1, .int (b2i p1)), (0, .ref (ad 0))]) hx hb dX5_isSound_114 hl (k := 1) rfl (by rw [ev5, ← ic_1]) (by decide) rfl (fun ls hl => ?_)
                    refine lv_goto (tgt := 91) hx hb dX5_isSound_117 (by decide) ?_
                    exact ih v4 v5 ls (mI_dec c_93 hm ev5) (i_nn h0 c_93 ev5) hr (lv_sub hl [0, 1, 2, 3] rfl)
            exact lp91 (mI (0 : Int32) (3 : Int32) + 1) (0 : Int32) (0 : Int32) ls (Nat.lt_succ_self _) (by decide) hr (lv_sub hl [0, 1, 2, 3] rfl)
          replace hr := ep1
          refine lv_icmp_le (tgt := 74) hx hb dX5_isSound_38 (by decide) (fun c_38 => ?_) (fun c_38 => ?_)
          · replace hr := hr.trans (if_pos c_38)
            refine lv_aload_n hx hb dX5_isSound_74 rfl (lv_at hl 0 rfl) ?_
            refine mg_0_32 hx hb hts hown hK hP (hts _ q703) dX5_isSound_75 ?_
            refine lv_if_ne (tgt := 85) hx hb dX5_isSound_78 (by decide) (fun c_78 => ?_) (fun c_78 => ?_)
            · replace hr := hr.trans (if_neg c_78)
              refine lv_iconst (v := (0 : Int32)) hx hb dX5_isSound_85 ic_0 ?_
              subst hr
              exact kp1 ls (lv_sub hl [0] rfl)
            · replace hr := hr.trans (if_pos c_78)
              refine lv_iconst (v := (1 : Int32)) hx hb dX5_isSound_81 ic_1 ?_
              refine lv_goto (tgt := 86) hx hb dX5_isSound_82 (by decide) ?_
              subst hr
              exact kp1 ls (lv_sub hl [0] rfl)
          · replace hr := hr.trans (if_neg c_38)
            refine lv_aload_n hx hb dX5_isSound_41 rfl (lv_at hl 0 rfl) ?_
            refine mg_0_30 hx hb hts hown hK hP (hts _ q701) dX5_isSound_42 ?_
            refine lv_bipush (v := (37 : Int32)) hx hb dX5_isSound_45 bp_37 ?_
            refine lv_icmp_ge (tgt := 74) hx hb dX5_isSound_47 (by decide) (fun c_47 => ?_) (fun c_47 => ?_)
            · replace hr := hr.trans (if_pos c_47)
              refine lv_aload_n hx hb dX5_isSound_74 rfl (lv_at hl 0 rfl) ?_
              refine mg_0_32 hx hb hts hown hK hP (hts _ q703) dX5_isSound_75 ?_
              refine lv_if_ne (tgt := 85) hx hb dX5_isSound_78 (by decide) (fun c_78 => ?_) (fun c_78 => ?_)
              · replace hr := hr.trans (if_neg c_78)
                refine lv_iconst (v := (0 : Int32)) hx hb dX5_isSound_85 ic_0 ?_
                subst hr
                exact kp1 ls (lv_sub hl [0] rfl)
              · replace hr := hr.trans (if_pos c_78)
                refine lv_iconst (v := (1 : Int32)) hx hb dX5_isSound_81 ic_1 ?_
                refine lv_goto (tgt := 86) hx hb dX5_isSound_82 (by decide) ?_
                subst hr
                exact kp1 ls (lv_sub hl [0] rfl)
            · replace hr := hr.trans (if_neg c_47)
              refine lv_aload_n hx hb dX5_isSound_50 rfl (lv_at hl 0 rfl) ?_
              refine mg_0_32 hx hb hts hown hK hP (hts _ q703) dX5_isSound_51 ?_
              refine lv_if_lt (tgt := 70) hx hb dX5_isSound_54 (by decide) (fun c_54 => ?_) (fun c_54 => ?_)
              · replace hr := hr.trans (if_pos c_54)
                refine lv_iconst (v := (0 : Int32)) hx hb dX5_isSound_70 ic_0 ?_
                refine lv_goto (tgt := 86) hx hb dX5_isSound_71 (by decide) ?_
                subst hr
                exact kp1 ls (lv_sub hl [0] rfl)
              · replace hr := hr.trans (if_neg c_54)
                refine lv_aload_n hx hb dX5_isSound_57 rfl (lv_at hl 0 rfl) ?_
                refine mg_0_32 hx hb hts hown hK hP (hts _ q703) dX5_isSound_58 ?_
                refine lv_bipush (v := (16 : Int32)) hx hb dX5_isSound_61 bp_16 ?_
                refine lv_icmp_ge (tgt := 70) hx hb dX5_isSound_63 (by decide) (fun c_63 => ?_) (fun c_63 => ?_)
                · replace hr := hr.trans (if_pos c_63)
                  refine lv_iconst (v := (0 : Int32)) hx hb dX5_isSound_70 ic_0 ?_
                  refine lv_goto (tgt := 86) hx hb dX5_isSound_71 (by decide) ?_
                  subst hr
                  exact kp1 ls (lv_sub hl [0] rfl)
                · replace hr := hr.trans (if_neg c_63)
                  refine lv_iconst (v := (1 : Int32)) hx hb dX5_isSound_66 ic_1 ?_
                  refine lv_goto (tgt := 86) hx hb dX5_isSound_67 (by decide) ?_
                  subst hr
                  exact kp1 ls (lv_sub hl [0] rfl)
        · replace hr := hr.trans (if_pos c_27)
          refine lv_iconst (v := (0 : Int32)) hx hb dX5_isSound_30 ic_0 ?_
          exact g_endRz hF hQ hr rfl dX5_isSound_31
def m_heapBegin (K : MK) : Int64 := ((4194304 : Int64) + ((((km_fin K) + (4095 : Int32)) &&& (-4096 : Int32)).toInt64))
abbrev rm_X5_heapBegin : Room := { frames := 0, cells := 0, slots := 0, locals := 0 }
set_option maxHeartbeats 4000000 in
set_option maxRecDepth 100000 in
theorem m_X5_heapBegin {l : Launch} {D : va_G} {ad : Nat → Nat} {ca : Nat → ClassId} {K : MK} {d : MD} (RES : Int64) (hr : RES = m_heapBegin K) : g_R l yX5_heapBegin (ws_ yX5_heapBegin cX5_heapBegin 1 (some .long)) rm_X5_heapBegin [.ref (ad 0)] (mKp D ca) (mB D ad ca K d) (.long RES) := by
  refine g_ofR (by decide) (Nat.le_of_ble_eq_true rfl) ?_
  intro p e s m args below meth c ls Q hF hB hKp hl hQ
  obtain ⟨hx, hb, -, -, hml, hown, hts⟩ := id hF
  have hown : s.vm.findClass RX5 = some m.cls := hown
  have hC : CallFix p m c cX5_heapBegin 1 s args lw_all RX5 := ⟨hx, hb, hml, hown, hts⟩
  have hK : va_K D xcl (mtys ca) s := hKp
  have hP : va_P D xcl (MW ad ca K d) s.heap := hB
  have hl : lv_has ls 1 [(0, .ref (ad 0))] := hl
  unfold m_heapBegin at hr
  refine lv_ldc2 hx hb hown (hts _ q670) dX5_heapBegin_0 ?_
  refine lv_aload_n hx hb dX5_heapBegin_3 rfl (lv_at hl 0 rfl) ?_
  refine mg_0_7 hx hb hts hown hK hP (hts _ q678) dX5_heapBegin_4 ?_
  refine lv_sipush (v := (4095 : Int32)) hx hb dX5_heapBegin_7 sp_4095 ?_
  refine lv_iadd hx hb dX5_heapBegin_10 ?_
  refine lv_sipush (v := (-4096 : Int32)) hx hb dX5_heapBegin_11 sp_m4096 ?_
  refine lv_iand hx hb dX5_heapBegin_14 ?_
  refine lv_i2l (v := (((km_fin K) + (4095 : Int32)) &&& (-4096 : Int32)).toInt64) hx hb dX5_heapBegin_15 rfl ?_
  refine lv_ladd hx hb dX5_heapBegin_16 ?_
  exact g_endRl hF hQ hr dX5_heapBegin_17
def m_find (K : MK) (a : Int64) (w : Bool) : Int32 := bnd (α := Int64) ((a - (4194304 : Int64))) fun v1 => bnd (α := Bool) (if v1 < (0 : Int64) then false else (if ((km_fin K).toInt64) ≤ v1 then false else true)) fun b2 => if b2 = true then (bnd (α := Bool) (if v1 < ((km_textEnd K).toInt64) then true else (if v1 < ((km_rodataBegin K).toInt64) then false else (if ((km_rodataEnd K).toInt64) ≤ v1 then false else true))) fun p3 => bnd (α := Bool) (if (b2i p3) = 0 then (if v1 < ((km_dataBegin K).toInt64) then false else (if ((km_dataEnd K).toInt64) ≤ v1 then false else true)) else (if (b2i w) = 0 then true else (if v1 < ((km_dataBegin K).toInt64) then false else (if ((km_dataEnd K).toInt64) ≤ v1 then false else true)))) fun b4 => if b4 = true then (v1.toInt32) else (-1 : Int32)) else (bnd (α := Int64) ((a - (m_heapBegin K))) fun v5 => bnd (α := Bool) (if v5 < (0 : Int64) then false else (if ((km_heapSize K).toInt64) ≤ v5 then false else true)) fun b6 => if b6 = true then ((1048576 : Int32) ||| (v5.toInt32)) else (bnd (α := Int64) ((a - (2147414016 : Int64))) fun v7 => if v7 < (0 : Int64) then (-1 : Int32) else (if (65536 : Int64) ≤ v7 then (-1 : Int32) else ((2097152 : Int32) ||| (v7.toInt32)))))
abbrev rm_X5_find : Room := { frames := 1, cells := 0, slots := 0, locals := 20 }
set_option maxHeartbeats 4000000 in
set_option maxRecDepth 100000 in
theorem m_X5_find {l : Launch} {D : va_G} {ad : Nat → Nat} {ca : Nat → ClassId} {K : MK} {d : MD} (a : Int64) (w : Bool) (RES : Int32) (hr : RES = m_find K a w) : g_R l yX5_find (ws_ yX5_find cX5_find 10 (some .int)) rm_X5_find [.ref (ad 0), .long a, .int (b2i w)] (mKp D ca) (mB D ad ca K d) (.int RES) := by
  refine g_ofR (by decide) (Nat.le_of_ble_eq_true rfl) ?_
  intro p e s m args below meth c ls Q hF hB hKp hl hQ
  obtain ⟨hx, hb, -, -, hml, hown, hts⟩ := id hF
  have hown : s.vm.findClass RX5 = some m.cls := hown
  have hC : CallFix p m c cX5_find 10 s args lw_all RX5 := ⟨hx, hb, hml, hown, hts⟩
  have hK : va_K D xcl (mtys ca) s := hKp
  have hP : va_P D xcl (MW ad ca K d) s.heap := hB
  have hl : lv_has ls 10 [(0, .ref (ad 0)), (1, .long a), (3, .int (b2i w))] := hl
  unfold m_find at hr
  refine lv_lload_n hx hb dX5_find_0 rfl (lv_at hl 1 rfl) ?_
  refine lv_ldc2 hx hb hown (hts _ q670) dX5_find_1 ?_
  refine lv_lsub hx hb dX5_find_4 ?_
  refine lv_topl (fun v1 ev1 => ?_)
  replace hr := hr.trans (bnd_eq ev1)
  refine lv_lstore (lv' := [(4, .long v1), (0, .ref (ad 0)), (1, .long a), (3, .int (b2i w))]) hx hb dX5_find_5 hl (by decide) rfl (fun ls hl => ?_)
  refine lv_lload hx hb dX5_find_7 (lv_at hl 0 rfl) ?_
  refine lv_lconst (v := (0 : Int64)) hx hb dX5_find_9 lc_0 ?_
  obtain ⟨b2, eb2⟩ : ∃ z : Bool, z = (if v1 < (0 : Int64) then false else (if ((km_fin K).toInt64) ≤ v1 then false else true)) := ⟨_, rfl⟩
  replace hr := hr.trans (bnd_eq eb2)
  have kb2T : b2 = true → W p l e rm_X5_find s m args below meth c s.heap [] 0 0 Q (F0 m 25 ls []) := by
    intro hb2
    replace hr := hr.trans (if_pos hb2)
    have er := eb2
    have c_10 : ¬ (v1 < (0 : Int64)) := fun q => absurd (hb2.symm.trans (er.trans (if_pos q))) (by decide)
    have er := er.trans (if_neg c_10)
    have c_21 : ¬ (((km_fin K).toInt64) ≤ v1) := fun q => absurd (hb2.symm.trans (er.trans (if_pos q))) (by decide)
    have er := er.trans (if_neg c_21)
    clear er
    refine lv_lload hx hb dX5_find_25 (lv_at hl 0 rfl) ?_
    refine lv_aload_n hx hb dX5_find_27 rfl (lv_at hl 1 rfl) ?_
    refine mg_0_8 hx hb hts hown hK hP (hts _ q679) dX5_find_28 ?_
    refine lv_i2l (v := (km_textEnd K).toInt64) hx hb dX5_find_31 rfl ?_
    obtain ⟨p3, ep3⟩ : ∃ z : Bool, z = (if v1 < ((km_textEnd K).toInt64) then true else (if v1 < ((km_rodataBegin K).toInt64) then false else (if ((km_rodataEnd K).toInt64) ≤ v1 then false else true))) := ⟨_, rfl⟩
    replace hr := hr.trans (bnd_eq ep3)
    have kp3 : ∀ (ls : Array Slot), lv_has ls 10 [(4, .long v1), (0, .ref (ad 0)), (1, .long a), (3, .int (b2i w))] → W p l e rm_X5_find s m args below meth c s.heap [] 0 0 Q (F0 m 63 ls [.int (b2i p3)]) := by
      intro ls hl
      refine lv_istore (lv' := [(6, .int (b2i p3)), (4, .long v1), (0, .ref (ad 0)), (1, .long a), (3, .int (b2i w))]) hx hb dX5_find_63 hl (by decide) rfl (fun ls hl => ?_)
      refine lv_iload hx hb dX5_find_65 (lv_at hl 0 rfl) ?_
      obtain ⟨b4, eb4⟩ : ∃ z : Bool, z = (if (b2i p3) = 0 then (if v1 < ((km_dataBegin K).toInt64) then false else (if ((km_dataEnd K).toInt64) ≤ v1 then false else true)) else (if (b2i w) = 0 then true else (if v1 < ((km_dataBegin K).toInt64) then false else (if ((km_dataEnd K).toInt64) ≤ v1 then false else true)))) := ⟨_, rfl⟩
      replace hr := hr.trans (bnd_eq eb4)
      have kb4T : b4 = true → W p l e rm_X5_find s m args below meth c s.heap [] 0 0 Q (F0 m 96 ls []) := by
        intro hb4
        replace hr := hr.trans (if_pos hb4)
        refine lv_lload hx hb dX5_find_96 (lv_at hl 1 rfl) ?_
        refine lv_l2i (v := v1.toInt32) hx hb dX5_find_98 rfl ?_
        refine lv_goto (tgt := 103) hx hb dX5_find_99 (by decide) ?_
        exact g_endRi hF hQ hr dX5_find_103
      have kb4F : ¬ b4 = true → W p l e rm_X5_find s m args below meth c s.heap [] 0 0 Q (F0 m 102 ls []) := by
        intro hb4
        replace hr := hr.trans (if_neg hb4)
        refine lv_iconst (v := (-1 : Int32)) hx hb dX5_find_102 ic_m1 ?_
        exact g_endRi hF hQ hr dX5_find_103
      replace hr := eb4
      refine lv_if_eq (tgt := 74) hx hb dX5_find_67 (by decide) (fun c_67 => ?_) (fun c_67 => ?_)
      · replace hr := hr.trans (if_pos c_67)
        refine lv_lload hx hb dX5_find_74 (lv_at hl 1 rfl) ?_
        refine lv_aload_n hx hb dX5_find_76 rfl (lv_at hl 2 rfl) ?_
        refine mg_0_11 hx hb hts hown hK hP (hts _ q682) dX5_find_77 ?_
        refine lv_i2l (v := (km_dataBegin K).toInt64) hx hb dX5_find_80 rfl ?_
        refine lq_lt (tgt := 102) hx hb dX5_find_81 dX5_find_82 (by decide) (fun c_81 => ?_) (fun c_81 => ?_)
        · replace hr := hr.trans (if_pos c_81)
          exact kb4F (by rw [hr]; decide)
        · replace hr := hr.trans (if_neg c_81)
          refine lv_lload hx hb dX5_find_85 (lv_at hl 1 rfl) ?_
          refine lv_aload_n hx hb dX5_find_87 rfl (lv_at hl 2 rfl) ?_
          refine mg_0_12 hx hb hts hown hK hP (hts _ q683) dX5_find_88 ?_
          refine lv_i2l (v := (km_dataEnd K).toInt64) hx hb dX5_find_91 rfl ?_
          refine lq_ge (tgt := 102) hx hb dX5_find_92 dX5_find_93 (by decide) (fun c_92 => ?_) (fun c_92 => ?_)
          · replace hr := hr.trans (if_pos c_92)
            exact kb4F (by rw [hr]; decide)
          · replace hr := hr.trans (if_neg c_92)
            exact kb4T hr
      · replace hr := hr.trans (if_neg c_67)
        refine lv_iload_n hx hb dX5_find_70 rfl (lv_at hl 4 rfl) ?_
        refine lv_if_eq (tgt := 96) hx hb dX5_find_71 (by decide) (fun c_71 => ?_) (fun c_71 => ?_)
        · replace hr := hr.trans (if_pos c_71)
          exact kb4T hr
        · replace hr := hr.trans (if_neg c_71)
          refine lv_lload hx hb dX5_find_74 (lv_at hl 1 rfl) ?_
          refine lv_aload_n hx hb dX5_find_76 rfl (lv_at hl 2 rfl) ?_
          refine mg_0_11 hx hb hts hown hK hP (hts _ q682) dX5_find_77 ?_
          refine lv_i2l (v := (km_dataBegin K).toInt64) hx hb dX5_find_80 rfl ?_
          refine lq_lt (tgt := 102) hx hb dX5_find_81 dX5_find_82 (by decide) (fun c_81 => ?_) (fun c_81 => ?_)
          · replace hr := hr.trans (if_pos c_81)
            exact kb4F (by rw [hr]; decide)
          · replace hr := hr.trans (if_neg c_81)
            refine lv_lload hx hb dX5_find_85 (lv_at hl 1 rfl) ?_
            refine lv_aload_n hx hb dX5_find_87 rfl (lv_at hl 2 rfl) ?_
            refine mg_0_12 hx hb hts hown hK hP (hts _ q683) dX5_find_88 ?_
            refine lv_i2l (v := (km_dataEnd K).toInt64) hx hb dX5_find_91 rfl ?_
            refine lq_ge (tgt := 102) hx hb dX5_find_92 dX5_find_93 (by decide) (fun c_92 => ?_) (fun c_92 => ?_)
            · replace hr := hr.trans (if_pos c_92)
              exact kb4F (by rw [hr]; decide)
            · replace hr := hr.trans (if_neg c_92)
              exact kb4T hr
    replace hr := ep3
    refine lq_lt (tgt := 58) hx hb dX5_find_32 dX5_find_33 (by decide) (fun c_32 => ?_) (fun c_32 => ?_)
    · replace hr := hr.trans (if_pos c_32)
      refine lv_iconst (v := (1 : Int32)) hx hb dX5_find_58 ic_1 ?_
      refine lv_goto (tgt := 63) hx hb dX5_find_59 (by decide) ?_
      subst hr
      exact kp3 ls (lv_sub hl [0, 1, 2, 3] rfl)
    · replace hr := hr.trans (if_neg c_32)
      refine lv_lload hx hb dX5_find_36 (lv_at hl 0 rfl) ?_
      refine lv_aload_n hx hb dX5_find_38 rfl (lv_at hl 1 rfl) ?_
      refine mg_0_9 hx hb hts hown hK hP (hts _ q680) dX5_find_39 ?_
      refine lv_i2l (v := (km_rodataBegin K).toInt64) hx hb dX5_find_42 rfl ?_
      refine lq_lt (tgt := 62) hx hb dX5_find_43 dX5_find_44 (by decide) (fun c_43 => ?_) (fun c_43 => ?_)
      · replace hr := hr.trans (if_pos c_43)
        refine lv_iconst (v := (0 : Int32)) hx hb dX5_find_62 ic_0 ?_
        subst hr
        exact kp3 ls (lv_sub hl [0, 1, 2, 3] rfl)
      · replace hr := hr.trans (if_neg c_43)
        refine lv_lload hx hb dX5_find_47 (lv_at hl 0 rfl) ?_
        refine lv_aload_n hx hb dX5_find_49 rfl (lv_at hl 1 rfl) ?_
        refine mg_0_10 hx hb hts hown hK hP (hts _ q681) dX5_find_50 ?_
        refine lv_i2l (v := (km_rodataEnd K).toInt64) hx hb dX5_find_53 rfl ?_
        refine lq_ge (tgt := 62) hx hb dX5_find_54 dX5_find_55 (by decide) (fun c_54 => ?_) (fun c_54 => ?_)
        · replace hr := hr.trans (if_pos c_54)
          refine lv_iconst (v := (0 : Int32)) hx hb dX5_find_62 ic_0 ?_
          subst hr
          exact kp3 ls (lv_sub hl [0, 1, 2, 3] rfl)
        · replace hr := hr.trans (if_neg c_54)
          refine lv_iconst (v := (1 : Int32)) hx hb dX5_find_58 ic_1 ?_
          refine lv_goto (tgt := 63) hx hb dX5_find_59 (by decide) ?_
          subst hr
          exact kp3 ls (lv_sub hl [0, 1, 2, 3] rfl)
  have kb2F : ¬ b2 = true → W p l e rm_X5_find s m args below meth c s.heap [] 0 0 Q (F0 m 104 ls []) := by
    intro hb2
    replace hr := hr.trans (if_neg hb2)
    refine lv_lload_n hx hb dX5_find_104 rfl (lv_at hl 2 rfl) ?_
    refine lv_aload_n hx hb dX5_find_105 rfl (lv_at hl 1 rfl) ?_
    refine g_RV (As := []) (rest := [.long a]) hC (m_X5_heapBegin (K := K) (d := d)  _ rfl) (cwV 0 hts cw_X5_159 rfl rfl rfl hd_X5_heapBegin ⟨Nat.le_of_ble_eq_true rfl, Nat.le_of_ble_eq_true rfl⟩) mKst (va_recv hK hP (ci := 5) (q0 := 0) rfl rfl) hP hKp ⟨Nat.zero_le _, Nat.zero_le _⟩ rfl hl.1 rfl (Nat.le_of_ble_eq_true rfl) dX5_find_106 ?_
    refine lv_lsub hx hb dX5_find_109 ?_
    refine lv_topl (fun v5 ev5 => ?_)
    replace hr := hr.trans (bnd_eq ev5)
    refine lv_lstore (lv' := [(6, .long v5), (4, .long v1), (0, .ref (ad 0)), (1, .long a), (3, .int (b2i w))]) hx hb dX5_find_110 hl (by decide) rfl (fun ls hl => ?_)
    refine lv_lload hx hb dX5_find_112 (lv_at hl 0 rfl) ?_
    refine lv_lconst (v := (0 : Int64)) hx hb dX5_find_114 lc_0 ?_
    obtain ⟨b6, eb6⟩ : ∃ z : Bool, z = (if v5 < (0 : Int64) then false else (if ((km_heapSize K).toInt64) ≤ v5 then false else true)) := ⟨_, rfl⟩
    replace hr := hr.trans (bnd_eq eb6)
    have kb6T : b6 = true → W p l e rm_X5_find s m args below meth c s.heap [] 0 0 Q (F0 m 130 ls []) := by
      intro hb6
      replace hr := hr.trans (if_pos hb6)
      have er := eb6
      have c_115 : ¬ (v5 < (0 : Int64)) := fun q => absurd (hb6.symm.trans (er.trans (if_pos q))) (by decide)
      have er := er.trans (if_neg c_115)
      have c_126 : ¬ (((km_heapSize K).toInt64) ≤ v5) := fun q => absurd (hb6.symm.trans (er.trans (if_pos q))) (by decide)
      have er := er.trans (if_neg c_126)
      clear er
      refine lv_ldc hx hb hown (hts _ q903) dX5_find_130 ?_
      refine lv_lload hx hb dX5_find_132 (lv_at hl 0 rfl) ?_
      refine lv_l2i (v := v5.toInt32) hx hb dX5_find_134 rfl ?_
      refine lv_ior hx hb dX5_find_135 ?_
      exact g_endRi hF hQ hr dX5_find_136
    have kb6F : ¬ b6 = true → W p l e rm_X5_find s m args below meth c s.heap [] 0 0 Q (F0 m 137 ls []) := by
      intro hb6
      replace hr := hr.trans (if_neg hb6)
      refine lv_lload_n hx hb dX5_find_137 rfl (lv_at hl 3 rfl) ?_
      refine lv_ldc2 hx hb hown (hts _ q904) dX5_find_138 ?_
      refine lv_lsub hx hb dX5_find_141 ?_
      refine lv_topl (fun v7 ev7 => ?_)
      replace hr := hr.trans (bnd_eq ev7)
      refine lv_lstore (lv' := [(8, .long v7), (6, .long v5), (4, .long v1), (0, .ref (ad 0)), (1, .long a), (3, .int (b2i w))]) hx hb dX5_find_142 hl (by decide) rfl (fun ls hl => ?_)
      refine lv_lload hx hb dX5_find_144 (lv_at hl 0 rfl) ?_
      refine lv_lconst (v := (0 : Int64)) hx hb dX5_find_146 lc_0 ?_
      refine lq_lt (tgt := 169) hx hb dX5_find_147 dX5_find_148 (by decide) (fun c_147 => ?_) (fun c_147 => ?_)
      · replace hr := hr.trans (if_pos c_147)
        refine lv_iconst (v := (-1 : Int32)) hx hb dX5_find_169 ic_m1 ?_
        exact g_endRi hF hQ hr dX5_find_170
      · replace hr := hr.trans (if_neg c_147)
        refine lv_lload hx hb dX5_find_151 (lv_at hl 0 rfl) ?_
        refine lv_ldc2 hx hb hown (hts _ q905) dX5_find_153 ?_
        refine lq_ge (tgt := 169) hx hb dX5_find_156 dX5_find_157 (by decide) (fun c_156 => ?_) (fun c_156 => ?_)
        · replace hr := hr.trans (if_pos c_156)
          refine lv_iconst (v := (-1 : Int32)) hx hb dX5_find_169 ic_m1 ?_
          exact g_endRi hF hQ hr dX5_find_170
        · replace hr := hr.trans (if_neg c_156)
          refine lv_ldc hx hb hown (hts _ q906) dX5_find_160 ?_
          refine lv_lload hx hb dX5_find_162 (lv_at hl 0 rfl) ?_
          refine lv_l2i (v := v7.toInt32) hx hb dX5_find_164 rfl ?_
          refine lv_ior hx hb dX5_find_165 ?_
          refine lv_goto (tgt := 170) hx hb dX5_find_166 (by decide) ?_
          exact g_endRi hF hQ hr dX5_find_170
    replace hr := eb6
    refine lq_lt (tgt := 137) hx hb dX5_find_115 dX5_find_116 (by decide) (fun c_115 => ?_) (fun c_115 => ?_)
    · replace hr := hr.trans (if_pos c_115)
      exact kb6F (by rw [hr]; decide)
    · replace hr := hr.trans (if_neg c_115)
      refine lv_lload hx hb dX5_find_119 (lv_at hl 0 rfl) ?_
      refine lv_aload_n hx hb dX5_find_121 rfl (lv_at hl 2 rfl) ?_
      refine mg_0_13 hx hb hts hown hK hP (hts _ q684) dX5_find_122 ?_
      refine lv_i2l (v := (km_heapSize K).toInt64) hx hb dX5_find_125 rfl ?_
      refine lq_ge (tgt := 137) hx hb dX5_find_126 dX5_find_127 (by decide) (fun c_126 => ?_) (fun c_126 => ?_)
      · replace hr := hr.trans (if_pos c_126)
        exact kb6F (by rw [hr]; decide)
      · replace hr := hr.trans (if_neg c_126)
        exact kb6T hr
  replace hr := eb2
  refine lq_lt (tgt := 104) hx hb dX5_find_10 dX5_find_11 (by decide) (fun c_10 => ?_) (fun c_10 => ?_)
  · replace hr := hr.trans (if_pos c_10)
    exact kb2F (by rw [hr]; decide)
  · replace hr := hr.trans (if_neg c_10)
    refine lv_lload hx hb dX5_find_14 (lv_at hl 0 rfl) ?_
    refine lv_aload_n hx hb dX5_find_16 rfl (lv_at hl 1 rfl) ?_
    refine mg_0_7 hx hb hts hown hK hP (hts _ q678) dX5_find_17 ?_
    refine lv_i2l (v := (km_fin K).toInt64) hx hb dX5_find_20 rfl ?_
    refine lq_ge (tgt := 104) hx hb dX5_find_21 dX5_find_22 (by decide) (fun c_21 => ?_) (fun c_21 => ?_)
    · replace hr := hr.trans (if_pos c_21)
      exact kb2F (by rw [hr]; decide)
    · replace hr := hr.trans (if_neg c_21)
      exact kb2T hr
