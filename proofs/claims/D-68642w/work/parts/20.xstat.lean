def x_cut (v : Int64) (size : Int32) : Int64 := if size = (8 : Int32) then v else (if size = (4 : Int32) then (v &&& (4294967295 : Int64)) else (v &&& (255 : Int64)))
abbrev rm_X2_cut : Room := { frames := 0, cells := 0, slots := 0, locals := 0 }
set_option maxHeartbeats 4000000 in
set_option maxRecDepth 100000 in
theorem m_X2_cut {l : Launch} (v : Int64) (size : Int32) (RES : Int64) (hr : RES = x_cut v size) : g_R l yX2_cut (ws_ yX2_cut cX2_cut 3 (some .long)) rm_X2_cut [.long v, .int size] (fun _ => True) (fun _ => True) (.long RES) := by
  refine g_ofR (by decide) (Nat.le_of_ble_eq_true rfl) ?_
  intro p e s m args below meth c ls Q hF hB hKp hl hQ
  obtain ⟨hx, hb, -, -, hml, hown, hts⟩ := id hF
  have hown : s.vm.findClass RX2 = some m.cls := hown
  have hC : CallFix p m c cX2_cut 3 s args lw_all RX2 := ⟨hx, hb, hml, hown, hts⟩
  have hl : lv_has ls 3 [(0, .long v), (2, .int size)] := hl
  unfold x_cut at hr
  refine lv_iload_n hx hb dX2_cut_0 rfl (lv_at hl 1 rfl) ?_
  refine lv_bipush (v := (8 : Int32)) hx hb dX2_cut_1 bp_8 ?_
  refine lv_icmp_ne (tgt := 10) hx hb dX2_cut_3 (by decide) (fun c_3 => ?_) (fun c_3 => ?_)
  · replace hr := hr.trans (if_neg c_3)
    refine lv_iload_n hx hb dX2_cut_10 rfl (lv_at hl 1 rfl) ?_
    refine lv_iconst (v := (4 : Int32)) hx hb dX2_cut_11 ic_4 ?_
    refine lv_icmp_ne (tgt := 23) hx hb dX2_cut_12 (by decide) (fun c_12 => ?_) (fun c_12 => ?_)
    · replace hr := hr.trans (if_neg c_12)
      refine lv_lload_n hx hb dX2_cut_23 rfl (lv_at hl 0 rfl) ?_
      refine lv_ldc2 hx hb hown (hts _ q423) dX2_cut_24 ?_
      refine lv_land hx hb dX2_cut_27 ?_
      exact g_endRl hF hQ hr dX2_cut_28
    · replace hr := hr.trans (if_pos c_12)
      refine lv_lload_n hx hb dX2_cut_15 rfl (lv_at hl 0 rfl) ?_
      refine lv_ldc2 hx hb hown (hts _ q422) dX2_cut_16 ?_
      refine lv_land hx hb dX2_cut_19 ?_
      refine lv_goto (tgt := 28) hx hb dX2_cut_20 (by decide) ?_
      exact g_endRl hF hQ hr dX2_cut_28
  · replace hr := hr.trans (if_pos c_3)
    refine lv_lload_n hx hb dX2_cut_6 rfl (lv_at hl 0 rfl) ?_
    refine lv_goto (tgt := 28) hx hb dX2_cut_7 (by decide) ?_
    exact g_endRl hF hQ hr dX2_cut_28
def x_signed (v : Int64) (size : Int32) : Int64 := if size = (8 : Int32) then v else (if size = (4 : Int32) then ((v.toInt32).toInt64) else (((v.toInt32).toInt8.toInt32).toInt64))
abbrev rm_X2_signed : Room := { frames := 0, cells := 0, slots := 0, locals := 0 }
set_option maxHeartbeats 4000000 in
set_option maxRecDepth 100000 in
theorem m_X2_signed {l : Launch} (v : Int64) (size : Int32) (RES : Int64) (hr : RES = x_signed v size) : g_R l yX2_signed (ws_ yX2_signed cX2_signed 3 (some .long)) rm_X2_signed [.long v, .int size] (fun _ => True) (fun _ => True) (.long RES) := by
  refine g_ofR (by decide) (Nat.le_of_ble_eq_true rfl) ?_
  intro p e s m args below meth c ls Q hF hB hKp hl hQ
  obtain ⟨hx, hb, -, -, hml, hown, hts⟩ := id hF
  have hown : s.vm.findClass RX2 = some m.cls := hown
  have hC : CallFix p m c cX2_signed 3 s args lw_all RX2 := ⟨hx, hb, hml, hown, hts⟩
  have hl : lv_has ls 3 [(0, .long v), (2, .int size)] := hl
  unfold x_signed at hr
  refine lv_iload_n hx hb dX2_signed_0 rfl (lv_at hl 1 rfl) ?_
  refine lv_bipush (v := (8 : Int32)) hx hb dX2_signed_1 bp_8 ?_
  refine lv_icmp_ne (tgt := 10) hx hb dX2_signed_3 (by decide) (fun c_3 => ?_) (fun c_3 => ?_)
  · replace hr := hr.trans (if_neg c_3)
    refine lv_iload_n hx hb dX2_signed_10 rfl (lv_at hl 1 rfl) ?_
    refine lv_iconst (v := (4 : Int32)) hx hb dX2_signed_11 ic_4 ?_
    refine lv_icmp_ne (tgt := 21) hx hb dX2_signed_12 (by decide) (fun c_12 => ?_) (fun c_12 => ?_)
    · replace hr := hr.trans (if_neg c_12)
      refine lv_lload_n hx hb dX2_signed_21 rfl (lv_at hl 0 rfl) ?_
      refine lv_l2i (v := v.toInt32) hx hb dX2_signed_22 rfl ?_
      refine lv_i2b (v := (v.toInt32).toInt8.toInt32) hx hb dX2_signed_23 rfl ?_
      refine lv_i2l (v := ((v.toInt32).toInt8.toInt32).toInt64) hx hb dX2_signed_24 rfl ?_
      exact g_endRl hF hQ hr dX2_signed_25
    · replace hr := hr.trans (if_pos c_12)
      refine lv_lload_n hx hb dX2_signed_15 rfl (lv_at hl 0 rfl) ?_
      refine lv_l2i (v := v.toInt32) hx hb dX2_signed_16 rfl ?_
      refine lv_i2l (v := (v.toInt32).toInt64) hx hb dX2_signed_17 rfl ?_
      refine lv_goto (tgt := 25) hx hb dX2_signed_18 (by decide) ?_
      exact g_endRl hF hQ hr dX2_signed_25
  · replace hr := hr.trans (if_pos c_3)
    refine lv_lload_n hx hb dX2_signed_6 rfl (lv_at hl 0 rfl) ?_
    refine lv_goto (tgt := 25) hx hb dX2_signed_7 (by decide) ?_
    exact g_endRl hF hQ hr dX2_signed_25
def x_isNegative (v : Int64) (size : Int32) : Bool := if (0 : Int64) ≤ (x_signed v size) then false else true
abbrev rm_X2_isNegative : Room := { frames := 1, cells := 0, slots := 0, locals := 22 }
set_option maxHeartbeats 4000000 in
set_option maxRecDepth 100000 in
theorem m_X2_isNegative {l : Launch} (v : Int64) (size : Int32) (RES : Bool) (hr : RES = x_isNegative v size) : g_R l yX2_isNegative (ws_ yX2_isNegative cX2_isNegative 3 (some .boolean)) rm_X2_isNegative [.long v, .int size] (fun _ => True) (fun _ => True) (.int (b2i RES)) := by
  refine g_ofR (by decide) (Nat.le_of_ble_eq_true rfl) ?_
  intro p e s m args below meth c ls Q hF hB hKp hl hQ
  obtain ⟨hx, hb, -, -, hml, hown, hts⟩ := id hF
  have hown : s.vm.findClass RX2 = some m.cls := hown
  have hC : CallFix p m c cX2_isNegative 3 s args lw_all RX2 := ⟨hx, hb, hml, hown, hts⟩
  have hl : lv_has ls 3 [(0, .long v), (2, .int size)] := hl
  unfold x_isNegative at hr
  refine lv_lload_n hx hb dX2_isNegative_0 rfl (lv_at hl 0 rfl) ?_
  refine lv_iload_n hx hb dX2_isNegative_1 rfl (lv_at hl 1 rfl) ?_
  refine g_RS (As := [.long v, .int size]) (rest := []) hC (m_X2_signed v size _ rfl) (va_cwS 2 hts cw_X2_122 rfl rfl rfl hd_X2_signed ⟨Nat.le_of_ble_eq_true rfl, Nat.le_of_ble_eq_true rfl⟩) g_Kst0 trivial trivial ⟨Nat.zero_le _, Nat.zero_le _⟩ rfl hl.1 rfl (Nat.le_of_ble_eq_true rfl) dX2_isNegative_2 ?_
  refine lv_lconst (v := (0 : Int64)) hx hb dX2_isNegative_5 lc_0 ?_
  refine lq_ge (tgt := 14) hx hb dX2_isNegative_6 dX2_isNegative_7 (by decide) (fun c_6 => ?_) (fun c_6 => ?_)
  · replace hr := hr.trans (if_pos c_6)
    refine lv_iconst (v := (0 : Int32)) hx hb dX2_isNegative_14 ic_0 ?_
    exact g_endRz hF hQ hr rfl dX2_isNegative_15
  · replace hr := hr.trans (if_neg c_6)
    refine lv_iconst (v := (1 : Int32)) hx hb dX2_isNegative_10 ic_1 ?_
    refine lv_goto (tgt := 15) hx hb dX2_isNegative_11 (by decide) ?_
    exact g_endRz hF hQ hr rfl dX2_isNegative_15
def x_bit (v : Int64) (k : Int32) : Bool := if ((lshr_ v k) &&& (1 : Int64)) = (1 : Int64) then true else false
abbrev rm_X2_bit : Room := { frames := 0, cells := 0, slots := 0, locals := 0 }
set_option maxHeartbeats 4000000 in
set_option maxRecDepth 100000 in
theorem m_X2_bit {l : Launch} (v : Int64) (k : Int32) (RES : Bool) (hr : RES = x_bit v k) : g_R l yX2_bit (ws_ yX2_bit cX2_bit 3 (some .boolean)) rm_X2_bit [.long v, .int k] (fun _ => True) (fun _ => True) (.int (b2i RES)) := by
  refine g_ofR (by decide) (Nat.le_of_ble_eq_true rfl) ?_
  intro p e s m args below meth c ls Q hF hB hKp hl hQ
  obtain ⟨hx, hb, -, -, hml, hown, hts⟩ := id hF
  have hown : s.vm.findClass RX2 = some m.cls := hown
  have hC : CallFix p m c cX2_bit 3 s args lw_all RX2 := ⟨hx, hb, hml, hown, hts⟩
  have hl : lv_has ls 3 [(0, .long v), (2, .int k)] := hl
  unfold x_bit at hr
  refine lv_lload_n hx hb dX2_bit_0 rfl (lv_at hl 0 rfl) ?_
  refine lv_iload_n hx hb dX2_bit_1 rfl (lv_at hl 1 rfl) ?_
  refine lv_lshr (v := (lshr_ v k)) hx hb dX2_bit_2 rfl ?_
  refine lv_lconst (v := (1 : Int64)) hx hb dX2_bit_3 lc_1 ?_
  refine lv_land hx hb dX2_bit_4 ?_
  refine lv_lconst (v := (1 : Int64)) hx hb dX2_bit_5 lc_1 ?_
  refine lq_ne (tgt := 14) hx hb dX2_bit_6 dX2_bit_7 (by decide) (fun c_6 => ?_) (fun c_6 => ?_)
  · replace hr := hr.trans (if_neg c_6)
    refine lv_iconst (v := (0 : Int32)) hx hb dX2_bit_14 ic_0 ?_
    exact g_endRz hF hQ hr rfl dX2_bit_15
  · replace hr := hr.trans (if_pos c_6)
    refine lv_iconst (v := (1 : Int32)) hx hb dX2_bit_10 ic_1 ?_
    refine lv_goto (tgt := 15) hx hb dX2_bit_11 (by decide) ?_
    exact g_endRz hF hQ hr rfl dX2_bit_15
def x_upper (x : Int64) (y : Int64) : Int64 := bnd (α := Int64) ((lushr_ x (32 : Int32))) fun v1 => bnd (α := Int64) ((x &&& (4294967295 : Int64))) fun v2 => bnd (α := Int64) ((lushr_ y (32 : Int32))) fun v3 => bnd (α := Int64) ((y &&& (4294967295 : Int64))) fun v4 => bnd (α := Int64) (((v1 * v4) + (lushr_ (v2 * v4) (32 : Int32)))) fun v5 => bnd (α := Int64) (((v2 * v3) + (v5 &&& (4294967295 : Int64)))) fun v6 => (((v1 * v3) + (lushr_ v5 (32 : Int32))) + (lushr_ v6 (32 : Int32)))
abbrev rm_X2_upper : Room := { frames := 0, cells := 0, slots := 0, locals := 0 }
set_option maxHeartbeats 4000000 in
set_option maxRecDepth 100000 in
theorem m_X2_upper {l : Launch} (x : Int64) (y : Int64) (RES : Int64) (hr : RES = x_upper x y) : g_R l yX2_upper (ws_ yX2_upper cX2_upper 16 (some .long)) rm_X2_upper [.long x, .long y] (fun _ => True) (fun _ => True) (.long RES) := by
  refine g_ofR (by decide) (Nat.le_of_ble_eq_true rfl) ?_
  intro p e s m args below meth c ls Q hF hB hKp hl hQ
  obtain ⟨hx, hb, -, -, hml, hown, hts⟩ := id hF
  have hown : s.vm.findClass RX2 = some m.cls := hown
  have hC : CallFix p m c cX2_upper 16 s args lw_all RX2 := ⟨hx, hb, hml, hown, hts⟩
  have hl : lv_has ls 16 [(0, .long x), (2, .long y)] := hl
  unfold x_upper at hr
  refine lv_lload_n hx hb dX2_upper_0 rfl (lv_at hl 0 rfl) ?_
  refine lv_bipush (v := (32 : Int32)) hx hb dX2_upper_1 bp_32 ?_
  refine lv_lushr (v := (lushr_ x (32 : Int32))) hx hb dX2_upper_3 rfl ?_
  refine lv_topl (fun v1 ev1 => ?_)
  replace hr := hr.trans (bnd_eq ev1)
  refine lv_lstore (lv' := [(4, .long v1), (0, .long x), (2, .long y)]) hx hb dX2_upper_4 hl (by decide) rfl (fun ls hl => ?_)
  refine lv_lload_n hx hb dX2_upper_6 rfl (lv_at hl 1 rfl) ?_
  refine lv_ldc2 hx hb hown (hts _ q422) dX2_upper_7 ?_
  refine lv_land hx hb dX2_upper_10 ?_
  refine lv_topl (fun v2 ev2 => ?_)
  replace hr := hr.trans (bnd_eq ev2)
  refine lv_lstore (lv' := [(6, .long v2), (4, .long v1), (0, .long x), (2, .long y)]) hx hb dX2_upper_11 hl (by decide) rfl (fun ls hl => ?_)
  refine lv_lload_n hx hb dX2_upper_13 rfl (lv_at hl 3 rfl) ?_
  refine lv_bipush (v := (32 : Int32)) hx hb dX2_upper_14 bp_32 ?_
  refine lv_lushr (v := (lushr_ y (32 : Int32))) hx hb dX2_upper_16 rfl ?_
  refine lv_topl (fun v3 ev3 => ?_)
  replace hr := hr.trans (bnd_eq ev3)
  refine lv_lstore (lv' := [(8, .long v3), (6, .long v2), (4, .long v1), (0, .long x), (2, .long y)]) hx hb dX2_upper_17 hl (by decide) rfl (fun ls hl => ?_)
  refine lv_lload_n hx hb dX2_upper_19 rfl (lv_at hl 4 rfl) ?_
  refine lv_ldc2 hx hb hown (hts _ q422) dX2_upper_20 ?_
  refine lv_land hx hb dX2_upper_23 ?_
  refine lv_topl (fun v4 ev4 => ?_)
  replace hr := hr.trans (bnd_eq ev4)
  refine lv_lstore (lv' := [(10, .long v4), (8, .long v3), (6, .long v2), (4, .long v1), (0, .long x), (2, .long y)]) hx hb dX2_upper_24 hl (by decide) rfl (fun ls hl => ?_)
  refine lv_lload hx hb dX2_upper_26 (lv_at hl 3 rfl) ?_
  refine lv_lload hx hb dX2_upper_28 (lv_at hl 0 rfl) ?_
  refine lv_lmul hx hb dX2_upper_30 ?_
  refine lv_lload hx hb dX2_upper_31 (lv_at hl 2 rfl) ?_
  refine lv_lload hx hb dX2_upper_33 (lv_at hl 0 rfl) ?_
  refine lv_lmul hx hb dX2_upper_35 ?_
  refine lv_bipush (v := (32 : Int32)) hx hb dX2_upper_36 bp_32 ?_
  refine lv_lushr (v := (lushr_ (v2 * v4) (32 : Int32))) hx hb dX2_upper_38 rfl ?_
  refine lv_ladd hx hb dX2_upper_39 ?_
  refine lv_topl (fun v5 ev5 => ?_)
  replace hr := hr.trans (bnd_eq ev5)
  refine lv_lstore (lv' := [(12, .long v5), (10, .long v4), (8, .long v3), (6, .long v2), (4, .long v1), (0, .long x), (2, .long y)]) hx hb dX2_upper_40 hl (by decide) rfl (fun ls hl => ?_)
  refine lv_lload hx hb dX2_upper_42 (lv_at hl 3 rfl) ?_
  refine lv_lload hx hb dX2_upper_44 (lv_at hl 2 rfl) ?_
  refine lv_lmul hx hb dX2_upper_46 ?_
  refine lv_lload hx hb dX2_upper_47 (lv_at hl 0 rfl) ?_
  refine lv_ldc2 hx hb hown (hts _ q422) dX2_upper_49 ?_
  refine lv_land hx hb dX2_upper_52 ?_
  refine lv_ladd hx hb dX2_upper_53 ?_
  refine lv_topl (fun v6 ev6 => ?_)
  replace hr := hr.trans (bnd_eq ev6)
  refine lv_lstore (lv' := [(14, .long v6), (12, .long v5), (10, .long v4), (8, .long v3), (6, .long v2), (4, .long v1), (0, .long x), (2, .long y)]) hx hb dX2_upper_54 hl (by decide) rfl (fun ls hl => ?_)
  refine lv_lload hx hb dX2_upper_56 (lv_at hl 5 rfl) ?_
  refine lv_lload hx hb dX2_upper_58 (lv_at hl 3 rfl) ?_
  refine lv_lmul hx hb dX2_upper_60 ?_
  refine lv_lload hx hb dX2_upper_61 (lv_at hl 1 rfl) ?_
  refine lv_bipush (v := (32 : Int32)) hx hb dX2_upper_63 bp_32 ?_
  refine lv_lushr (v := (lushr_ v5 (32 : Int32))) hx hb dX2_upper_65 rfl ?_
  refine lv_ladd hx hb dX2_upper_66 ?_
  refine lv_lload hx hb dX2_upper_67 (lv_at hl 0 rfl) ?_
  refine lv_bipush (v := (32 : Int32)) hx hb dX2_upper_69 bp_32 ?_
  refine lv_lushr (v := (lushr_ v6 (32 : Int32))) hx hb dX2_upper_71 rfl ?_
  refine lv_ladd hx hb dX2_upper_72 ?_
  exact g_endRl hF hQ hr dX2_upper_73
def x_upperSigned (x : Int64) (y : Int64) : Int64 := bnd (α := Int64) (if (0 : Int64) ≤ x then (0 : Int64) else y) fun p1 => if (0 : Int64) ≤ y then (((x_upper x y) - p1) - (0 : Int64)) else (((x_upper x y) - p1) - x)
abbrev rm_X2_upperSigned : Room := { frames := 1, cells := 0, slots := 0, locals := 35 }
set_option maxHeartbeats 4000000 in
set_option maxRecDepth 100000 in
theorem m_X2_upperSigned {l : Launch} (x : Int64) (y : Int64) (RES : Int64) (hr : RES = x_upperSigned x y) : g_R l yX2_upperSigned (ws_ yX2_upperSigned cX2_upperSigned 4 (some .long)) rm_X2_upperSigned [.long x, .long y] (fun _ => True) (fun _ => True) (.long RES) := by
  refine g_ofR (by decide) (Nat.le_of_ble_eq_true rfl) ?_
  intro p e s m args below meth c ls Q hF hB hKp hl hQ
  obtain ⟨hx, hb, -, -, hml, hown, hts⟩ := id hF
  have hown : s.vm.findClass RX2 = some m.cls := hown
  have hC : CallFix p m c cX2_upperSigned 4 s args lw_all RX2 := ⟨hx, hb, hml, hown, hts⟩
  have hl : lv_has ls 4 [(0, .long x), (2, .long y)] := hl
  unfold x_upperSigned at hr
  refine lv_lload_n hx hb dX2_upperSigned_0 rfl (lv_at hl 0 rfl) ?_
  refine lv_lload_n hx hb dX2_upperSigned_1 rfl (lv_at hl 1 rfl) ?_
  refine g_RS (As := [.long x, .long y]) (rest := []) hC (m_X2_upper x y _ rfl) (va_cwS 2 hts cw_X2_202 rfl rfl rfl hd_X2_upper ⟨Nat.le_of_ble_eq_true rfl, Nat.le_of_ble_eq_true rfl⟩) g_Kst0 trivial trivial ⟨Nat.zero_le _, Nat.zero_le _⟩ rfl hl.1 rfl (Nat.le_of_ble_eq_true rfl) dX2_upperSigned_2 ?_
  refine lv_lload_n hx hb dX2_upperSigned_5 rfl (lv_at hl 0 rfl) ?_
  refine lv_lconst (v := (0 : Int64)) hx hb dX2_upperSigned_6 lc_0 ?_
  obtain ⟨p1, ep1⟩ : ∃ z : Int64, z = (if (0 : Int64) ≤ x then (0 : Int64) else y) := ⟨_, rfl⟩
  replace hr := hr.trans (bnd_eq ep1)
  have kp1 : ∀ (ls : Array Slot), lv_has ls 4 [(0, .long x), (2, .long y)] → W p l e rm_X2_upperSigned s m args below meth c s.heap [] 0 0 Q (F0 m 16 ls [.long p1, .long (x_upper x y)]) := by
    intro ls hl
    refine lv_lsub hx hb dX2_upperSigned_16 ?_
    refine lv_lload_n hx hb dX2_upperSigned_17 rfl (lv_at hl 1 rfl) ?_
    refine lv_lconst (v := (0 : Int64)) hx hb dX2_upperSigned_18 lc_0 ?_
    refine lq_ge (tgt := 27) hx hb dX2_upperSigned_19 dX2_upperSigned_20 (by decide) (fun c_19 => ?_) (fun c_19 => ?_)
    · replace hr := hr.trans (if_pos c_19)
      refine lv_lconst (v := (0 : Int64)) hx hb dX2_upperSigned_27 lc_0 ?_
      refine lv_lsub hx hb dX2_upperSigned_28 ?_
      exact g_endRl hF hQ hr dX2_upperSigned_29
    · replace hr := hr.trans (if_neg c_19)
      refine lv_lload_n hx hb dX2_upperSigned_23 rfl (lv_at hl 0 rfl) ?_
      refine lv_goto (tgt := 28) hx hb dX2_upperSigned_24 (by decide) ?_
      refine lv_lsub hx hb dX2_upperSigned_28 ?_
      exact g_endRl hF hQ hr dX2_upperSigned_29
  replace hr := ep1
  refine lq_ge (tgt := 15) hx hb dX2_upperSigned_7 dX2_upperSigned_8 (by decide) (fun c_7 => ?_) (fun c_7 => ?_)
  · replace hr := hr.trans (if_pos c_7)
    refine lv_lconst (v := (0 : Int64)) hx hb dX2_upperSigned_15 lc_0 ?_
    subst hr
    exact kp1 ls (lv_sub hl [0, 1] rfl)
  · replace hr := hr.trans (if_neg c_7)
    refine lv_lload_n hx hb dX2_upperSigned_11 rfl (lv_at hl 1 rfl) ?_
    refine lv_goto (tgt := 16) hx hb dX2_upperSigned_12 (by decide) ?_
    subst hr
    exact kp1 ls (lv_sub hl [0, 1] rfl)
def j_compare (x : Int64) (y : Int64) : Int32 := if y ≤ x then (if x = y then (0 : Int32) else (1 : Int32)) else (-1 : Int32)
abbrev rm_J0_compare : Room := { frames := 0, cells := 0, slots := 0, locals := 0 }
set_option maxHeartbeats 4000000 in
set_option maxRecDepth 100000 in
theorem m_J0_compare {l : Launch} (x : Int64) (y : Int64) (RES : Int32) (hr : RES = j_compare x y) : g_R l yJ0_compare (ws_ yJ0_compare cJ0_compare 4 (some .int)) rm_J0_compare [.long x, .long y] (fun _ => True) (fun _ => True) (.int RES) := by
  refine g_ofR (by decide) (Nat.le_of_ble_eq_true rfl) ?_
  intro p e s m args below meth c ls Q hF hB hKp hl hQ
  obtain ⟨hx, hb, -, -, hml, hown, hts⟩ := id hF
  have hown : s.vm.findClass RJ0 = some m.cls := hown
  have hC : CallFix p m c cJ0_compare 4 s args lw_all RJ0 := ⟨hx, hb, hml, hown, hts⟩
  have hl : lv_has ls 4 [(0, .long x), (2, .long y)] := hl
  unfold j_compare at hr
  refine lv_lload_n hx hb dJ0_compare_0 rfl (lv_at hl 0 rfl) ?_
  refine lv_lload_n hx hb dJ0_compare_1 rfl (lv_at hl 1 rfl) ?_
  refine lq_ge (tgt := 10) hx hb dJ0_compare_2 dJ0_compare_3 (by decide) (fun c_2 => ?_) (fun c_2 => ?_)
  · replace hr := hr.trans (if_pos c_2)
    refine lv_lload_n hx hb dJ0_compare_10 rfl (lv_at hl 0 rfl) ?_
    refine lv_lload_n hx hb dJ0_compare_11 rfl (lv_at hl 1 rfl) ?_
    refine lq_ne (tgt := 20) hx hb dJ0_compare_12 dJ0_compare_13 (by decide) (fun c_12 => ?_) (fun c_12 => ?_)
    · replace hr := hr.trans (if_neg c_12)
      refine lv_iconst (v := (1 : Int32)) hx hb dJ0_compare_20 ic_1 ?_
      exact g_endRi hF hQ hr dJ0_compare_21
    · replace hr := hr.trans (if_pos c_12)
      refine lv_iconst (v := (0 : Int32)) hx hb dJ0_compare_16 ic_0 ?_
      refine lv_goto (tgt := 21) hx hb dJ0_compare_17 (by decide) ?_
      exact g_endRi hF hQ hr dJ0_compare_21
  · replace hr := hr.trans (if_neg c_2)
    refine lv_iconst (v := (-1 : Int32)) hx hb dJ0_compare_6 ic_m1 ?_
    refine lv_goto (tgt := 21) hx hb dJ0_compare_7 (by decide) ?_
    exact g_endRi hF hQ hr dJ0_compare_21
def j_compareUnsigned (x : Int64) (y : Int64) : Int32 := (j_compare (x + (-9223372036854775808 : Int64)) (y + (-9223372036854775808 : Int64)))
abbrev rm_J0_compareUnsigned : Room := { frames := 1, cells := 0, slots := 0, locals := 23 }
set_option maxHeartbeats 4000000 in
set_option maxRecDepth 100000 in
theorem m_J0_compareUnsigned {l : Launch} (x : Int64) (y : Int64) (RES : Int32) (hr : RES = j_compareUnsigned x y) : g_R l yJ0_compareUnsigned (ws_ yJ0_compareUnsigned cJ0_compareUnsigned 4 (some .int)) rm_J0_compareUnsigned [.long x, .long y] (fun _ => True) (fun _ => True) (.int RES) := by
  refine g_ofR (by decide) (Nat.le_of_ble_eq_true rfl) ?_
  intro p e s m args below meth c ls Q hF hB hKp hl hQ
  obtain ⟨hx, hb, -, -, hml, hown, hts⟩ := id hF
  have hown : s.vm.findClass RJ0 = some m.cls := hown
  have hC : CallFix p m c cJ0_compareUnsigned 4 s args lw_all RJ0 := ⟨hx, hb, hml, hown, hts⟩
  have hl : lv_has ls 4 [(0, .long x), (2, .long y)] := hl
  unfold j_compareUnsigned at hr
  refine lv_lload_n hx hb dJ0_compareUnsigned_0 rfl (lv_at hl 0 rfl) ?_
  refine lv_ldc2 hx hb hown (hts _ q502) dJ0_compareUnsigned_1 ?_
  refine lv_ladd hx hb dJ0_compareUnsigned_4 ?_
  refine lv_lload_n hx hb dJ0_compareUnsigned_5 rfl (lv_at hl 1 rfl) ?_
  refine lv_ldc2 hx hb hown (hts _ q502) dJ0_compareUnsigned_6 ?_
  refine lv_ladd hx hb dJ0_compareUnsigned_9 ?_
  refine g_RS (As := [.long (x + (-9223372036854775808 : Int64)), .long (y + (-9223372036854775808 : Int64))]) (rest := []) hC (m_J0_compare (x + (-9223372036854775808 : Int64)) (y + (-9223372036854775808 : Int64)) _ rfl) (va_cwS 2 hts cw_J0_302 rfl rfl rfl hd_J0_compare ⟨Nat.le_of_ble_eq_true rfl, Nat.le_of_ble_eq_true rfl⟩) g_Kst0 trivial trivial ⟨Nat.zero_le _, Nat.zero_le _⟩ rfl hl.1 rfl (Nat.le_of_ble_eq_true rfl) dJ0_compareUnsigned_10 ?_
  exact g_endRi hF hQ hr dJ0_compareUnsigned_13
def j_divideUnsigned (x : Int64) (y : Int64) : Int64 := if y < (0 : Int64) then (lushr_ (x &&& ((x - y) ^^^ (-1 : Int64))) (63 : Int32)) else (bnd (α := Int64) ((lshl_ ((lushr_ x (1 : Int32)) / y) (1 : Int32))) fun v1 => bnd (α := Int64) ((x - (v1 * y))) fun v2 => (v1 + (lushr_ (v2 ||| ((v2 - y) ^^^ (-1 : Int64))) (63 : Int32))))
abbrev rm_J0_divideUnsigned : Room := { frames := 0, cells := 0, slots := 0, locals := 0 }
set_option maxHeartbeats 4000000 in
set_option maxRecDepth 100000 in
theorem m_J0_divideUnsigned {l : Launch} (x : Int64) (y : Int64) (RES : Int64) (hr : RES = j_divideUnsigned x y) (hz : ¬ y = 0) : g_R l yJ0_divideUnsigned (ws_ yJ0_divideUnsigned cJ0_divideUnsigned 8 (some .long)) rm_J0_divideUnsigned [.long x, .long y] (fun _ => True) (fun _ => True) (.long RES) := by
  refine g_ofR (by decide) (Nat.le_of_ble_eq_true rfl) ?_
  intro p e s m args below meth c ls Q hF hB hKp hl hQ
  obtain ⟨hx, hb, -, -, hml, hown, hts⟩ := id hF
  have hown : s.vm.findClass RJ0 = some m.cls := hown
  have hC : CallFix p m c cJ0_divideUnsigned 8 s args lw_all RJ0 := ⟨hx, hb, hml, hown, hts⟩
  have hl : lv_has ls 8 [(0, .long x), (2, .long y)] := hl
  unfold j_divideUnsigned at hr
  refine lv_lload_n hx hb dJ0_divideUnsigned_0 rfl (lv_at hl 1 rfl) ?_
  refine lv_lconst (v := (0 : Int64)) hx hb dJ0_divideUnsigned_1 lc_0 ?_
  refine lq_lt (tgt := 41) hx hb dJ0_divideUnsigned_2 dJ0_divideUnsigned_3 (by decide) (fun c_2 => ?_) (fun c_2 => ?_)
  · replace hr := hr.trans (if_pos c_2)
    refine lv_lload_n hx hb dJ0_divideUnsigned_41 rfl (lv_at hl 0 rfl) ?_
    refine lv_lload_n hx hb dJ0_divideUnsigned_42 rfl (lv_at hl 0 rfl) ?_
    refine lv_lload_n hx hb dJ0_divideUnsigned_43 rfl (lv_at hl 1 rfl) ?_
    refine lv_lsub hx hb dJ0_divideUnsigned_44 ?_
    refine lv_ldc2 hx hb hown (hts _ q514) dJ0_divideUnsigned_45 ?_
    refine lv_lxor hx hb dJ0_divideUnsigned_48 ?_
    refine lv_land hx hb dJ0_divideUnsigned_49 ?_
    refine lv_bipush (v := (63 : Int32)) hx hb dJ0_divideUnsigned_50 bp_63 ?_
    refine lv_lushr (v := (lushr_ (x &&& ((x - y) ^^^ (-1 : Int64))) (63 : Int32))) hx hb dJ0_divideUnsigned_52 rfl ?_
    exact g_endRl hF hQ hr dJ0_divideUnsigned_53
  · replace hr := hr.trans (if_neg c_2)
    refine lv_lload_n hx hb dJ0_divideUnsigned_6 rfl (lv_at hl 0 rfl) ?_
    refine lv_iconst (v := (1 : Int32)) hx hb dJ0_divideUnsigned_7 ic_1 ?_
    refine lv_lushr (v := (lushr_ x (1 : Int32))) hx hb dJ0_divideUnsigned_8 rfl ?_
    refine lv_lload_n hx hb dJ0_divideUnsigned_9 rfl (lv_at hl 1 rfl) ?_
    refine lv_ldiv hx hb dJ0_divideUnsigned_10 hz ?_
    refine lv_iconst (v := (1 : Int32)) hx hb dJ0_divideUnsigned_11 ic_1 ?_
    refine lv_lshl (v := (lshl_ ((lushr_ x (1 : Int32)) / y) (1 : Int32))) hx hb dJ0_divideUnsigned_12 rfl ?_
    refine lv_topl (fun v1 ev1 => ?_)
    replace hr := hr.trans (bnd_eq ev1)
    refine lv_lstore (lv' := [(4, .long v1), (0, .long x), (2, .long y)]) hx hb dJ0_divideUnsigned_13 hl (by decide) rfl (fun ls hl => ?_)
    refine lv_lload_n hx hb dJ0_divideUnsigned_15 rfl (lv_at hl 1 rfl) ?_
    refine lv_lload hx hb dJ0_divideUnsigned_16 (lv_at hl 0 rfl) ?_
    refine lv_lload_n hx hb dJ0_divideUnsigned_18 rfl (lv_at hl 2 rfl) ?_
    refine lv_lmul hx hb dJ0_divideUnsigned_19 ?_
    refine lv_lsub hx hb dJ0_divideUnsigned_20 ?_
    refine lv_topl (fun v2 ev2 => ?_)
    replace hr := hr.trans (bnd_eq ev2)
    refine lv_lstore (lv' := [(6, .long v2), (4, .long v1), (0, .long x), (2, .long y)]) hx hb dJ0_divideUnsigned_21 hl (by decide) rfl (fun ls hl => ?_)
    refine lv_lload hx hb dJ0_divideUnsigned_23 (lv_at hl 1 rfl) ?_
    refine lv_lload hx hb dJ0_divideUnsigned_25 (lv_at hl 0 rfl) ?_
    refine lv_lload hx hb dJ0_divideUnsigned_27 (lv_at hl 0 rfl) ?_
    refine lv_lload_n hx hb dJ0_divideUnsigned_29 rfl (lv_at hl 3 rfl) ?_
    refine lv_lsub hx hb dJ0_divideUnsigned_30 ?_
    refine lv_ldc2 hx hb hown (hts _ q514) dJ0_divideUnsigned_31 ?_
    refine lv_lxor hx hb dJ0_divideUnsigned_34 ?_
    refine lv_lor hx hb dJ0_divideUnsigned_35 ?_
    refine lv_bipush (v := (63 : Int32)) hx hb dJ0_divideUnsigned_36 bp_63 ?_
    refine lv_lushr (v := (lushr_ (v2 ||| ((v2 - y) ^^^ (-1 : Int64))) (63 : Int32))) hx hb dJ0_divideUnsigned_38 rfl ?_
    refine lv_ladd hx hb dJ0_divideUnsigned_39 ?_
    exact g_endRl hF hQ hr dJ0_divideUnsigned_40
def j_nlz32 (i : Int32) : Int32 := if 0 < i then (bnd (α := Int32 × Int32) (if i < (65536 : Int32) then ((31 : Int32), i) else (bnd (α := Int32) (((31 : Int32) + (-16 : Int32))) fun v2 => bnd (α := Int32) ((iushr_ i (16 : Int32))) fun v3 => (v2, v3))) fun p1 => bnd (α := Int32 × Int32) (if p1.2 < (256 : Int32) then (p1.1, p1.2) else (bnd (α := Int32) ((p1.1 + (-8 : Int32))) fun v5 => bnd (α := Int32) ((iushr_ p1.2 (8 : Int32))) fun v6 => (v5, v6))) fun p4 => bnd (α := Int32 × Int32) (if p4.2 < (16 : Int32) then (p4.1, p4.2) else (bnd (α := Int32) ((p4.1 + (-4 : Int32))) fun v8 => bnd (α := Int32) ((iushr_ p4.2 (4 : Int32))) fun v9 => (v8, v9))) fun p7 => bnd (α := Int32 × Int32) (if p7.2 < (4 : Int32) then (p7.1, p7.2) else (bnd (α := Int32) ((p7.1 + (-2 : Int32))) fun v11 => bnd (α := Int32) ((iushr_ p7.2 (2 : Int32))) fun v12 => (v11, v12))) fun p10 => (p10.1 - (iushr_ p10.2 (1 : Int32)))) else (if i = 0 then (32 : Int32) else (0 : Int32))
abbrev rm_J1_numberOfLeadingZeros : Room := { frames := 0, cells := 0, slots := 0, locals := 0 }
set_option maxHeartbeats 4000000 in
set_option maxRecDepth 100000 in
theorem m_J1_numberOfLeadingZeros {l : Launch} (i : Int32) (RES : Int32) (hr : RES = j_nlz32 i) : g_R l yJ1_numberOfLeadingZeros (ws_ yJ1_numberOfLeadingZeros cJ1_numberOfLeadingZeros 2 (some .int)) rm_J1_numberOfLeadingZeros [.int i] (fun _ => True) (fun _ => True) (.int RES) := by
  refine g_ofR (by decide) (Nat.le_of_ble_eq_true rfl) ?_
  intro p e s m args below meth c ls Q hF hB hKp hl hQ
  obtain ⟨hx, hb, -, -, hml, hown, hts⟩ := id hF
  have hown : s.vm.findClass RJ1 = some m.cls := hown
  have hC : CallFix p m c cJ1_numberOfLeadingZeros 2 s args lw_all RJ1 := ⟨hx, hb, hml, hown, hts⟩
  have hl : lv_has ls 2 [(0, .int i)] := hl
  unfold j_nlz32 at hr
  refine lv_iload_n hx hb dJ1_numberOfLeadingZeros_0 rfl (lv_at hl 0 rfl) ?_
  refine lv_if_gt (tgt := 15) hx hb dJ1_numberOfLeadingZeros_1 (by decide) (fun c_1 => ?_) (fun c_1 => ?_)
  · replace hr := hr.trans (if_pos c_1)
    refine lv_bipush (v := (31 : Int32)) hx hb dJ1_numberOfLeadingZeros_15 bp_31 ?_
    refine lv_istore_n (lv' := [(1, .int (31 : Int32)), (0, .int i)]) hx hb dJ1_numberOfLeadingZeros_17 rfl hl (by decide) rfl (fun ls hl => ?_)
    refine lv_iload_n hx hb dJ1_numberOfLeadingZeros_18 rfl (lv_at hl 1 rfl) ?_
    refine lv_ldcw hx hb hown (hts _ q593) dJ1_numberOfLeadingZeros_19 ?_
    obtain ⟨p1, ep1⟩ : ∃ z : Int32 × Int32, z = (if i < (65536 : Int32) then ((31 : Int32), i) else (bnd (α := Int32) (((31 : Int32) + (-16 : Int32))) fun v2 => bnd (α := Int32) ((iushr_ i (16 : Int32))) fun v3 => (v2, v3))) := ⟨_, rfl⟩
    replace hr := hr.trans (bnd_eq ep1)
    have kp1 : ∀ (ls : Array Slot), lv_has ls 2 [(1, .int p1.1), (0, .int p1.2)] → W p l e rm_J1_numberOfLeadingZeros s m args below meth c s.heap [] 0 0 Q (F0 m 33 ls []) := by
      intro ls hl
      refine lv_iload_n hx hb dJ1_numberOfLeadingZeros_33 rfl (lv_at hl 1 rfl) ?_
      refine lv_sipush (v := (256 : Int32)) hx hb dJ1_numberOfLeadingZeros_34 sp_256 ?_
      obtain ⟨p4, ep4⟩ : ∃ z : Int32 × Int32, z = (if p1.2 < (256 : Int32) then (p1.1, p1.2) else (bnd (α := Int32) ((p1.1 + (-8 : Int32))) fun v5 => bnd (α := Int32) ((iushr_ p1.2 (8 : Int32))) fun v6 => (v5, v6))) := ⟨_, rfl⟩
      replace hr := hr.trans (bnd_eq ep4)
      have kp4 : ∀ (ls : Array Slot), lv_has ls 2 [(1, .int p4.1), (0, .int p4.2)] → W p l e rm_J1_numberOfLeadingZeros s m args below meth c s.heap [] 0 0 Q (F0 m 48 ls []) := by
        intro ls hl
        refine lv_iload_n hx hb dJ1_numberOfLeadingZeros_48 rfl (lv_at hl 1 rfl) ?_
        refine lv_bipush (v := (16 : Int32)) hx hb dJ1_numberOfLeadingZeros_49 bp_16 ?_
        obtain ⟨p7, ep7⟩ : ∃ z : Int32 × Int32, z = (if p4.2 < (16 : Int32) then (p4.1, p4.2) else (bnd (α := Int32) ((p4.1 + (-4 : Int32))) fun v8 => bnd (α := Int32) ((iushr_ p4.2 (4 : Int32))) fun v9 => (v8, v9))) := ⟨_, rfl⟩
        replace hr := hr.trans (bnd_eq ep7)
        have kp7 : ∀ (ls : Array Slot), lv_has ls 2 [(1, .int p7.1), (0, .int p7.2)] → W p l e rm_J1_numberOfLeadingZeros s m args below meth c s.heap [] 0 0 Q (F0 m 61 ls []) := by
          intro ls hl
          refine lv_iload_n hx hb dJ1_numberOfLeadingZeros_61 rfl (lv_at hl 1 rfl) ?_
          refine lv_iconst (v := (4 : Int32)) hx hb dJ1_numberOfLeadingZeros_62 ic_4 ?_
          obtain ⟨p10, ep10⟩ : ∃ z : Int32 × Int32, z = (if p7.2 < (4 : Int32) then (p7.1, p7.2) else (bnd (α := Int32) ((p7.1 + (-2 : Int32))) fun v11 => bnd (α := Int32) ((iushr_ p7.2 (2 : Int32))) fun v12 => (v11, v12))) := ⟨_, rfl⟩
          replace hr := hr.trans (bnd_eq ep10)
          have kp10 : ∀ (ls : Array Slot), lv_has ls 2 [(1, .int p10.1), (0, .int p10.2)] → W p l e rm_J1_numberOfLeadingZeros s m args below meth c s.heap [] 0 0 Q (F0 m 73 ls []) := by
            intro ls hl
            refine lv_iload_n hx hb dJ1_numberOfLeadingZeros_73 rfl (lv_at hl 0 rfl) ?_
            refine lv_iload_n hx hb dJ1_numberOfLeadingZeros_74 rfl (lv_at hl 1 rfl) ?_
            refine lv_iconst (v := (1 : Int32)) hx hb dJ1_numberOfLeadingZeros_75 ic_1 ?_
            refine lv_iushr (v := (iushr_ p10.2 (1 : Int32))) hx hb dJ1_numberOfLeadingZeros_76 rfl ?_
            refine lv_isub hx hb dJ1_numberOfLeadingZeros_77 ?_
            exact g_endRi hF hQ hr dJ1_numberOfLeadingZeros_78
          replace hr := ep10
          refine lv_icmp_lt (tgt := 73) hx hb dJ1_numberOfLeadingZeros_63 (by decide) (fun c_63 => ?_) (fun c_63 => ?_)
          · replace hr := hr.trans (if_pos c_63)
            subst hr
            exact kp10 ls (lv_sub hl [0, 1] rfl)
          · replace hr := hr.trans (if_neg c_63)
            obtain ⟨v11, ev11⟩ : ∃ z : Int32, z = (p7.1 + (-2 : Int32)) := ⟨_, rfl⟩
            replace hr := hr.trans (bnd_eq ev11)
            refine lv_iinc (v := v11) (lv' := [(1, .int v11), (0, .int p7.2)]) hx hb dJ1_numberOfLeadingZeros_66 hl (k := 0) rfl (by rw [ev11, ← ic_m2]) (by decide) rfl (fun ls hl => ?_)
            refine lv_iload_n hx hb dJ1_numberOfLeadingZeros_69 rfl (lv_at hl 1 rfl) ?_
            refine lv_iconst (v := (2 : Int32)) hx hb dJ1_numberOfLeadingZeros_70 ic_2 ?_
            refine lv_iushr (v := (iushr_ p7.2 (2 : Int32))) hx hb dJ1_numberOfLeadingZeros_71 rfl ?_
            refine lv_topi (fun v12 ev12 => ?_)
            replace hr := hr.trans (bnd_eq ev12)
            refine lv_istore_n (lv' := [(0, .int v12), (1, .int v11)]) hx hb dJ1_numberOfLeadingZeros_72 rfl hl (by decide) rfl (fun ls hl => ?_)
            subst hr
            exact kp10 ls (lv_sub hl [1, 0] rfl)
        replace hr := ep7
        refine lv_icmp_lt (tgt := 61) hx hb dJ1_numberOfLeadingZeros_51 (by decide) (fun c_51 => ?_) (fun c_51 => ?_)
        · replace hr := hr.trans (if_pos c_51)
          subst hr
          exact kp7 ls (lv_sub hl [0, 1] rfl)
        · replace hr := hr.trans (if_neg c_51)
          obtain ⟨v8, ev8⟩ : ∃ z : Int32, z = (p4.1 + (-4 : Int32)) := ⟨_, rfl⟩
          replace hr := hr.trans (bnd_eq ev8)
          refine lv_iinc (v := v8) (lv' := [(1, .int v8), (0, .int p4.2)]) hx hb dJ1_numberOfLeadingZeros_54 hl (k := 0) rfl (by rw [ev8, ← ic_m4]) (by decide) rfl (fun ls hl => ?_)
          refine lv_iload_n hx hb dJ1_numberOfLeadingZeros_57 rfl (lv_at hl 1 rfl) ?_
          refine lv_iconst (v := (4 : Int32)) hx hb dJ1_numberOfLeadingZeros_58 ic_4 ?_
          refine lv_iushr (v := (iushr_ p4.2 (4 : Int32))) hx hb dJ1_numberOfLeadingZeros_59 rfl ?_
          refine lv_topi (fun v9 ev9 => ?_)
          replace hr := hr.trans (bnd_eq ev9)
          refine lv_istore_n (lv' := [(0, .int v9), (1, .int v8)]) hx hb dJ1_numberOfLeadingZeros_60 rfl hl (by decide) rfl (fun ls hl => ?_)
          subst hr
          exact kp7 ls (lv_sub hl [1, 0] rfl)
      replace hr := ep4
      refine lv_icmp_lt (tgt := 48) hx hb dJ1_numberOfLeadingZeros_37 (by decide) (fun c_37 => ?_) (fun c_37 => ?_)
      · replace hr := hr.trans (if_pos c_37)
        subst hr
        exact kp4 ls (lv_sub hl [0, 1] rfl)
      · replace hr := hr.trans (if_neg c_37)
        obtain ⟨v5, ev5⟩ : ∃ z : Int32, z = (p1.1 + (-8 : Int32)) := ⟨_, rfl⟩
        replace hr := hr.trans (bnd_eq ev5)
        refine lv_iinc (v := v5) (lv' := [(1, .int v5), (0, .int p1.2)]) hx hb dJ1_numberOfLeadingZeros_40 hl (k := 0) rfl (by rw [ev5, ← ic_m8]) (by decide) rfl (fun ls hl => ?_)
        refine lv_iload_n hx hb dJ1_numberOfLeadingZeros_43 rfl (lv_at hl 1 rfl) ?_
        refine lv_bipush (v := (8 : Int32)) hx hb dJ1_numberOfLeadingZeros_44 bp_8 ?_
        refine lv_iushr (v := (iushr_ p1.2 (8 : Int32))) hx hb dJ1_numberOfLeadingZeros_46 rfl ?_
        refine lv_topi (fun v6 ev6 => ?_)
        replace hr := hr.trans (bnd_eq ev6)
        refine lv_istore_n (lv' := [(0, .int v6), (1, .int v5)]) hx hb dJ1_numberOfLeadingZeros_47 rfl hl (by decide) rfl (fun ls hl => ?_)
        subst hr
        exact kp4 ls (lv_sub hl [1, 0] rfl)
    replace hr := ep1
    refine lv_icmp_lt (tgt := 33) hx hb dJ1_numberOfLeadingZeros_22 (by decide) (fun c_22 => ?_) (fun c_22 => ?_)
    · replace hr := hr.trans (if_pos c_22)
      subst hr
      exact kp1 ls (lv_sub hl [0, 1] rfl)
    · replace hr := hr.trans (if_neg c_22)
      obtain ⟨v2, ev2⟩ : ∃ z : Int32, z = ((31 : Int32) + (-16 : Int32)) := ⟨_, rfl⟩
      replace hr := hr.trans (bnd_eq ev2)
      refine lv_iinc (v := v2) (lv' := [(1, .int v2), (0, .int i)]) hx hb dJ1_numberOfLeadingZeros_25 hl (k := 0) rfl (by rw [ev2, ← ic_m16]) (by decide) rfl (fun ls hl => ?_)
      refine lv_iload_n hx hb dJ1_numberOfLeadingZeros_28 rfl (lv_at hl 1 rfl) ?_
      refine lv_bipush (v := (16 : Int32)) hx hb dJ1_numberOfLeadingZeros_29 bp_16 ?_
      refine lv_iushr (v := (iushr_ i (16 : Int32))) hx hb dJ1_numberOfLeadingZeros_31 rfl ?_
      refine lv_topi (fun v3 ev3 => ?_)
      replace hr := hr.trans (bnd_eq ev3)
      refine lv_istore_n (lv' := [(0, .int v3), (1, .int v2)]) hx hb dJ1_numberOfLeadingZeros_32 rfl hl (by decide) rfl (fun ls hl => ?_)
      subst hr
      exact kp1 ls (lv_sub hl [1, 0] rfl)
  · replace hr := hr.trans (if_neg c_1)
    refine lv_iload_n hx hb dJ1_numberOfLeadingZeros_4 rfl (lv_at hl 0 rfl) ?_
    refine lv_if_ne (tgt := 13) hx hb dJ1_numberOfLeadingZeros_5 (by decide) (fun c_5 => ?_) (fun c_5 => ?_)
    · replace hr := hr.trans (if_neg c_5)
      refine lv_iconst (v := (0 : Int32)) hx hb dJ1_numberOfLeadingZeros_13 ic_0 ?_
      exact g_endRi hF hQ hr dJ1_numberOfLeadingZeros_14
    · replace hr := hr.trans (if_pos c_5)
      refine lv_bipush (v := (32 : Int32)) hx hb dJ1_numberOfLeadingZeros_8 bp_32 ?_
      refine lv_goto (tgt := 14) hx hb dJ1_numberOfLeadingZeros_10 (by decide) ?_
      exact g_endRi hF hQ hr dJ1_numberOfLeadingZeros_14
def j_ntz32 (i : Int32) : Int32 := bnd (α := Int32) (((i ^^^ (-1 : Int32)) &&& (i - (1 : Int32)))) fun v1 => if 0 < v1 then (bnd (α := Int32 × Int32) (if v1 ≤ (65536 : Int32) then ((1 : Int32), v1) else (bnd (α := Int32) (((1 : Int32) + (16 : Int32))) fun v3 => bnd (α := Int32) ((iushr_ v1 (16 : Int32))) fun v4 => (v3, v4))) fun p2 => bnd (α := Int32 × Int32) (if p2.2 ≤ (256 : Int32) then (p2.1, p2.2) else (bnd (α := Int32) ((p2.1 + (8 : Int32))) fun v6 => bnd (α := Int32) ((iushr_ p2.2 (8 : Int32))) fun v7 => (v6, v7))) fun p5 => bnd (α := Int32 × Int32) (if p5.2 ≤ (16 : Int32) then (p5.1, p5.2) else (bnd (α := Int32) ((p5.1 + (4 : Int32))) fun v9 => bnd (α := Int32) ((iushr_ p5.2 (4 : Int32))) fun v10 => (v9, v10))) fun p8 => bnd (α := Int32 × Int32) (if p8.2 ≤ (4 : Int32) then (p8.1, p8.2) else (bnd (α := Int32) ((p8.1 + (2 : Int32))) fun v12 => bnd (α := Int32) ((iushr_ p8.2 (2 : Int32))) fun v13 => (v12, v13))) fun p11 => (p11.1 + (iushr_ p11.2 (1 : Int32)))) else (v1 &&& (32 : Int32))
abbrev rm_J1_numberOfTrailingZeros : Room := { frames := 0, cells := 0, slots := 0, locals := 0 }
set_option maxHeartbeats 4000000 in
set_option maxRecDepth 100000 in
theorem m_J1_numberOfTrailingZeros {l : Launch} (i : Int32) (RES : Int32) (hr : RES = j_ntz32 i) : g_R l yJ1_numberOfTrailingZeros (ws_ yJ1_numberOfTrailingZeros cJ1_numberOfTrailingZeros 2 (some .int)) rm_J1_numberOfTrailingZeros [.int i] (fun _ => True) (fun _ => True) (.int RES) := by
  refine g_ofR (by decide) (Nat.le_of_ble_eq_true rfl) ?_
  intro p e s m args below meth c ls Q hF hB hKp hl hQ
  obtain ⟨hx, hb, -, -, hml, hown, hts⟩ := id hF
  have hown : s.vm.findClass RJ1 = some m.cls := hown
  have hC : CallFix p m c cJ1_numberOfTrailingZeros 2 s args lw_all RJ1 := ⟨hx, hb, hml, hown, hts⟩
  have hl : lv_has ls 2 [(0, .int i)] := hl
  unfold j_ntz32 at hr
  refine lv_iload_n hx hb dJ1_numberOfTrailingZeros_0 rfl (lv_at hl 0 rfl) ?_
  refine lv_iconst (v := (-1 : Int32)) hx hb dJ1_numberOfTrailingZeros_1 ic_m1 ?_
  refine lv_ixor hx hb dJ1_numberOfTrailingZeros_2 ?_
  refine lv_iload_n hx hb dJ1_numberOfTrailingZeros_3 rfl (lv_at hl 0 rfl) ?_
  refine lv_iconst (v := (1 : Int32)) hx hb dJ1_numberOfTrailingZeros_4 ic_1 ?_
  refine lv_isub hx hb dJ1_numberOfTrailingZeros_5 ?_
  refine lv_iand hx hb dJ1_numberOfTrailingZeros_6 ?_
  refine lv_topi (fun v1 ev1 => ?_)
  replace hr := hr.trans (bnd_eq ev1)
  refine lv_istore_n (lv' := [(0, .int v1)]) hx hb dJ1_numberOfTrailingZeros_7 rfl hl (by decide) rfl (fun ls hl => ?_)
  refine lv_iload_n hx hb dJ1_numberOfTrailingZeros_8 rfl (lv_at hl 0 rfl) ?_
  refine lv_if_gt (tgt := 17) hx hb dJ1_numberOfTrailingZeros_9 (by decide) (fun c_9 => ?_) (fun c_9 => ?_)
  · replace hr := hr.trans (if_pos c_9)
    refine lv_iconst (v := (1 : Int32)) hx hb dJ1_numberOfTrailingZeros_17 ic_1 ?_
    refine lv_istore_n (lv' := [(1, .int (1 : Int32)), (0, .int v1)]) hx hb dJ1_numberOfTrailingZeros_18 rfl hl (by decide) rfl (fun ls hl => ?_)
    refine lv_iload_n hx hb dJ1_numberOfTrailingZeros_19 rfl (lv_at hl 1 rfl) ?_
    refine lv_ldcw hx hb hown (hts _ q593) dJ1_numberOfTrailingZeros_20 ?_
    obtain ⟨p2, ep2⟩ : ∃ z : Int32 × Int32, z = (if v1 ≤ (65536 : Int32) then ((1 : Int32), v1) else (bnd (α := Int32) (((1 : Int32) + (16 : Int32))) fun v3 => bnd (α := Int32) ((iushr_ v1 (16 : Int32))) fun v4 => (v3, v4))) := ⟨_, rfl⟩
    replace hr := hr.trans (bnd_eq ep2)
    have kp2 : ∀ (ls : Array Slot), lv_has ls 2 [(1, .int p2.1), (0, .int p2.2)] → W p l e rm_J1_numberOfTrailingZeros s m args below meth c s.heap [] 0 0 Q (F0 m 34 ls []) := by
      intro ls hl
      refine lv_iload_n hx hb dJ1_numberOfTrailingZeros_34 rfl (lv_at hl 1 rfl) ?_
      refine lv_sipush (v := (256 : Int32)) hx hb dJ1_numberOfTrailingZeros_35 sp_256 ?_
      obtain ⟨p5, ep5⟩ : ∃ z : Int32 × Int32, z = (if p2.2 ≤ (256 : Int32) then (p2.1, p2.2) else (bnd (α := Int32) ((p2.1 + (8 : Int32))) fun v6 => bnd (α := Int32) ((iushr_ p2.2 (8 : Int32))) fun v7 => (v6, v7))) := ⟨_, rfl⟩
      replace hr := hr.trans (bnd_eq ep5)
      have kp5 : ∀ (ls : Array Slot), lv_has ls 2 [(1, .int p5.1), (0, .int p5.2)] → W p l e rm_J1_numberOfTrailingZeros s m args below meth c s.heap [] 0 0 Q (F0 m 49 ls []) := by
        intro ls hl
        refine lv_iload_n hx hb dJ1_numberOfTrailingZeros_49 rfl (lv_at hl 1 rfl) ?_
        refine lv_bipush (v := (16 : Int32)) hx hb dJ1_numberOfTrailingZeros_50 bp_16 ?_
        obtain ⟨p8, ep8⟩ : ∃ z : Int32 × Int32, z = (if p5.2 ≤ (16 : Int32) then (p5.1, p5.2) else (bnd (α := Int32) ((p5.1 + (4 : Int32))) fun v9 => bnd (α := Int32) ((iushr_ p5.2 (4 : Int32))) fun v10 => (v9, v10))) := ⟨_, rfl⟩
        replace hr := hr.trans (bnd_eq ep8)
        have kp8 : ∀ (ls : Array Slot), lv_has ls 2 [(1, .int p8.1), (0, .int p8.2)] → W p l e rm_J1_numberOfTrailingZeros s m args below meth c s.heap [] 0 0 Q (F0 m 62 ls []) := by
          intro ls hl
          refine lv_iload_n hx hb dJ1_numberOfTrailingZeros_62 rfl (lv_at hl 1 rfl) ?_
          refine lv_iconst (v := (4 : Int32)) hx hb dJ1_numberOfTrailingZeros_63 ic_4 ?_
          obtain ⟨p11, ep11⟩ : ∃ z : Int32 × Int32, z = (if p8.2 ≤ (4 : Int32) then (p8.1, p8.2) else (bnd (α := Int32) ((p8.1 + (2 : Int32))) fun v12 => bnd (α := Int32) ((iushr_ p8.2 (2 : Int32))) fun v13 => (v12, v13))) := ⟨_, rfl⟩
          replace hr := hr.trans (bnd_eq ep11)
          have kp11 : ∀ (ls : Array Slot), lv_has ls 2 [(1, .int p11.1), (0, .int p11.2)] → W p l e rm_J1_numberOfTrailingZeros s m args below meth c s.heap [] 0 0 Q (F0 m 74 ls []) := by
            intro ls hl
            refine lv_iload_n hx hb dJ1_numberOfTrailingZeros_74 rfl (lv_at hl 0 rfl) ?_
            refine lv_iload_n hx hb dJ1_numberOfTrailingZeros_75 rfl (lv_at hl 1 rfl) ?_
            refine lv_iconst (v := (1 : Int32)) hx hb dJ1_numberOfTrailingZeros_76 ic_1 ?_
            refine lv_iushr (v := (iushr_ p11.2 (1 : Int32))) hx hb dJ1_numberOfTrailingZeros_77 rfl ?_
            refine lv_iadd hx hb dJ1_numberOfTrailingZeros_78 ?_
            exact g_endRi hF hQ hr dJ1_numberOfTrailingZeros_79
          replace hr := ep11
          refine lv_icmp_le (tgt := 74) hx hb dJ1_numberOfTrailingZeros_64 (by decide) (fun c_64 => ?_) (fun c_64 => ?_)
          · replace hr := hr.trans (if_pos c_64)
            subst hr
            exact kp11 ls (lv_sub hl [0, 1] rfl)
          · replace hr := hr.trans (if_neg c_64)
            obtain ⟨v12, ev12⟩ : ∃ z : Int32, z = (p8.1 + (2 : Int32)) := ⟨_, rfl⟩
            replace hr := hr.trans (bnd_eq ev12)
            refine lv_iinc (v := v12) (lv' := [(1, .int v12), (0, .int p8.2)]) hx hb dJ1_numberOfTrailingZeros_67 hl (k := 0) rfl (by rw [ev12, ← ic_2]) (by decide) rfl (fun ls hl => ?_)
            refine lv_iload_n hx hb dJ1_numberOfTrailingZeros_70 rfl (lv_at hl 1 rfl) ?_
            refine lv_iconst (v := (2 : Int32)) hx hb dJ1_numberOfTrailingZeros_71 ic_2 ?_
            refine lv_iushr (v := (iushr_ p8.2 (2 : Int32))) hx hb dJ1_numberOfTrailingZeros_72 rfl ?_
            refine lv_topi (fun v13 ev13 => ?_)
            replace hr := hr.trans (bnd_eq ev13)
            refine lv_istore_n (lv' := [(0, .int v13), (1, .int v12)]) hx hb dJ1_numberOfTrailingZeros_73 rfl hl (by decide) rfl (fun ls hl => ?_)
            subst hr
            exact kp11 ls (lv_sub hl [1, 0] rfl)
        replace hr := ep8
        refine lv_icmp_le (tgt := 62) hx hb dJ1_numberOfTrailingZeros_52 (by decide) (fun c_52 => ?_) (fun c_52 => ?_)
        · replace hr := hr.trans (if_pos c_52)
          subst hr
          exact kp8 ls (lv_sub hl [0, 1] rfl)
        · replace hr := hr.trans (if_neg c_52)
          obtain ⟨v9, ev9⟩ : ∃ z : Int32, z = (p5.1 + (4 : Int32)) := ⟨_, rfl⟩
          replace hr := hr.trans (bnd_eq ev9)
          refine lv_iinc (v := v9) (lv' := [(1, .int v9), (0, .int p5.2)]) hx hb dJ1_numberOfTrailingZeros_55 hl (k := 0) rfl (by rw [ev9, ← ic_4]) (by decide) rfl (fun ls hl => ?_)
          refine lv_iload_n hx hb dJ1_numberOfTrailingZeros_58 rfl (lv_at hl 1 rfl) ?_
          refine lv_iconst (v := (4 : Int32)) hx hb dJ1_numberOfTrailingZeros_59 ic_4 ?_
          refine lv_iushr (v := (iushr_ p5.2 (4 : Int32))) hx hb dJ1_numberOfTrailingZeros_60 rfl ?_
          refine lv_topi (fun v10 ev10 => ?_)
          replace hr := hr.trans (bnd_eq ev10)
          refine lv_istore_n (lv' := [(0, .int v10), (1, .int v9)]) hx hb dJ1_numberOfTrailingZeros_61 rfl hl (by decide) rfl (fun ls hl => ?_)
          subst hr
          exact kp8 ls (lv_sub hl [1, 0] rfl)
      replace hr := ep5
      refine lv_icmp_le (tgt := 49) hx hb dJ1_numberOfTrailingZeros_38 (by decide) (fun c_38 => ?_) (fun c_38 => ?_)
      · replace hr := hr.trans (if_pos c_38)
        subst hr
        exact kp5 ls (lv_sub hl [0, 1] rfl)
      · replace hr := hr.trans (if_neg c_38)
        obtain ⟨v6, ev6⟩ : ∃ z : Int32, z = (p2.1 + (8 : Int32)) := ⟨_, rfl⟩
        replace hr := hr.trans (bnd_eq ev6)
        refine lv_iinc (v := v6) (lv' := [(1, .int v6), (0, .int p2.2)]) hx hb dJ1_numberOfTrailingZeros_41 hl (k := 0) rfl (by rw [ev6, ← ic_8]) (by decide) rfl (fun ls hl => ?_)
        refine lv_iload_n hx hb dJ1_numberOfTrailingZeros_44 rfl (lv_at hl 1 rfl) ?_
        refine lv_bipush (v := (8 : Int32)) hx hb dJ1_numberOfTrailingZeros_45 bp_8 ?_
        refine lv_iushr (v := (iushr_ p2.2 (8 : Int32))) hx hb dJ1_numberOfTrailingZeros_47 rfl ?_
        refine lv_topi (fun v7 ev7 => ?_)
        replace hr := hr.trans (bnd_eq ev7)
        refine lv_istore_n (lv' := [(0, .int v7), (1, .int v6)]) hx hb dJ1_numberOfTrailingZeros_48 rfl hl (by decide) rfl (fun ls hl => ?_)
        subst hr
        exact kp5 ls (lv_sub hl [1, 0] rfl)
    replace hr := ep2
    refine lv_icmp_le (tgt := 34) hx hb dJ1_numberOfTrailingZeros_23 (by decide) (fun c_23 => ?_) (fun c_23 => ?_)
    · replace hr := hr.trans (if_pos c_23)
      subst hr
      exact kp2 ls (lv_sub hl [0, 1] rfl)
    · replace hr := hr.trans (if_neg c_23)
      obtain ⟨v3, ev3⟩ : ∃ z : Int32, z = ((1 : Int32) + (16 : Int32)) := ⟨_, rfl⟩
      replace hr := hr.trans (bnd_eq ev3)
      refine lv_iinc (v := v3) (lv' := [(1, .int v3), (0, .int v1)]) hx hb dJ1_numberOfTrailingZeros_26 hl (k := 0) rfl (by rw [ev3, ← ic_16]) (by decide) rfl (fun ls hl => ?_)
      refine lv_iload_n hx hb dJ1_numberOfTrailingZeros_29 rfl (lv_at hl 1 rfl) ?_
      refine lv_bipush (v := (16 : Int32)) hx hb dJ1_numberOfTrailingZeros_30 bp_16 ?_
      refine lv_iushr (v := (iushr_ v1 (16 : Int32))) hx hb dJ1_numberOfTrailingZeros_32 rfl ?_
      refine lv_topi (fun v4 ev4 => ?_)
      replace hr := hr.trans (bnd_eq ev4)
      refine lv_istore_n (lv' := [(0, .int v4), (1, .int v3)]) hx hb dJ1_numberOfTrailingZeros_33 rfl hl (by decide) rfl (fun ls hl => ?_)
      subst hr
      exact kp2 ls (lv_sub hl [1, 0] rfl)
  · replace hr := hr.trans (if_neg c_9)
    refine lv_iload_n hx hb dJ1_numberOfTrailingZeros_12 rfl (lv_at hl 0 rfl) ?_
    refine lv_bipush (v := (32 : Int32)) hx hb dJ1_numberOfTrailingZeros_13 bp_32 ?_
    refine lv_iand hx hb dJ1_numberOfTrailingZeros_15 ?_
    exact g_endRi hF hQ hr dJ1_numberOfTrailingZeros_16
def j_nlz (i : Int64) : Int32 := bnd (α := Int32) (((lushr_ i (32 : Int32)).toInt32)) fun v1 => if v1 = 0 then ((32 : Int32) + (j_nlz32 (i.toInt32))) else (j_nlz32 v1)
abbrev rm_J0_numberOfLeadingZeros : Room := { frames := 1, cells := 0, slots := 0, locals := 21 }
set_option maxHeartbeats 4000000 in
set_option maxRecDepth 100000 in
theorem m_J0_numberOfLeadingZeros {l : Launch} (i : Int64) (RES : Int32) (hr : RES = j_nlz i) : g_R l yJ0_numberOfLeadingZeros (ws_ yJ0_numberOfLeadingZeros cJ0_numberOfLeadingZeros 3 (some .int)) rm_J0_numberOfLeadingZeros [.long i] (fun _ => True) (fun _ => True) (.int RES) := by
  refine g_ofR (by decide) (Nat.le_of_ble_eq_true rfl) ?_
  intro p e s m args below meth c ls Q hF hB hKp hl hQ
  obtain ⟨hx, hb, -, -, hml, hown, hts⟩ := id hF
  have hown : s.vm.findClass RJ0 = some m.cls := hown
  have hC : CallFix p m c cJ0_numberOfLeadingZeros 3 s args lw_all RJ0 := ⟨hx, hb, hml, hown, hts⟩
  have hl : lv_has ls 3 [(0, .long i)] := hl
  unfold j_nlz at hr
  refine lv_lload_n hx hb dJ0_numberOfLeadingZeros_0 rfl (lv_at hl 0 rfl) ?_
  refine lv_bipush (v := (32 : Int32)) hx hb dJ0_numberOfLeadingZeros_1 bp_32 ?_
  refine lv_lushr (v := (lushr_ i (32 : Int32))) hx hb dJ0_numberOfLeadingZeros_3 rfl ?_
  refine lv_l2i (v := (lushr_ i (32 : Int32)).toInt32) hx hb dJ0_numberOfLeadingZeros_4 rfl ?_
  refine lv_topi (fun v1 ev1 => ?_)
  replace hr := hr.trans (bnd_eq ev1)
  refine lv_istore_n (lv' := [(2, .int v1), (0, .long i)]) hx hb dJ0_numberOfLeadingZeros_5 rfl hl (by decide) rfl (fun ls hl => ?_)
  refine lv_iload_n hx hb dJ0_numberOfLeadingZeros_6 rfl (lv_at hl 0 rfl) ?_
  refine lv_if_ne (tgt := 21) hx hb dJ0_numberOfLeadingZeros_7 (by decide) (fun c_7 => ?_) (fun c_7 => ?_)
  · replace hr := hr.trans (if_neg c_7)
    refine lv_iload_n hx hb dJ0_numberOfLeadingZeros_21 rfl (lv_at hl 0 rfl) ?_
    refine g_RS (As := [.int v1]) (rest := []) hC (m_J1_numberOfLeadingZeros v1 _ rfl) (va_cwS 1 hts cw_J0_308 rfl rfl rfl hd_J1_numberOfLeadingZeros ⟨Nat.le_of_ble_eq_true rfl, Nat.le_of_ble_eq_true rfl⟩) g_Kst0 trivial trivial ⟨Nat.zero_le _, Nat.zero_le _⟩ rfl hl.1 rfl (Nat.le_of_ble_eq_true rfl) dJ0_numberOfLeadingZeros_22 ?_
    exact g_endRi hF hQ hr dJ0_numberOfLeadingZeros_25
  · replace hr := hr.trans (if_pos c_7)
    refine lv_bipush (v := (32 : Int32)) hx hb dJ0_numberOfLeadingZeros_10 bp_32 ?_
    refine lv_lload_n hx hb dJ0_numberOfLeadingZeros_12 rfl (lv_at hl 1 rfl) ?_
    refine lv_l2i (v := i.toInt32) hx hb dJ0_numberOfLeadingZeros_13 rfl ?_
    refine g_RS (As := [.int (i.toInt32)]) (rest := [.int (32 : Int32)]) hC (m_J1_numberOfLeadingZeros (i.toInt32) _ rfl) (va_cwS 1 hts cw_J0_308 rfl rfl rfl hd_J1_numberOfLeadingZeros ⟨Nat.le_of_ble_eq_true rfl, Nat.le_of_ble_eq_true rfl⟩) g_Kst0 trivial trivial ⟨Nat.zero_le _, Nat.zero_le _⟩ rfl hl.1 rfl (Nat.le_of_ble_eq_true rfl) dJ0_numberOfLeadingZeros_14 ?_
    refine lv_iadd hx hb dJ0_numberOfLeadingZeros_17 ?_
    refine lv_goto (tgt := 25) hx hb dJ0_numberOfLeadingZeros_18 (by decide) ?_
    exact g_endRi hF hQ hr dJ0_numberOfLeadingZeros_25
def j_ntz (i : Int64) : Int32 := bnd (α := Int32) ((i.toInt32)) fun v1 => if v1 = 0 then ((32 : Int32) + (j_ntz32 ((lushr_ i (32 : Int32)).toInt32))) else (j_ntz32 v1)
abbrev rm_J0_numberOfTrailingZeros : Room := { frames := 1, cells := 0, slots := 0, locals := 21 }
set_option maxHeartbeats 4000000 in
set_option maxRecDepth 100000 in
theorem m_J0_numberOfTrailingZeros {l : Launch} (i : Int64) (RES : Int32) (hr : RES = j_ntz i) : g_R l yJ0_numberOfTrailingZeros (ws_ yJ0_numberOfTrailingZeros cJ0_numberOfTrailingZeros 3 (some .int)) rm_J0_numberOfTrailingZeros [.long i] (fun _ => True) (fun _ => True) (.int RES) := by
  refine g_ofR (by decide) (Nat.le_of_ble_eq_true rfl) ?_
  intro p e s m args below meth c ls Q hF hB hKp hl hQ
  obtain ⟨hx, hb, -, -, hml, hown, hts⟩ := id hF
  have hown : s.vm.findClass RJ0 = some m.cls := hown
  have hC : CallFix p m c cJ0_numberOfTrailingZeros 3 s args lw_all RJ0 := ⟨hx, hb, hml, hown, hts⟩
  have hl : lv_has ls 3 [(0, .long i)] := hl
  unfold j_ntz at hr
  refine lv_lload_n hx hb dJ0_numberOfTrailingZeros_0 rfl (lv_at hl 0 rfl) ?_
  refine lv_l2i (v := i.toInt32) hx hb dJ0_numberOfTrailingZeros_1 rfl ?_
  refine lv_topi (fun v1 ev1 => ?_)
  replace hr := hr.trans (bnd_eq ev1)
  refine lv_istore_n (lv' := [(2, .int v1), (0, .long i)]) hx hb dJ0_numberOfTrailingZeros_2 rfl hl (by decide) rfl (fun ls hl => ?_)
  refine lv_iload_n hx hb dJ0_numberOfTrailingZeros_3 rfl (lv_at hl 0 rfl) ?_
  refine lv_if_ne (tgt := 21) hx hb dJ0_numberOfTrailingZeros_4 (by decide) (fun c_4 => ?_) (fun c_4 => ?_)
  · replace hr := hr.trans (if_neg c_4)
    refine lv_iload_n hx hb dJ0_numberOfTrailingZeros_21 rfl (lv_at hl 0 rfl) ?_
    refine g_RS (As := [.int v1]) (rest := []) hC (m_J1_numberOfTrailingZeros v1 _ rfl) (va_cwS 1 hts cw_J0_311 rfl rfl rfl hd_J1_numberOfTrailingZeros ⟨Nat.le_of_ble_eq_true rfl, Nat.le_of_ble_eq_true rfl⟩) g_Kst0 trivial trivial ⟨Nat.zero_le _, Nat.zero_le _⟩ rfl hl.1 rfl (Nat.le_of_ble_eq_true rfl) dJ0_numberOfTrailingZeros_22 ?_
    exact g_endRi hF hQ hr dJ0_numberOfTrailingZeros_25
  · replace hr := hr.trans (if_pos c_4)
    refine lv_bipush (v := (32 : Int32)) hx hb dJ0_numberOfTrailingZeros_7 bp_32 ?_
    refine lv_lload_n hx hb dJ0_numberOfTrailingZeros_9 rfl (lv_at hl 1 rfl) ?_
    refine lv_bipush (v := (32 : Int32)) hx hb dJ0_numberOfTrailingZeros_10 bp_32 ?_
    refine lv_lushr (v := (lushr_ i (32 : Int32))) hx hb dJ0_numberOfTrailingZeros_12 rfl ?_
    refine lv_l2i (v := (lushr_ i (32 : Int32)).toInt32) hx hb dJ0_numberOfTrailingZeros_13 rfl ?_
    refine g_RS (As := [.int ((lushr_ i (32 : Int32)).toInt32)]) (rest := [.int (32 : Int32)]) hC (m_J1_numberOfTrailingZeros ((lushr_ i (32 : Int32)).toInt32) _ rfl) (va_cwS 1 hts cw_J0_311 rfl rfl rfl hd_J1_numberOfTrailingZeros ⟨Nat.le_of_ble_eq_true rfl, Nat.le_of_ble_eq_true rfl⟩) g_Kst0 trivial trivial ⟨Nat.zero_le _, Nat.zero_le _⟩ rfl hl.1 rfl (Nat.le_of_ble_eq_true rfl) dJ0_numberOfTrailingZeros_14 ?_
    refine lv_iadd hx hb dJ0_numberOfTrailingZeros_17 ?_
    refine lv_goto (tgt := 25) hx hb dJ0_numberOfTrailingZeros_18 (by decide) ?_
    exact g_endRi hF hQ hr dJ0_numberOfTrailingZeros_25
def j_reverseBytes (i : Int64) : Int64 := bnd (α := Int64) (((lshl_ (i &&& (71777214294589695 : Int64)) (8 : Int32)) ||| ((lushr_ i (8 : Int32)) &&& (71777214294589695 : Int64)))) fun v1 => ((((lshl_ v1 (48 : Int32)) ||| (lshl_ (v1 &&& (4294901760 : Int64)) (16 : Int32))) ||| ((lushr_ v1 (16 : Int32)) &&& (4294901760 : Int64))) ||| (lushr_ v1 (48 : Int32)))
abbrev rm_J0_reverseBytes : Room := { frames := 0, cells := 0, slots := 0, locals := 0 }
set_option maxHeartbeats 4000000 in
set_option maxRecDepth 100000 in
theorem m_J0_reverseBytes {l : Launch} (i : Int64) (RES : Int64) (hr : RES = j_reverseBytes i) : g_R l yJ0_reverseBytes (ws_ yJ0_reverseBytes cJ0_reverseBytes 2 (some .long)) rm_J0_reverseBytes [.long i] (fun _ => True) (fun _ => True) (.long RES) := by
  refine g_ofR (by decide) (Nat.le_of_ble_eq_true rfl) ?_
  intro p e s m args below meth c ls Q hF hB hKp hl hQ
  obtain ⟨hx, hb, -, -, hml, hown, hts⟩ := id hF
  have hown : s.vm.findClass RJ0 = some m.cls := hown
  have hC : CallFix p m c cJ0_reverseBytes 2 s args lw_all RJ0 := ⟨hx, hb, hml, hown, hts⟩
  have hl : lv_has ls 2 [(0, .long i)] := hl
  unfold j_reverseBytes at hr
  refine lv_lload_n hx hb dJ0_reverseBytes_0 rfl (lv_at hl 0 rfl) ?_
  refine lv_ldc2 hx hb hown (hts _ q603) dJ0_reverseBytes_1 ?_
  refine lv_land hx hb dJ0_reverseBytes_4 ?_
  refine lv_bipush (v := (8 : Int32)) hx hb dJ0_reverseBytes_5 bp_8 ?_
  refine lv_lshl (v := (lshl_ (i &&& (71777214294589695 : Int64)) (8 : Int32))) hx hb dJ0_reverseBytes_7 rfl ?_
  refine lv_lload_n hx hb dJ0_reverseBytes_8 rfl (lv_at hl 0 rfl) ?_
  refine lv_bipush (v := (8 : Int32)) hx hb dJ0_reverseBytes_9 bp_8 ?_
  refine lv_lushr (v := (lushr_ i (8 : Int32))) hx hb dJ0_reverseBytes_11 rfl ?_
  refine lv_ldc2 hx hb hown (hts _ q603) dJ0_reverseBytes_12 ?_
  refine lv_land hx hb dJ0_reverseBytes_15 ?_
  refine lv_lor hx hb dJ0_reverseBytes_16 ?_
  refine lv_topl (fun v1 ev1 => ?_)
  replace hr := hr.trans (bnd_eq ev1)
  refine lv_lstore_n (lv' := [(0, .long v1)]) hx hb dJ0_reverseBytes_17 rfl hl (by decide) rfl (fun ls hl => ?_)
  refine lv_lload_n hx hb dJ0_reverseBytes_18 rfl (lv_at hl 0 rfl) ?_
  refine lv_bipush (v := (48 : Int32)) hx hb dJ0_reverseBytes_19 bp_48 ?_
  refine lv_lshl (v := (lshl_ v1 (48 : Int32))) hx hb dJ0_reverseBytes_21 rfl ?_
  refine lv_lload_n hx hb dJ0_reverseBytes_22 rfl (lv_at hl 0 rfl) ?_
  refine lv_ldc2 hx hb hown (hts _ q604) dJ0_reverseBytes_23 ?_
  refine lv_land hx hb dJ0_reverseBytes_26 ?_
  refine lv_bipush (v := (16 : Int32)) hx hb dJ0_reverseBytes_27 bp_16 ?_
  refine lv_lshl (v := (lshl_ (v1 &&& (4294901760 : Int64)) (16 : Int32))) hx hb dJ0_reverseBytes_29 rfl ?_
  refine lv_lor hx hb dJ0_reverseBytes_30 ?_
  refine lv_lload_n hx hb dJ0_reverseBytes_31 rfl (lv_at hl 0 rfl) ?_
  refine lv_bipush (v := (16 : Int32)) hx hb dJ0_reverseBytes_32 bp_16 ?_
  refine lv_lushr (v := (lushr_ v1 (16 : Int32))) hx hb dJ0_reverseBytes_34 rfl ?_
  refine lv_ldc2 hx hb hown (hts _ q604) dJ0_reverseBytes_35 ?_
  refine lv_land hx hb dJ0_reverseBytes_38 ?_
  refine lv_lor hx hb dJ0_reverseBytes_39 ?_
  refine lv_lload_n hx hb dJ0_reverseBytes_40 rfl (lv_at hl 0 rfl) ?_
  refine lv_bipush (v := (48 : Int32)) hx hb dJ0_reverseBytes_41 bp_48 ?_
  refine lv_lushr (v := (lushr_ v1 (48 : Int32))) hx hb dJ0_reverseBytes_43 rfl ?_
  refine lv_lor hx hb dJ0_reverseBytes_44 ?_
  exact g_endRl hF hQ hr dJ0_reverseBytes_45
def x_in (a : Int64) (low : Int64) (high : Int64) : Bool := if a < low then false else (if high ≤ a then false else true)
abbrev rm_X1_in : Room := { frames := 0, cells := 0, slots := 0, locals := 0 }
set_option maxHeartbeats 4000000 in
set_option maxRecDepth 100000 in
theorem m_X1_in {l : Launch} (a : Int64) (low : Int64) (high : Int64) (RES : Bool) (hr : RES = x_in a low high) : g_R l yX1_in (ws_ yX1_in cX1_in 6 (some .boolean)) rm_X1_in [.long a, .long low, .long high] (fun _ => True) (fun _ => True) (.int (b2i RES)) := by
  refine g_ofR (by decide) (Nat.le_of_ble_eq_true rfl) ?_
  intro p e s m args below meth c ls Q hF hB hKp hl hQ
  obtain ⟨hx, hb, -, -, hml, hown, hts⟩ := id hF
  have hown : s.vm.findClass RX1 = some m.cls := hown
  have hC : CallFix p m c cX1_in 6 s args lw_all RX1 := ⟨hx, hb, hml, hown, hts⟩
  have hl : lv_has ls 6 [(0, .long a), (2, .long low), (4, .long high)] := hl
  unfold x_in at hr
  refine lv_lload_n hx hb dX1_in_0 rfl (lv_at hl 0 rfl) ?_
  refine lv_lload_n hx hb dX1_in_1 rfl (lv_at hl 1 rfl) ?_
  refine lq_lt (tgt := 17) hx hb dX1_in_2 dX1_in_3 (by decide) (fun c_2 => ?_) (fun c_2 => ?_)
  · replace hr := hr.trans (if_pos c_2)
    refine lv_iconst (v := (0 : Int32)) hx hb dX1_in_17 ic_0 ?_
    exact g_endRz hF hQ hr rfl dX1_in_18
  · replace hr := hr.trans (if_neg c_2)
    refine lv_lload_n hx hb dX1_in_6 rfl (lv_at hl 0 rfl) ?_
    refine lv_lload hx hb dX1_in_7 (lv_at hl 2 rfl) ?_
    refine lq_ge (tgt := 17) hx hb dX1_in_9 dX1_in_10 (by decide) (fun c_9 => ?_) (fun c_9 => ?_)
    · replace hr := hr.trans (if_pos c_9)
      refine lv_iconst (v := (0 : Int32)) hx hb dX1_in_17 ic_0 ?_
      exact g_endRz hF hQ hr rfl dX1_in_18
    · replace hr := hr.trans (if_neg c_9)
      refine lv_iconst (v := (1 : Int32)) hx hb dX1_in_13 ic_1 ?_
      refine lv_goto (tgt := 18) hx hb dX1_in_14 (by decide) ?_
      exact g_endRz hF hQ hr rfl dX1_in_18
def x_where (K : XK) (a : Int64) (w : Bool) : Int32 := if (b2i (x_in a (2147414016 : Int64) (2147479552 : Int64))) = 0 then (if (b2i (x_in a (kx_heap K) (kx_broken K))) = 0 then (bnd (α := Bool) (if (b2i (x_in a ((kx_dataBegin K).toInt64) ((kx_dataEnd K).toInt64))) = 0 then (if (b2i w) = 0 then (if (b2i (x_in a (4194304 : Int64) ((kx_textEnd K).toInt64))) = 0 then (if (b2i (x_in a ((kx_rodataBegin K).toInt64) ((kx_rodataEnd K).toInt64))) = 0 then false else true) else true) else false) else true) fun p1 => if (b2i p1) = 0 then (-1 : Int32) else ((a - (4194304 : Int64)).toInt32)) else ((262144 : Int32) + ((a - (kx_heap K)).toInt32))) else ((327680 : Int32) + (((a - (2147479552 : Int64)) + (65536 : Int64)).toInt32))
abbrev rm_X1_where : Room := { frames := 1, cells := 0, slots := 0, locals := 25 }
set_option maxHeartbeats 4000000 in
set_option maxRecDepth 100000 in
theorem m_X1_where {l : Launch} {D : va_G} {ad : Nat → Nat} {ca : Nat → ClassId} {K : XK} {d : XD} (a : Int64) (w : Bool) (RES : Int32) (hr : RES = x_where K a w) : g_R l yX1_where (ws_ yX1_where cX1_where 5 (some .int)) rm_X1_where [.ref (ad 2), .long a, .int (b2i w)] (xKp D ca) (xB D ad ca K d) (.int RES) := by
  refine g_ofR (by decide) (Nat.le_of_ble_eq_true rfl) ?_
  intro p e s m args below meth c ls Q hF hB hKp hl hQ
  obtain ⟨hx, hb, -, -, hml, hown, hts⟩ := id hF
  have hown : s.vm.findClass RX1 = some m.cls := hown
  have hC : CallFix p m c cX1_where 5 s args lw_all RX1 := ⟨hx, hb, hml, hown, hts⟩
  obtain ⟨hK, hN⟩ := id hKp
  have hP : va_P D xcl (XW ad ca K d) s.heap := hB
  have hl : lv_has ls 5 [(0, .ref (ad 2)), (1, .long a), (3, .int (b2i w))] := hl
  unfold x_where at hr
  refine lv_lload_n hx hb dX1_where_0 rfl (lv_at hl 1 rfl) ?_
  refine lv_ldc2 hx hb hown (hts _ q404) dX1_where_1 ?_
  refine lv_ldc2 hx hb hown (hts _ q405) dX1_where_4 ?_
  refine g_RS (As := [.long a, .long (2147414016 : Int64), .long (2147479552 : Int64)]) (rest := []) hC (m_X1_in a (2147414016 : Int64) (2147479552 : Int64) _ rfl) (va_cwS 3 hts cw_X1_56 rfl rfl rfl hd_X1_in ⟨Nat.le_of_ble_eq_true rfl, Nat.le_of_ble_eq_true rfl⟩) g_Kst0 trivial trivial ⟨Nat.zero_le _, Nat.zero_le _⟩ rfl hl.1 rfl (Nat.le_of_ble_eq_true rfl) dX1_where_7 ?_
  refine lv_if_eq (tgt := 29) hx hb dX1_where_10 (by decide) (fun c_10 => ?_) (fun c_10 => ?_)
  · replace hr := hr.trans (if_pos c_10)
    refine lv_lload_n hx hb dX1_where_29 rfl (lv_at hl 1 rfl) ?_
    refine lv_aload_n hx hb dX1_where_30 rfl (lv_at hl 0 rfl) ?_
    refine xg_2_8 hx hb hts hown hK hP (hts _ q120) dX1_where_31 ?_
    refine lv_aload_n hx hb dX1_where_34 rfl (lv_at hl 0 rfl) ?_
    refine xg_2_9 hx hb hts hown hK hP (hts _ q121) dX1_where_35 ?_
    refine g_RS (As := [.long a, .long (kx_heap K), .long (kx_broken K)]) (rest := []) hC (m_X1_in a (kx_heap K) (kx_broken K) _ rfl) (va_cwS 3 hts cw_X1_56 rfl rfl rfl hd_X1_in ⟨Nat.le_of_ble_eq_true rfl, Nat.le_of_ble_eq_true rfl⟩) g_Kst0 trivial trivial ⟨Nat.zero_le _, Nat.zero_le _⟩ rfl hl.1 rfl (Nat.le_of_ble_eq_true rfl) dX1_where_38 ?_
    refine lv_if_eq (tgt := 57) hx hb dX1_where_41 (by decide) (fun c_41 => ?_) (fun c_41 => ?_)
    · replace hr := hr.trans (if_pos c_41)
      refine lv_lload_n hx hb dX1_where_57 rfl (lv_at hl 1 rfl) ?_
      refine lv_aload_n hx hb dX1_where_58 rfl (lv_at hl 0 rfl) ?_
      refine xg_2_6 hx hb hts hown hK hP (hts _ q118) dX1_where_59 ?_
      refine lv_i2l (v := (kx_dataBegin K).toInt64) hx hb dX1_where_62 rfl ?_
      refine lv_aload_n hx hb dX1_where_63 rfl (lv_at hl 0 rfl) ?_
      refine xg_2_7 hx hb hts hown hK hP (hts _ q119) dX1_where_64 ?_
      refine lv_i2l (v := (kx_dataEnd K).toInt64) hx hb dX1_where_67 rfl ?_
      refine g_RS (As := [.long a, .long ((kx_dataBegin K).toInt64), .long ((kx_dataEnd K).toInt64)]) (rest := []) hC (m_X1_in a ((kx_dataBegin K).toInt64) ((kx_dataEnd K).toInt64) _ rfl) (va_cwS 3 hts cw_X1_56 rfl rfl rfl hd_X1_in ⟨Nat.le_of_ble_eq_true rfl, Nat.le_of_ble_eq_true rfl⟩) g_Kst0 trivial trivial ⟨Nat.zero_le _, Nat.zero_le _⟩ rfl hl.1 rfl (Nat.le_of_ble_eq_true rfl) dX1_where_68 ?_
      obtain ⟨p1, ep1⟩ : ∃ z : Bool, z = (if (b2i (x_in a ((kx_dataBegin K).toInt64) ((kx_dataEnd K).toInt64))) = 0 then (if (b2i w) = 0 then (if (b2i (x_in a (4194304 : Int64) ((kx_textEnd K).toInt64))) = 0 then (if (b2i (x_in a ((kx_rodataBegin K).toInt64) ((kx_rodataEnd K).toInt64))) = 0 then false else true) else true) else false) else true) := ⟨_, rfl⟩
      replace hr := hr.trans (bnd_eq ep1)
      have kp1 : ∀ (ls : Array Slot), lv_has ls 5 [(0, .ref (ad 2)), (1, .long a), (3, .int (b2i w))] → W p l e rm_X1_where s m args below meth c s.heap [] 0 0 Q (F0 m 115 ls [.int (b2i p1)]) := by
        intro ls hl
        refine lv_istore (lv' := [(4, .int (b2i p1)), (0, .ref (ad 2)), (1, .long a), (3, .int (b2i w))]) hx hb dX1_where_115 hl (by decide) rfl (fun ls hl => ?_)
        refine lv_iload hx hb dX1_where_117 (lv_at hl 0 rfl) ?_
        refine lv_if_eq (tgt := 131) hx hb dX1_where_119 (by decide) (fun c_119 => ?_) (fun c_119 => ?_)
        · replace hr := hr.trans (if_pos c_119)
          refine lv_iconst (v := (-1 : Int32)) hx hb dX1_where_131 ic_m1 ?_
          exact g_endRi hF hQ hr dX1_where_132
        · replace hr := hr.trans (if_neg c_119)
          refine lv_lload_n hx hb dX1_where_122 rfl (lv_at hl 2 rfl) ?_
          refine lv_ldc2 hx hb hown (hts _ q108) dX1_where_123 ?_
          refine lv_lsub hx hb dX1_where_126 ?_
          refine lv_l2i (v := (a - (4194304 : Int64)).toInt32) hx hb dX1_where_127 rfl ?_
          refine lv_goto (tgt := 132) hx hb dX1_where_128 (by decide) ?_
          exact g_endRi hF hQ hr dX1_where_132
      replace hr := ep1
      refine lv_if_ne (tgt := 110) hx hb dX1_where_71 (by decide) (fun c_71 => ?_) (fun c_71 => ?_)
      · replace hr := hr.trans (if_neg c_71)
        refine lv_iconst (v := (1 : Int32)) hx hb dX1_where_110 ic_1 ?_
        refine lv_goto (tgt := 115) hx hb dX1_where_111 (by decide) ?_
        subst hr
        exact kp1 ls (lv_sub hl [0, 1, 2] rfl)
      · replace hr := hr.trans (if_pos c_71)
        refine lv_iload_n hx hb dX1_where_74 rfl (lv_at hl 2 rfl) ?_
        refine lv_if_ne (tgt := 114) hx hb dX1_where_75 (by decide) (fun c_75 => ?_) (fun c_75 => ?_)
        · replace hr := hr.trans (if_neg c_75)
          refine lv_iconst (v := (0 : Int32)) hx hb dX1_where_114 ic_0 ?_
          subst hr
          exact kp1 ls (lv_sub hl [0, 1, 2] rfl)
        · replace hr := hr.trans (if_pos c_75)
          refine lv_lload_n hx hb dX1_where_78 rfl (lv_at hl 1 rfl) ?_
          refine lv_ldc2 hx hb hown (hts _ q108) dX1_where_79 ?_
          refine lv_aload_n hx hb dX1_where_82 rfl (lv_at hl 0 rfl) ?_
          refine xg_2_3 hx hb hts hown hK hP (hts _ q115) dX1_where_83 ?_
          refine lv_i2l (v := (kx_textEnd K).toInt64) hx hb dX1_where_86 rfl ?_
          refine g_RS (As := [.long a, .long (4194304 : Int64), .long ((kx_textEnd K).toInt64)]) (rest := []) hC (m_X1_in a (4194304 : Int64) ((kx_textEnd K).toInt64) _ rfl) (va_cwS 3 hts cw_X1_56 rfl rfl rfl hd_X1_in ⟨Nat.le_of_ble_eq_true rfl, Nat.le_of_ble_eq_true rfl⟩) g_Kst0 trivial trivial ⟨Nat.zero_le _, Nat.zero_le _⟩ rfl hl.1 rfl (Nat.le_of_ble_eq_true rfl) dX1_where_87 ?_
          refine lv_if_ne (tgt := 110) hx hb dX1_where_90 (by decide) (fun c_90 => ?_) (fun c_90 => ?_)
          · replace hr := hr.trans (if_neg c_90)
            refine lv_iconst (v := (1 : Int32)) hx hb dX1_where_110 ic_1 ?_
            refine lv_goto (tgt := 115) hx hb dX1_where_111 (by decide) ?_
            subst hr
            exact kp1 ls (lv_sub hl [0, 1, 2] rfl)
          · replace hr := hr.trans (if_pos c_90)
            refine lv_lload_n hx hb dX1_where_93 rfl (lv_at hl 1 rfl) ?_
            refine lv_aload_n hx hb dX1_where_94 rfl (lv_at hl 0 rfl) ?_
            refine xg_2_4 hx hb hts hown hK hP (hts _ q116) dX1_where_95 ?_
            refine lv_i2l (v := (kx_rodataBegin K).toInt64) hx hb dX1_where_98 rfl ?_
            refine lv_aload_n hx hb dX1_where_99 rfl (lv_at hl 0 rfl) ?_
            refine xg_2_5 hx hb hts hown hK hP (hts _ q117) dX1_where_100 ?_
            refine lv_i2l (v := (kx_rodataEnd K).toInt64) hx hb dX1_where_103 rfl ?_
            refine g_RS (As := [.long a, .long ((kx_rodataBegin K).toInt64), .long ((kx_rodataEnd K).toInt64)]) (rest := []) hC (m_X1_in a ((kx_rodataBegin K).toInt64) ((kx_rodataEnd K).toInt64) _ rfl) (va_cwS 3 hts cw_X1_56 rfl rfl rfl hd_X1_in ⟨Nat.le_of_ble_eq_true rfl, Nat.le_of_ble_eq_true rfl⟩) g_Kst0 trivial trivial ⟨Nat.zero_le _, Nat.zero_le _⟩ rfl hl.1 rfl (Nat.le_of_ble_eq_true rfl) dX1_where_104 ?_
            refine lv_if_eq (tgt := 114) hx hb dX1_where_107 (by decide) (fun c_107 => ?_) (fun c_107 => ?_)
            · replace hr := hr.trans (if_pos c_107)
              refine lv_iconst (v := (0 : Int32)) hx hb dX1_where_114 ic_0 ?_
              subst hr
              exact kp1 ls (lv_sub hl [0, 1, 2] rfl)
            · replace hr := hr.trans (if_neg c_107)
              refine lv_iconst (v := (1 : Int32)) hx hb dX1_where_110 ic_1 ?_
              refine lv_goto (tgt := 115) hx hb dX1_where_111 (by decide) ?_
              subst hr
              exact kp1 ls (lv_sub hl [0, 1, 2] rfl)
    · replace hr := hr.trans (if_neg c_41)
      refine lv_aload_n hx hb dX1_where_44 rfl (lv_at hl 0 rfl) ?_
      refine xg_2_1 hx hb hts hown hK hP (hts _ q113) dX1_where_45 ?_
      refine lv_lload_n hx hb dX1_where_48 rfl (lv_at hl 1 rfl) ?_
      refine lv_aload_n hx hb dX1_where_49 rfl (lv_at hl 0 rfl) ?_
      refine xg_2_8 hx hb hts hown hK hP (hts _ q120) dX1_where_50 ?_
      refine lv_lsub hx hb dX1_where_53 ?_
      refine lv_l2i (v := (a - (kx_heap K)).toInt32) hx hb dX1_where_54 rfl ?_
      refine lv_iadd hx hb dX1_where_55 ?_
      exact g_endRi hF hQ hr dX1_where_56
  · replace hr := hr.trans (if_neg c_10)
    refine lv_aload_n hx hb dX1_where_13 rfl (lv_at hl 0 rfl) ?_
    refine xg_2_2 hx hb hts hown hK hP (hts _ q114) dX1_where_14 ?_
    refine lv_lload_n hx hb dX1_where_17 rfl (lv_at hl 1 rfl) ?_
    refine lv_ldc2 hx hb hown (hts _ q405) dX1_where_18 ?_
    refine lv_lsub hx hb dX1_where_21 ?_
    refine lv_ldc2 hx hb hown (hts _ q409) dX1_where_22 ?_
    refine lv_ladd hx hb dX1_where_25 ?_
    refine lv_l2i (v := ((a - (2147479552 : Int64)) + (65536 : Int64)).toInt32) hx hb dX1_where_26 rfl ?_
    refine lv_iadd hx hb dX1_where_27 ?_
    exact g_endRi hF hQ hr dX1_where_28
