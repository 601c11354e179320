def x_read_L6 (K : XK) (a : Int64) (sz : Int32) (d : XD) : Nat → Int64 → Int32 → Int64
  | 0, w6_4, w6_6 => 0
  | n + 1, w6_4, w6_6 => if sz ≤ w6_6 then w6_4 else (bnd (α := Int64) ((w6_4 ||| (lshl_ ((((dx_bytes d) (x_where K (a + (w6_6.toInt64)) false).toNatClampNeg).toInt64) &&& (255 : Int64)) ((8 : Int32) * w6_6)))) fun v1 => bnd (α := Int32) ((w6_6 + (1 : Int32))) fun v2 => x_read_L6 K a sz d n v1 v2)
theorem x_read_L6_s (K : XK) (a : Int64) (sz : Int32) (d : XD) (n : Nat) (w6_4 : Int64) (w6_6 : Int32) : x_read_L6 K a sz d (n + 1) w6_4 w6_6 = if sz ≤ w6_6 then w6_4 else (bnd (α := Int64) ((w6_4 ||| (lshl_ ((((dx_bytes d) (x_where K (a + (w6_6.toInt64)) false).toNatClampNeg).toInt64) &&& (255 : Int64)) ((8 : Int32) * w6_6)))) fun v1 => bnd (α := Int32) ((w6_6 + (1 : Int32))) fun v2 => x_read_L6 K a sz d n v1 v2) := rfl
def x_read (K : XK) (a : Int64) (sz : Int32) (d : XD) : Int64 := x_read_L6 K a sz d (mI (0 : Int32) sz + 1) (0 : Int64) (0 : Int32)
abbrev rm_X1_read : Room := { frames := 2, cells := 0, slots := 0, locals := 49 }
set_option maxHeartbeats 4000000 in
set_option maxRecDepth 100000 in
theorem m_X1_read {l : Launch} {D : va_G} {ad : Nat → Nat} {ca : Nat → ClassId} {K : XK} {d : XD} (a : Int64) (sz : Int32) (RES : Int64) (hr : RES = x_read K a sz d) (hlay : XLay K) (hh : ∀ j : Int32, 0 ≤ j → ¬ sz ≤ j → 0 ≤ x_where K (a + j.toInt64) false) : g_R l yX1_read (ws_ yX1_read cX1_read 7 (some .long)) rm_X1_read [.ref (ad 2), .long a, .int sz] (xKp D ca) (xB D ad ca K d) (.long RES) := by
  refine g_ofR (by decide) (Nat.le_of_ble_eq_true rfl) ?_
  intro p e s m args below meth c ls Q hF hB hKp hl hQ
  obtain ⟨hx, hb, -, -, hml, hown, hts⟩ := id hF
  have hown : s.vm.findClass RX1 = some m.cls := hown
  have hC : CallFix p m c cX1_read 7 s args lw_all RX1 := ⟨hx, hb, hml, hown, hts⟩
  obtain ⟨hK, hN⟩ := id hKp
  have hP : va_P D xcl (XW ad ca K d) s.heap := hB
  have hl : lv_has ls 7 [(0, .ref (ad 2)), (1, .long a), (3, .int sz)] := hl
  unfold x_read at hr
  refine lv_lconst (v := (0 : Int64)) hx hb dX1_read_0 lc_0 ?_
  refine lv_lstore (lv' := [(4, .long (0 : Int64)), (0, .ref (ad 2)), (1, .long a), (3, .int sz)]) hx hb dX1_read_1 hl (by decide) rfl (fun ls hl => ?_)
  refine lv_iconst (v := (0 : Int32)) hx hb dX1_read_3 ic_0 ?_
  refine lv_istore (lv' := [(6, .int (0 : Int32)), (4, .long (0 : Int64)), (0, .ref (ad 2)), (1, .long a), (3, .int sz)]) hx hb dX1_read_4 hl (by decide) rfl (fun ls hl => ?_)
  have lp6 : ∀ (n : Nat) (w6_4 : Int64) (w6_6 : Int32) (ls : Array Slot), mI w6_6 sz < n → (0 ≤ w6_6) → RES = x_read_L6 K a sz d n w6_4 w6_6 → lv_has ls 7 [(6, .int w6_6), (4, .long w6_4), (0, .ref (ad 2)), (1, .long a), (3, .int sz)] → W p l e rm_X1_read s m args below meth c s.heap [] 0 0 Q (F0 m 6 ls []) := by
    intro n
    induction n with
    | zero =>
      intro w6_4 w6_6 ls hm
      exact absurd hm (Nat.not_lt_zero _)
    | succ n ih =>
      intro w6_4 w6_6 ls hm h0 hr hl
      replace hr := hr.trans (x_read_L6_s K a sz d n w6_4 w6_6)
      refine lv_iload hx hb dX1_read_6 (lv_at hl 0 rfl) ?_
      refine lv_iload_n hx hb dX1_read_8 rfl (lv_at hl 4 rfl) ?_
      refine lv_icmp_ge (tgt := 49) hx hb dX1_read_9 (by decide) (fun c_9 => ?_) (fun c_9 => ?_)
      · replace hr := hr.trans (if_pos c_9)
        refine lv_lload hx hb dX1_read_49 (lv_at hl 1 rfl) ?_
        exact g_endRl hF hQ hr dX1_read_51
      · replace hr := hr.trans (if_neg c_9)
        refine lv_lload hx hb dX1_read_12 (lv_at hl 1 rfl) ?_
        refine lv_aload_n hx hb dX1_read_14 rfl (lv_at hl 2 rfl) ?_
        refine xg_2_0 hx hb hts hown hK hP (hts _ q110) dX1_read_15 ?_
        refine lv_aload_n hx hb dX1_read_18 rfl (lv_at hl 2 rfl) ?_
        refine lv_lload_n hx hb dX1_read_19 rfl (lv_at hl 3 rfl) ?_
        refine lv_iload hx hb dX1_read_20 (lv_at hl 0 rfl) ?_
        refine lv_i2l (v := w6_6.toInt64) hx hb dX1_read_22 rfl ?_
        refine lv_ladd hx hb dX1_read_23 ?_
        refine lv_iconst (v := (0 : Int32)) hx hb dX1_read_24 ic_0 ?_
        refine g_RV (As := [.long (a + (w6_6.toInt64)), .int (b2i false)]) (rest := [.ref (ad 3), .long w6_4]) hC (m_X1_where (K := K) (d := d) (a + (w6_6.toInt64)) false _ rfl) (cwV 2 hts cw_X1_62 rfl rfl rfl hd_X1_where ⟨Nat.le_of_ble_eq_true rfl, Nat.le_of_ble_eq_true rfl⟩) xKst (va_recv hK hP (ci := 1) (q0 := 2) rfl rfl) hP hKp ⟨Nat.zero_le _, Nat.zero_le _⟩ rfl hl.1 rfl (Nat.le_of_ble_eq_true rfl) dX1_read_25 ?_
        refine xl_3 hx hb hK hP (x_where_in hlay (hh _ h0 c_9)) dX1_read_28 ?_
        refine lv_i2l (v := ((dx_bytes d) (x_where K (a + (w6_6.toInt64)) false).toNatClampNeg).toInt64) hx hb dX1_read_29 rfl ?_
        refine lv_ldc2 hx hb hown (hts _ q414) dX1_read_30 ?_
        refine lv_land hx hb dX1_read_33 ?_
        refine lv_bipush (v := (8 : Int32)) hx hb dX1_read_34 bp_8 ?_
        refine lv_iload hx hb dX1_read_36 (lv_at hl 0 rfl) ?_
        refine lv_imul hx hb dX1_read_38 ?_
        refine lv_lshl (v := (lshl_ ((((dx_bytes d) (x_where K (a + (w6_6.toInt64)) false).toNatClampNeg).toInt64) &&& (255 : Int64)) ((8 : Int32) * w6_6))) hx hb dX1_read_39 rfl ?_
        refine lv_lor hx hb dX1_read_40 ?_
        refine lv_topl (fun v1 ev1 => ?_)
        replace hr := hr.trans (bnd_eq ev1)
        refine lv_lstore (lv' := [(4, .long v1), (6, .int w6_6), (0, .ref (ad 2)), (1, .long a), (3, .int sz)]) hx hb dX1_read_41 hl (by decide) rfl (fun ls hl => ?_)
        obtain ⟨v2, ev2⟩ : ∃ z : Int32, z = (w6_6 + (1 : Int32)) := ⟨_, rfl⟩
        replace hr := hr.trans (bnd_eq ev2)
        refine lv_iinc (v := v2) (lv' := [(6, .int v2), (4, .long v1), (0, .ref (ad 2)), (1, .long a), (3, .int sz)]) hx hb dX1_read_43 hl (k := 1) rfl (by rw [ev2, ← ic_1]) (by decide) rfl (fun ls hl => ?_)
        refine lv_goto (tgt := 6) hx hb dX1_read_46 (by decide) ?_
        exact ih v1 v2 ls (mI_dec c_9 hm ev2) (i_nn h0 c_9 ev2) hr (lv_sub hl [0, 1, 2, 3, 4] rfl)
  exact lp6 (mI (0 : Int32) sz + 1) (0 : Int64) (0 : Int32) ls (Nat.lt_succ_self _) (by decide) hr (lv_sub hl [0, 1, 2, 3, 4] rfl)
def x_write_L3 (K : XK) (a : Int64) (sz : Int32) (v : Int64) : Nat → Int32 → XD → XD
  | 0, w3_6, dl3 => dl3
  | n + 1, w3_6, dl3 => if sz ≤ w3_6 then dl3 else (bnd (dx_bytes_ (upd (dx_bytes dl3) (x_where K (a + (w3_6.toInt64)) true).toNatClampNeg (vp_nar .byte (((lshr_ v ((8 : Int32) * w3_6)).toInt32).toInt8.toInt32))) dl3) fun d1 => bnd (α := Int32) ((w3_6 + (1 : Int32))) fun v2 => x_write_L3 K a sz v n v2 d1)
theorem x_write_L3_s (K : XK) (a : Int64) (sz : Int32) (v : Int64) (n : Nat) (w3_6 : Int32) (dl3 : XD) : x_write_L3 K a sz v (n + 1) w3_6 dl3 = if sz ≤ w3_6 then dl3 else (bnd (dx_bytes_ (upd (dx_bytes dl3) (x_where K (a + (w3_6.toInt64)) true).toNatClampNeg (vp_nar .byte (((lshr_ v ((8 : Int32) * w3_6)).toInt32).toInt8.toInt32))) dl3) fun d1 => bnd (α := Int32) ((w3_6 + (1 : Int32))) fun v2 => x_write_L3 K a sz v n v2 d1) := rfl
def x_write (K : XK) (a : Int64) (sz : Int32) (v : Int64) (d : XD) : XD := x_write_L3 K a sz v (mI (0 : Int32) sz + 1) (0 : Int32) d
abbrev rm_X1_write : Room := { frames := 2, cells := 0, slots := 0, locals := 49 }
set_option maxHeartbeats 4000000 in
set_option maxRecDepth 100000 in
theorem m_X1_write {l : Launch} {D : va_G} {ad : Nat → Nat} {ca : Nat → ClassId} (hI : xInj ad) {K : XK} {d : XD} (a : Int64) (sz : Int32) (v : Int64) (RES : XD) (hr : RES = x_write K a sz v d) (hlay : XLay K) (hh : ∀ j : Int32, 0 ≤ j → ¬ sz ≤ j → 0 ≤ x_where K (a + j.toInt64) true) : g_U l yX1_write (ws_ yX1_write cX1_write 7 none) rm_X1_write [.ref (ad 2), .long a, .int sz, .long v] (xKp D ca) (xB D ad ca K d) none (xB D ad ca K RES) (xA ad) := by
  refine g_ofU (by decide) (Nat.le_of_ble_eq_true rfl) ?_
  intro p e s m args below meth c ls Q hF hB hKp hl hQ
  obtain ⟨hx, hb, -, -, hml, hown, hts⟩ := id hF
  have hown : s.vm.findClass RX1 = some m.cls := hown
  have hC : CallFix p m c cX1_write 7 s args lw_all RX1 := ⟨hx, hb, hml, hown, hts⟩
  obtain ⟨hK, hN⟩ := id hKp
  have hP : va_P D xcl (XW ad ca K d) s.heap := hB
  have hS : va_S (xA ad) s.heap s.heap [] := va_S.rf
  have hl : lv_has ls 7 [(0, .ref (ad 2)), (1, .long a), (3, .int sz), (4, .long v)] := hl
  unfold x_write at hr
  refine lv_iconst (v := (0 : Int32)) hx hb dX1_write_0 ic_0 ?_
  refine lv_istore (lv' := [(6, .int (0 : Int32)), (0, .ref (ad 2)), (1, .long a), (3, .int sz), (4, .long v)]) hx hb dX1_write_1 hl (by decide) rfl (fun ls hl => ?_)
  have lp3 : ∀ (n : Nat) (w3_6 : Int32) (dl3 : XD) (H : Heap) (locs : List Loc) (ls : Array Slot), mI w3_6 sz < n → (0 ≤ w3_6) → RES = x_write_L3 K a sz v n w3_6 dl3 → va_P D xcl (XW ad ca K dl3) H → va_S (xA ad) s.heap H locs → lv_has ls 7 [(6, .int w3_6), (0, .ref (ad 2)), (1, .long a), (3, .int sz), (4, .long v)] → W p l e rm_X1_write s m args below meth c H locs 0 0 Q (F0 m 3 ls []) := by
    intro n
    induction n with
    | zero =>
      intro w3_6 dl3 H locs ls hm
      exact absurd hm (Nat.not_lt_zero _)
    | succ n ih =>
      intro w3_6 dl3 H locs ls hm h0 hr hP hS hl
      replace hr := hr.trans (x_write_L3_s K a sz v n w3_6 dl3)
      refine lv_iload hx hb dX1_write_3 (lv_at hl 0 rfl) ?_
      refine lv_iload_n hx hb dX1_write_5 rfl (lv_at hl 3 rfl) ?_
      refine lv_icmp_ge (tgt := 40) hx hb dX1_write_6 (by decide) (fun c_6 => ?_) (fun c_6 => ?_)
      · replace hr := hr.trans (if_pos c_6)
        exact g_endUv (Pic := (fun u => xB D ad ca K u)) (u := dl3) hF hQ hr hP hS dX1_write_40
      · replace hr := hr.trans (if_neg c_6)
        refine lv_aload_n hx hb dX1_write_9 rfl (lv_at hl 1 rfl) ?_
        refine xg_2_0 hx hb hts hown hK hP (hts _ q110) dX1_write_10 ?_
        refine lv_aload_n hx hb dX1_write_13 rfl (lv_at hl 1 rfl) ?_
        refine lv_lload_n hx hb dX1_write_14 rfl (lv_at hl 2 rfl) ?_
        refine lv_iload hx hb dX1_write_15 (lv_at hl 0 rfl) ?_
        refine lv_i2l (v := w3_6.toInt64) hx hb dX1_write_17 rfl ?_
        refine lv_ladd hx hb dX1_write_18 ?_
        refine lv_iconst (v := (1 : Int32)) hx hb dX1_write_19 ic_1 ?_
        refine g_RV (As := [.long (a + (w3_6.toInt64)), .int (b2i true)]) (rest := [.ref (ad 3)]) hC (m_X1_where (K := K) (d := dl3) (a + (w3_6.toInt64)) true _ rfl) (cwV 2 hts cw_X1_62 rfl rfl rfl hd_X1_where ⟨Nat.le_of_ble_eq_true rfl, Nat.le_of_ble_eq_true rfl⟩) xKst (va_recv hK hP (ci := 1) (q0 := 2) rfl rfl) hP hKp ⟨Nat.zero_le _, Nat.zero_le _⟩ rfl hl.1 rfl (Nat.le_of_ble_eq_true rfl) dX1_write_20 ?_
        refine lv_lload hx hb dX1_write_23 (lv_at hl 4 rfl) ?_
        refine lv_bipush (v := (8 : Int32)) hx hb dX1_write_25 bp_8 ?_
        refine lv_iload hx hb dX1_write_27 (lv_at hl 0 rfl) ?_
        refine lv_imul hx hb dX1_write_29 ?_
        refine lv_lshr (v := (lshr_ v ((8 : Int32) * w3_6))) hx hb dX1_write_30 rfl ?_
        refine lv_l2i (v := (lshr_ v ((8 : Int32) * w3_6)).toInt32) hx hb dX1_write_31 rfl ?_
        refine lv_i2b (v := ((lshr_ v ((8 : Int32) * w3_6)).toInt32).toInt8.toInt32) hx hb dX1_write_32 rfl ?_
        refine xs_3 hx hb hK hI hP hS (x_where_in hlay (hh _ h0 c_6)) dX1_write_33 (fun d1 ed1 H locs hP hS => ?_)
        replace hr := hr.trans (bnd_eq ed1)
        obtain ⟨v2, ev2⟩ : ∃ z : Int32, z = (w3_6 + (1 : Int32)) := ⟨_, rfl⟩
        replace hr := hr.trans (bnd_eq ev2)
        refine lv_iinc (v := v2) (lv' := [(6, .int v2), (0, .ref (ad 2)), (1, .long a), (3, .int sz), (4, .long v)]) hx hb dX1_write_34 hl (k := 0) rfl (by rw [ev2, ← ic_1]) (by decide) rfl (fun ls hl => ?_)
        refine lv_goto (tgt := 3) hx hb dX1_write_37 (by decide) ?_
        exact ih v2 d1 _ _ ls (mI_dec c_6 hm ev2) (i_nn h0 c_6 ev2) hr hP hS (lv_sub hl [0, 1, 2, 3, 4] rfl)
  exact lp3 (mI (0 : Int32) sz + 1) (0 : Int32) d _ _ ls (Nat.lt_succ_self _) (by decide) hr hP hS (lv_sub hl [0, 1, 2, 3, 4] rfl)
def x_moveBreak_L29 (K : XK) (to : Int64) : Nat → Int64 → XD → Int64 × (XK × XD)
  | 0, w29_3, dl29 => (0, (K, dl29))
  | n + 1, w29_3, dl29 => if (kx_broken K) ≤ w29_3 then (bnd (kx_broken_ to K) fun K1 => ((kx_broken K1), (K1, dl29))) else (bnd (dx_bytes_ (upd (dx_bytes dl29) ((262144 : Int32) + ((w29_3 - (kx_heap K)).toInt32)).toNatClampNeg (vp_nar .byte (0 : Int32))) dl29) fun d2 => bnd (α := Int64) ((w29_3 + (1 : Int64))) fun v3 => x_moveBreak_L29 K to n v3 d2)
theorem x_moveBreak_L29_s (K : XK) (to : Int64) (n : Nat) (w29_3 : Int64) (dl29 : XD) : x_moveBreak_L29 K to (n + 1) w29_3 dl29 = if (kx_broken K) ≤ w29_3 then (bnd (kx_broken_ to K) fun K1 => ((kx_broken K1), (K1, dl29))) else (bnd (dx_bytes_ (upd (dx_bytes dl29) ((262144 : Int32) + ((w29_3 - (kx_heap K)).toInt32)).toNatClampNeg (vp_nar .byte (0 : Int32))) dl29) fun d2 => bnd (α := Int64) ((w29_3 + (1 : Int64))) fun v3 => x_moveBreak_L29 K to n v3 d2) := rfl
def x_moveBreak (K : XK) (to : Int64) (d : XD) : Int64 × (XK × XD) := if to < (kx_heap K) then ((kx_broken K), (K, d)) else (if to ≤ ((kx_heap K) + (65536 : Int64)) then (x_moveBreak_L29 K to (mL to (kx_broken K) + 1) to d) else ((kx_broken K), (K, d)))
abbrev rm_X1_moveBreak : Room := { frames := 0, cells := 0, slots := 0, locals := 0 }
set_option maxHeartbeats 4000000 in
set_option maxRecDepth 100000 in
theorem m_X1_moveBreak {l : Launch} {D : va_G} {ad : Nat → Nat} {ca : Nat → ClassId} (hI : xInj ad) {K : XK} {d : XD} (to : Int64) (RES : Int64 × (XK × XD)) (hr : RES = x_moveBreak K to d) (hlay : XLay K) : g_U l yX1_moveBreak (ws_ yX1_moveBreak cX1_moveBreak 5 (some .long)) rm_X1_moveBreak [.ref (ad 2), .long to] (xKp D ca) (xB D ad ca K d) (some (.long RES.1)) (xB D ad ca RES.2.1 RES.2.2) (xA ad) := by
  refine g_ofU (by decide) (Nat.le_of_ble_eq_true rfl) ?_
  intro p e s m args below meth c ls Q hF hB hKp hl hQ
  obtain ⟨hx, hb, -, -, hml, hown, hts⟩ := id hF
  have hown : s.vm.findClass RX1 = some m.cls := hown
  have hC : CallFix p m c cX1_moveBreak 5 s args lw_all RX1 := ⟨hx, hb, hml, hown, hts⟩
  obtain ⟨hK, hN⟩ := id hKp
  have hP : va_P D xcl (XW ad ca K d) s.heap := hB
  have hS : va_S (xA ad) s.heap s.heap [] := va_S.rf
  have hl : lv_has ls 5 [(0, .ref (ad 2)), (1, .long to)] := hl
  unfold x_moveBreak at hr
  refine lv_lload_n hx hb dX1_moveBreak_0 rfl (lv_at hl 1 rfl) ?_
  refine lv_aload_n hx hb dX1_moveBreak_1 rfl (lv_at hl 0 rfl) ?_
  refine xg_2_8 hx hb hts hown hK hP (hts _ q120) dX1_moveBreak_2 ?_
  refine lq_lt (tgt := 22) hx hb dX1_moveBreak_5 dX1_moveBreak_6 (by decide) (fun c_5 => ?_) (fun c_5 => ?_)
  · replace hr := hr.trans (if_pos c_5)
    refine lv_aload_n hx hb dX1_moveBreak_22 rfl (lv_at hl 0 rfl) ?_
    refine xg_2_9 hx hb hts hown hK hP (hts _ q121) dX1_moveBreak_23 ?_
    exact g_endUl (Pic := (fun u => xB D ad ca u.1 u.2)) (u := (K, d)) hF hQ hr hP hS dX1_moveBreak_26
  · replace hr := hr.trans (if_neg c_5)
    refine lv_lload_n hx hb dX1_moveBreak_9 rfl (lv_at hl 1 rfl) ?_
    refine lv_aload_n hx hb dX1_moveBreak_10 rfl (lv_at hl 0 rfl) ?_
    refine xg_2_8 hx hb hts hown hK hP (hts _ q120) dX1_moveBreak_11 ?_
    refine lv_ldc2 hx hb hown (hts _ q409) dX1_moveBreak_14 ?_
    refine lv_ladd hx hb dX1_moveBreak_17 ?_
    refine lq_le (tgt := 27) hx hb dX1_moveBreak_18 dX1_moveBreak_19 (by decide) (fun c_18 => ?_) (fun c_18 => ?_)
    · replace hr := hr.trans (if_pos c_18)
      refine lv_lload_n hx hb dX1_moveBreak_27 rfl (lv_at hl 1 rfl) ?_
      refine lv_lstore_n (lv' := [(3, .long to), (0, .ref (ad 2)), (1, .long to)]) hx hb dX1_moveBreak_28 rfl hl (by decide) rfl (fun ls hl => ?_)
      have lp29 : ∀ (n : Nat) (w29_3 : Int64) (dl29 : XD) (H : Heap) (locs : List Loc) (ls : Array Slot), mL w29_3 (kx_broken K) < n → (kx_heap K ≤ w29_3) → RES = x_moveBreak_L29 K to n w29_3 dl29 → va_P D xcl (XW ad ca K dl29) H → va_S (xA ad) s.heap H locs → lv_has ls 5 [(3, .long w29_3), (0, .ref (ad 2)), (1, .long to)] → W p l e rm_X1_moveBreak s m args below meth c H locs 0 0 Q (F0 m 29 ls []) := by
        intro n
        induction n with
        | zero =>
          intro w29_3 dl29 H locs ls hm
          exact absurd hm (Nat.not_lt_zero _)
        | succ n ih =>
          intro w29_3 dl29 H locs ls hm h0 hr hP hS hl
          replace hr := hr.trans (x_moveBreak_L29_s K to n w29_3 dl29)
          refine lv_lload_n hx hb dX1_moveBreak_29 rfl (lv_at hl 0 rfl) ?_
          refine lv_aload_n hx hb dX1_moveBreak_30 rfl (lv_at hl 1 rfl) ?_
          refine xg_2_9 hx hb hts hown hK hP (hts _ q121) dX1_moveBreak_31 ?_
          refine lq_ge (tgt := 63) hx hb dX1_moveBreak_34 dX1_moveBreak_35 (by decide) (fun c_34 => ?_) (fun c_34 => ?_)
          · replace hr := hr.trans (if_pos c_34)
            refine lv_aload_n hx hb dX1_moveBreak_63 rfl (lv_at hl 1 rfl) ?_
            refine lv_lload_n hx hb dX1_moveBreak_64 rfl (lv_at hl 2 rfl) ?_
            refine xp_2_9 (v := to) hx hb hts hown hK hI hP hS (hts _ q121) dX1_moveBreak_65 (fun K1 eK1 H locs hP hS => ?_)
            replace hr := hr.trans (bnd_eq eK1)
            refine lv_aload_n hx hb dX1_moveBreak_68 rfl (lv_at hl 1 rfl) ?_
            refine xg_2_9 hx hb hts hown hK hP (hts _ q121) dX1_moveBreak_69 ?_
            exact g_endUl (Pic := (fun u => xB D ad ca u.1 u.2)) (u := (K1, dl29)) hF hQ hr hP hS dX1_moveBreak_72
          · replace hr := hr.trans (if_neg c_34)
            refine lv_aload_n hx hb dX1_moveBreak_38 rfl (lv_at hl 1 rfl) ?_
            refine xg_2_0 hx hb hts hown hK hP (hts _ q110) dX1_moveBreak_39 ?_
            refine lv_aload_n hx hb dX1_moveBreak_42 rfl (lv_at hl 1 rfl) ?_
            refine xg_2_1 hx hb hts hown hK hP (hts _ q113) dX1_moveBreak_43 ?_
            refine lv_lload_n hx hb dX1_moveBreak_46 rfl (lv_at hl 0 rfl) ?_
            refine lv_aload_n hx hb dX1_moveBreak_47 rfl (lv_at hl 1 rfl) ?_
            refine xg_2_8 hx hb hts hown hK hP (hts _ q120) dX1_moveBreak_48 ?_
            refine lv_lsub hx hb dX1_moveBreak_51 ?_
            refine lv_l2i (v := (w29_3 - (kx_heap K)).toInt32) hx hb dX1_moveBreak_52 rfl ?_
            refine lv_iadd hx hb dX1_moveBreak_53 ?_
            refine lv_iconst (v := (0 : Int32)) hx hb dX1_moveBreak_54 ic_0 ?_
            refine xs_3 hx hb hK hI hP hS (x_brk_in hlay h0 c_34) dX1_moveBreak_55 (fun d2 ed2 H locs hP hS => ?_)
            replace hr := hr.trans (bnd_eq ed2)
            refine lv_lload_n hx hb dX1_moveBreak_56 rfl (lv_at hl 0 rfl) ?_
            refine lv_lconst (v := (1 : Int64)) hx hb dX1_moveBreak_57 lc_1 ?_
            refine lv_ladd hx hb dX1_moveBreak_58 ?_
            refine lv_topl (fun v3 ev3 => ?_)
            replace hr := hr.trans (bnd_eq ev3)
            refine lv_lstore_n (lv' := [(3, .long v3), (0, .ref (ad 2)), (1, .long to)]) hx hb dX1_moveBreak_59 rfl hl (by decide) rfl (fun ls hl => ?_)
            refine lv_goto (tgt := 29) hx hb dX1_moveBreak_60 (by decide) ?_
            exact ih v3 d2 _ _ ls (mL_dec c_34 hm ev3) (l_le_s h0 c_34 ev3) hr hP hS (lv_sub hl [0, 1, 2] rfl)
      exact lp29 (mL to (kx_broken K) + 1) to d _ _ ls (Nat.lt_succ_self _) (Int64.not_lt.mp c_5) hr hP hS (lv_sub hl [0, 1, 2] rfl)
    · replace hr := hr.trans (if_neg c_18)
      refine lv_aload_n hx hb dX1_moveBreak_22 rfl (lv_at hl 0 rfl) ?_
      refine xg_2_9 hx hb hts hown hK hP (hts _ q121) dX1_moveBreak_23 ?_
      exact g_endUl (Pic := (fun u => xB D ad ca u.1 u.2)) (u := (K, d)) hF hQ hr hP hS dX1_moveBreak_26
def x_mload_L13 (K : XK) (size : Int32) : Nat → Int32 → XD → (XK × XD)
  | 0, w13_3, dl13 => (K, dl13)
  | n + 1, w13_3, dl13 => if (393216 : Int32) ≤ w13_3 then (bnd (kx_heap_ ((((((4194304 : Int32) + size) + (4096 : Int32)) - (1 : Int32)) &&& (-4096 : Int32)).toInt64) K) fun K2 => bnd (kx_broken_ (kx_heap K2) K2) fun K3 => (K3, dl13)) else (bnd (dx_bytes_ (upd (dx_bytes dl13) w13_3.toNatClampNeg (vp_nar .byte (0 : Int32))) dl13) fun d4 => bnd (α := Int32) ((w13_3 + (1 : Int32))) fun v5 => x_mload_L13 K size n v5 d4)
theorem x_mload_L13_s (K : XK) (size : Int32) (n : Nat) (w13_3 : Int32) (dl13 : XD) : x_mload_L13 K size (n + 1) w13_3 dl13 = if (393216 : Int32) ≤ w13_3 then (bnd (kx_heap_ ((((((4194304 : Int32) + size) + (4096 : Int32)) - (1 : Int32)) &&& (-4096 : Int32)).toInt64) K) fun K2 => bnd (kx_broken_ (kx_heap K2) K2) fun K3 => (K3, dl13)) else (bnd (dx_bytes_ (upd (dx_bytes dl13) w13_3.toNatClampNeg (vp_nar .byte (0 : Int32))) dl13) fun d4 => bnd (α := Int32) ((w13_3 + (1 : Int32))) fun v5 => x_mload_L13 K size n v5 d4) := rfl
def x_mload (K : XK) (size : Int32) (d : XD) : (XK × XD) := bnd (dx_bytes_ (va_cpy (dx_image d) (dx_bytes d) (0 : Int32).toNatClampNeg (0 : Int32).toNatClampNeg size.toNatClampNeg) d) fun d1 => x_mload_L13 K size (mI size (393216 : Int32) + 1) size d1
abbrev rm_X1_load : Room := { frames := 1, cells := 0, slots := 0, locals := 18 }
set_option maxHeartbeats 4000000 in
set_option maxRecDepth 100000 in
theorem m_X1_load {l : Launch} {D : va_G} {ad : Nat → Nat} {ca : Nat → ClassId} (hI : xInj ad) {K : XK} {d : XD} (size : Int32) (RES : (XK × XD)) (hr : RES = x_mload K size d) (hsz : ¬ size < 0 ∧ size.toInt ≤ 262144) (hfit : ∀ i : Nat, i < 262144 → fits .byte (.int (dx_image d i)) = true) : g_U l yX1_load (ws_ yX1_load cX1_load 4 none) rm_X1_load [.ref (ad 2), .ref (ad 1), .int size] (xKp D ca) (xB D ad ca K d) none (xB D ad ca RES.1 RES.2) (xA ad) := by
  refine g_ofU (by decide) (Nat.le_of_ble_eq_true rfl) ?_
  intro p e s m args below meth c ls Q hF hB hKp hl hQ
  obtain ⟨hx, hb, -, -, hml, hown, hts⟩ := id hF
  have hown : s.vm.findClass RX1 = some m.cls := hown
  have hC : CallFix p m c cX1_load 4 s args lw_all RX1 := ⟨hx, hb, hml, hown, hts⟩
  obtain ⟨hK, hN⟩ := id hKp
  have hP : va_P D xcl (XW ad ca K d) s.heap := hB
  have hS : va_S (xA ad) s.heap s.heap [] := va_S.rf
  have hl : lv_has ls 4 [(0, .ref (ad 2)), (1, .ref (ad 1)), (2, .int size)] := hl
  unfold x_mload at hr
  refine lv_aload_n hx hb dX1_load_0 rfl (lv_at hl 1 rfl) ?_
  refine lv_iconst (v := (0 : Int32)) hx hb dX1_load_1 ic_0 ?_
  refine lv_aload_n hx hb dX1_load_2 rfl (lv_at hl 0 rfl) ?_
  refine xg_2_0 hx hb hts hown hK hP (hts _ q110) dX1_load_3 ?_
  refine lv_iconst (v := (0 : Int32)) hx hb dX1_load_6 ic_0 ?_
  refine lv_iload_n hx hb dX1_load_7 rfl (lv_at hl 2 rfl) ?_
  refine va_copyi hx hb (hml.trans hl.1.symm) hown (hts _ q278) (hts _ q280) (hts _ q279) (hts _ q88) hK hP (xD hI) hS 1 3 0 1 rfl rfl rfl rfl rfl (by decide) (by decide) hsz.1 (ac_4 hsz) (ac_5 hsz) (fun i hi => hfit _ (ac_6 hsz hi)) (Nat.le_of_ble_eq_true rfl) (Nat.le_of_ble_eq_true rfl) dX1_load_8 (fun H locs hP _ hS => ?_)
  obtain ⟨d1, ed1⟩ : ∃ z, z = dx_bytes_ (va_cpy (dx_image d) (dx_bytes d) (0 : Int32).toNatClampNeg (0 : Int32).toNatClampNeg size.toNatClampNeg) d := ⟨_, rfl⟩
  have hP : va_P D xcl (XW ad ca K d1) H := by rw [ed1]; exact hP
  replace hr := hr.trans (bnd_eq ed1)
  refine lv_iload_n hx hb dX1_load_11 rfl (lv_at hl 2 rfl) ?_
  refine lv_istore_n (lv' := [(3, .int size), (0, .ref (ad 2)), (1, .ref (ad 1)), (2, .int size)]) hx hb dX1_load_12 rfl hl (by decide) rfl (fun ls hl => ?_)
  have lp13 : ∀ (n : Nat) (w13_3 : Int32) (dl13 : XD) (H : Heap) (locs : List Loc) (ls : Array Slot), mI w13_3 (393216 : Int32) < n → (0 ≤ w13_3) → RES = x_mload_L13 K size n w13_3 dl13 → va_P D xcl (XW ad ca K dl13) H → va_S (xA ad) s.heap H locs → lv_has ls 4 [(3, .int w13_3), (0, .ref (ad 2)), (1, .ref (ad 1)), (2, .int size)] → W p l e rm_X1_load s m args below meth c H locs 0 0 Q (F0 m 13 ls []) := by
    intro n
    induction n with
    | zero =>
      intro w13_3 dl13 H locs ls hm
      exact absurd hm (Nat.not_lt_zero _)
    | succ n ih =>
      intro w13_3 dl13 H locs ls hm h0 hr hP hS hl
      replace hr := hr.trans (x_mload_L13_s K size n w13_3 dl13)
      refine lv_iload_n hx hb dX1_load_13 rfl (lv_at hl 0 rfl) ?_
      refine lv_aload_n hx hb dX1_load_14 rfl (lv_at hl 1 rfl) ?_
      refine xg_2_0 hx hb hts hown hK hP (hts _ q110) dX1_load_15 ?_
      refine va_alen (v := (393216 : Int32)) hx hb hK hP 3 1 rfl rfl rfl dX1_load_18 ?_
      refine lv_icmp_ge (tgt := 35) hx hb dX1_load_19 (by decide) (fun c_19 => ?_) (fun c_19 => ?_)
      · replace hr := hr.trans (if_pos c_19)
        refine lv_aload_n hx hb dX1_load_35 rfl (lv_at hl 1 rfl) ?_
        refine lv_ldc hx hb hown (hts _ q281) dX1_load_36 ?_
        refine lv_iload_n hx hb dX1_load_38 rfl (lv_at hl 3 rfl) ?_
        refine lv_iadd hx hb dX1_load_39 ?_
        refine lv_sipush (v := (4096 : Int32)) hx hb dX1_load_40 sp_4096 ?_
        refine lv_iadd hx hb dX1_load_43 ?_
        refine lv_iconst (v := (1 : Int32)) hx hb dX1_load_44 ic_1 ?_
        refine lv_isub hx hb dX1_load_45 ?_
        refine lv_sipush (v := (-4096 : Int32)) hx hb dX1_load_46 sp_m4096 ?_
        refine lv_iand hx hb dX1_load_49 ?_
        refine lv_i2l (v := (((((4194304 : Int32) + size) + (4096 : Int32)) - (1 : Int32)) &&& (-4096 : Int32)).toInt64) hx hb dX1_load_50 rfl ?_
        refine xp_2_8 (v := ((((((4194304 : Int32) + size) + (4096 : Int32)) - (1 : Int32)) &&& (-4096 : Int32)).toInt64)) hx hb hts hown hK hI hP hS (hts _ q120) dX1_load_51 (fun K2 eK2 H locs hP hS => ?_)
        replace hr := hr.trans (bnd_eq eK2)
        refine lv_aload_n hx hb dX1_load_54 rfl (lv_at hl 1 rfl) ?_
        refine lv_aload_n hx hb dX1_load_55 rfl (lv_at hl 1 rfl) ?_
        refine xg_2_8 hx hb hts hown hK hP (hts _ q120) dX1_load_56 ?_
        refine xp_2_9 (v := (kx_heap K2)) hx hb hts hown hK hI hP hS (hts _ q121) dX1_load_59 (fun K3 eK3 H locs hP hS => ?_)
        replace hr := hr.trans (bnd_eq eK3)
        exact g_endUv (Pic := (fun u => xB D ad ca u.1 u.2)) (u := (K3, dl13)) hF hQ hr hP hS dX1_load_62
      · replace hr := hr.trans (if_neg c_19)
        refine lv_aload_n hx hb dX1_load_22 rfl (lv_at hl 1 rfl) ?_
        refine xg_2_0 hx hb hts hown hK hP (hts _ q110) dX1_load_23 ?_
        refine lv_iload_n hx hb dX1_load_26 rfl (lv_at hl 0 rfl) ?_
        refine lv_iconst (v := (0 : Int32)) hx hb dX1_load_27 ic_0 ?_
        refine xs_3 hx hb hK hI hP hS (i_in h0 c_19 (by decide)) dX1_load_28 (fun d4 ed4 H locs hP hS => ?_)
        replace hr := hr.trans (bnd_eq ed4)
        obtain ⟨v5, ev5⟩ : ∃ z : Int32, z = (w13_3 + (1 : Int32)) := ⟨_, rfl⟩
        replace hr := hr.trans (bnd_eq ev5)
        refine lv_iinc (v := v5) (lv' := [(3, .int v5), (0, .ref (ad 2)), (1, .ref (ad 1)), (2, .int size)]) hx hb dX1_load_29 hl (k := 0) rfl (by rw [ev5, ← ic_1]) (by decide) rfl (fun ls hl => ?_)
        refine lv_goto (tgt := 13) hx hb dX1_load_32 (by decide) ?_
        exact ih v5 d4 _ _ ls (mI_dec c_19 hm ev5) (i_nn h0 c_19 ev5) hr hP hS (lv_sub hl [0, 1, 2, 3] rfl)
  exact lp13 (mI size (393216 : Int32) + 1) size d1 _ _ ls (Nat.lt_succ_self _) (Int32.not_lt.mp hsz.1) hr hP hS (lv_sub hl [0, 1, 2, 3] rfl)
def x_lay (K : XK) (te : Int32) (rb : Int32) (re : Int32) (db : Int32) (de : Int32) (d : XD) : (XK × XD) := bnd (kx_textEnd_ te K) fun K1 => bnd (kx_rodataBegin_ rb K1) fun K2 => bnd (kx_rodataEnd_ re K2) fun K3 => bnd (kx_dataBegin_ db K3) fun K4 => bnd (kx_dataEnd_ de K4) fun K5 => (K5, d)
abbrev rm_X1_lay : Room := { frames := 0, cells := 0, slots := 0, locals := 0 }
set_option maxHeartbeats 4000000 in
set_option maxRecDepth 100000 in
theorem m_X1_lay {l : Launch} {D : va_G} {ad : Nat → Nat} {ca : Nat → ClassId} (hI : xInj ad) {K : XK} {d : XD} (te : Int32) (rb : Int32) (re : Int32) (db : Int32) (de : Int32) (RES : (XK × XD)) (hr : RES = x_lay K te rb re db de d) : g_U l yX1_lay (ws_ yX1_lay cX1_lay 6 none) rm_X1_lay [.ref (ad 2), .int te, .int rb, .int re, .int db, .int de] (xKp D ca) (xB D ad ca K d) none (xB D ad ca RES.1 RES.2) (xA ad) := by
  refine g_ofU (by decide) (Nat.le_of_ble_eq_true rfl) ?_
  intro p e s m args below meth c ls Q hF hB hKp hl hQ
  obtain ⟨hx, hb, -, -, hml, hown, hts⟩ := id hF
  have hown : s.vm.findClass RX1 = some m.cls := hown
  have hC : CallFix p m c cX1_lay 6 s args lw_all RX1 := ⟨hx, hb, hml, hown, hts⟩
  obtain ⟨hK, hN⟩ := id hKp
  have hP : va_P D xcl (XW ad ca K d) s.heap := hB
  have hS : va_S (xA ad) s.heap s.heap [] := va_S.rf
  have hl : lv_has ls 6 [(0, .ref (ad 2)), (1, .int te), (2, .int rb), (3, .int re), (4, .int db), (5, .int de)] := hl
  unfold x_lay at hr
  refine lv_aload_n hx hb dX1_lay_0 rfl (lv_at hl 0 rfl) ?_
  refine lv_iload_n hx hb dX1_lay_1 rfl (lv_at hl 1 rfl) ?_
  refine xp_2_3 (v := te) hx hb hts hown hK hI hP hS (hts _ q115) dX1_lay_2 (fun K1 eK1 H locs hP hS => ?_)
  replace hr := hr.trans (bnd_eq eK1)
  refine lv_aload_n hx hb dX1_lay_5 rfl (lv_at hl 0 rfl) ?_
  refine lv_iload_n hx hb dX1_lay_6 rfl (lv_at hl 2 rfl) ?_
  refine xp_2_4 (v := rb) hx hb hts hown hK hI hP hS (hts _ q116) dX1_lay_7 (fun K2 eK2 H locs hP hS => ?_)
  replace hr := hr.trans (bnd_eq eK2)
  refine lv_aload_n hx hb dX1_lay_10 rfl (lv_at hl 0 rfl) ?_
  refine lv_iload_n hx hb dX1_lay_11 rfl (lv_at hl 3 rfl) ?_
  refine xp_2_5 (v := re) hx hb hts hown hK hI hP hS (hts _ q117) dX1_lay_12 (fun K3 eK3 H locs hP hS => ?_)
  replace hr := hr.trans (bnd_eq eK3)
  refine lv_aload_n hx hb dX1_lay_15 rfl (lv_at hl 0 rfl) ?_
  refine lv_iload hx hb dX1_lay_16 (lv_at hl 4 rfl) ?_
  refine xp_2_6 (v := db) hx hb hts hown hK hI hP hS (hts _ q118) dX1_lay_18 (fun K4 eK4 H locs hP hS => ?_)
  replace hr := hr.trans (bnd_eq eK4)
  refine lv_aload_n hx hb dX1_lay_21 rfl (lv_at hl 0 rfl) ?_
  refine lv_iload hx hb dX1_lay_22 (lv_at hl 5 rfl) ?_
  refine xp_2_7 (v := de) hx hb hts hown hK hI hP hS (hts _ q119) dX1_lay_24 (fun K5 eK5 H locs hP hS => ?_)
  replace hr := hr.trans (bnd_eq eK5)
  exact g_endUv (Pic := (fun u => xB D ad ca u.1 u.2)) (u := (K5, d)) hF hQ hr hP hS dX1_lay_27
def x_add_in (b : Int32) (d : XD) : XD := bnd (dx_inN_ ((dx_inN d) + (1 : Int32)) d) fun d1 => bnd (dx_inB_ (upd (dx_inB d1) (dx_inN d).toNatClampNeg (vp_nar .byte (b.toInt8.toInt32))) d1) fun d2 => d2
abbrev rm_X3_add_5 : Room := { frames := 0, cells := 0, slots := 0, locals := 0 }
set_option maxHeartbeats 4000000 in
set_option maxRecDepth 100000 in
theorem m_X3_add_5 {l : Launch} {D : va_G} {ad : Nat → Nat} {ca : Nat → ClassId} (hI : xInj ad) {K : XK} {d : XD} (b : Int32) (RES : XD) (hr : RES = x_add_in b d) (hn : vp_in (dx_inN d) 65536) : g_U l yX3_add (ws_ yX3_add cX3_add 2 none) rm_X3_add_5 [.ref (ad 5), .int b] (xKp D ca) (xB D ad ca K d) none (xB D ad ca K RES) (xA ad) := by
  refine g_ofU (by decide) (Nat.le_of_ble_eq_true rfl) ?_
  intro p e s m args below meth c ls Q hF hB hKp hl hQ
  obtain ⟨hx, hb, -, -, hml, hown, hts⟩ := id hF
  have hown : s.vm.findClass RX3 = some m.cls := hown
  have hC : CallFix p m c cX3_add 2 s args lw_all RX3 := ⟨hx, hb, hml, hown, hts⟩
  obtain ⟨hK, hN⟩ := id hKp
  have hP : va_P D xcl (XW ad ca K d) s.heap := hB
  have hS : va_S (xA ad) s.heap s.heap [] := va_S.rf
  have hl : lv_has ls 2 [(0, .ref (ad 5)), (1, .int b)] := hl
  unfold x_add_in at hr
  refine lv_aload_n hx hb dX3_add_0 rfl (lv_at hl 0 rfl) ?_
  refine xg_5_0 hx hb hts hown hK hP (hts _ q158) dX3_add_1 ?_
  refine lv_aload_n hx hb dX3_add_4 rfl (lv_at hl 0 rfl) ?_
  refine lv_dup hx hb dX3_add_5 rfl ?_
  refine xg_5_1 hx hb hts hown hK hP (hts _ q161) dX3_add_6 ?_
  refine lv_dup_x1 hx hb dX3_add_9 rfl rfl ?_
  refine lv_iconst (v := (1 : Int32)) hx hb dX3_add_10 ic_1 ?_
  refine lv_iadd hx hb dX3_add_11 ?_
  refine xp_5_1 (v := ((dx_inN d) + (1 : Int32))) hx hb hts hown hK hI hP hS (hts _ q161) dX3_add_12 (fun d1 ed1 H locs hP hS => ?_)
  replace hr := hr.trans (bnd_eq ed1)
  refine lv_iload_n hx hb dX3_add_15 rfl (lv_at hl 1 rfl) ?_
  refine lv_i2b (v := b.toInt8.toInt32) hx hb dX3_add_16 rfl ?_
  refine xs_6 hx hb hK hI hP hS hn dX3_add_17 (fun d2 ed2 H locs hP hS => ?_)
  replace hr := hr.trans (bnd_eq ed2)
  exact g_endUv (Pic := (fun u => xB D ad ca K u)) (u := d2) hF hQ hr hP hS dX3_add_18
def x_add_out (b : Int32) (d : XD) : XD := bnd (dx_outN_ ((dx_outN d) + (1 : Int32)) d) fun d1 => bnd (dx_outB_ (upd (dx_outB d1) (dx_outN d).toNatClampNeg (vp_nar .byte (b.toInt8.toInt32))) d1) fun d2 => d2
abbrev rm_X3_add_7 : Room := { frames := 0, cells := 0, slots := 0, locals := 0 }
set_option maxHeartbeats 4000000 in
set_option maxRecDepth 100000 in
theorem m_X3_add_7 {l : Launch} {D : va_G} {ad : Nat → Nat} {ca : Nat → ClassId} (hI : xInj ad) {K : XK} {d : XD} (b : Int32) (RES : XD) (hr : RES = x_add_out b d) (hn : vp_in (dx_outN d) 65536) : g_U l yX3_add (ws_ yX3_add cX3_add 2 none) rm_X3_add_7 [.ref (ad 7), .int b] (xKp D ca) (xB D ad ca K d) none (xB D ad ca K RES) (xA ad) := by
  refine g_ofU (by decide) (Nat.le_of_ble_eq_true rfl) ?_
  intro p e s m args below meth c ls Q hF hB hKp hl hQ
  obtain ⟨hx, hb, -, -, hml, hown, hts⟩ := id hF
  have hown : s.vm.findClass RX3 = some m.cls := hown
  have hC : CallFix p m c cX3_add 2 s args lw_all RX3 := ⟨hx, hb, hml, hown, hts⟩
  obtain ⟨hK, hN⟩ := id hKp
  have hP : va_P D xcl (XW ad ca K d) s.heap := hB
  have hS : va_S (xA ad) s.heap s.heap [] := va_S.rf
  have hl : lv_has ls 2 [(0, .ref (ad 7)), (1, .int b)] := hl
  unfold x_add_out at hr
  refine lv_aload_n hx hb dX3_add_0 rfl (lv_at hl 0 rfl) ?_
  refine xg_7_0 hx hb hts hown hK hP (hts _ q158) dX3_add_1 ?_
  refine lv_aload_n hx hb dX3_add_4 rfl (lv_at hl 0 rfl) ?_
  refine lv_dup hx hb dX3_add_5 rfl ?_
  refine xg_7_1 hx hb hts hown hK hP (hts _ q161) dX3_add_6 ?_
  refine lv_dup_x1 hx hb dX3_add_9 rfl rfl ?_
  refine lv_iconst (v := (1 : Int32)) hx hb dX3_add_10 ic_1 ?_
  refine lv_iadd hx hb dX3_add_11 ?_
  refine xp_7_1 (v := ((dx_outN d) + (1 : Int32))) hx hb hts hown hK hI hP hS (hts _ q161) dX3_add_12 (fun d1 ed1 H locs hP hS => ?_)
  replace hr := hr.trans (bnd_eq ed1)
  refine lv_iload_n hx hb dX3_add_15 rfl (lv_at hl 1 rfl) ?_
  refine lv_i2b (v := b.toInt8.toInt32) hx hb dX3_add_16 rfl ?_
  refine xs_8 hx hb hK hI hP hS hn dX3_add_17 (fun d2 ed2 H locs hP hS => ?_)
  replace hr := hr.trans (bnd_eq ed2)
  exact g_endUv (Pic := (fun u => xB D ad ca K u)) (u := d2) hF hQ hr hP hS dX3_add_18
def x_drop_L2 (cnt : Int32) : Nat → Int32 → XD → XD
  | 0, w2_2, dl2 => dl2
  | n + 1, w2_2, dl2 => if (dx_inN dl2) ≤ w2_2 then (bnd (dx_inN_ ((dx_inN dl2) - cnt) dl2) fun d1 => d1) else (bnd (dx_inB_ (upd (dx_inB dl2) (w2_2 - cnt).toNatClampNeg (vp_nar .byte ((dx_inB dl2) w2_2.toNatClampNeg))) dl2) fun d2 => bnd (α := Int32) ((w2_2 + (1 : Int32))) fun v3 => x_drop_L2 cnt n v3 d2)
theorem x_drop_L2_s (cnt : Int32) (n : Nat) (w2_2 : Int32) (dl2 : XD) : x_drop_L2 cnt (n + 1) w2_2 dl2 = if (dx_inN dl2) ≤ w2_2 then (bnd (dx_inN_ ((dx_inN dl2) - cnt) dl2) fun d1 => d1) else (bnd (dx_inB_ (upd (dx_inB dl2) (w2_2 - cnt).toNatClampNeg (vp_nar .byte ((dx_inB dl2) w2_2.toNatClampNeg))) dl2) fun d2 => bnd (α := Int32) ((w2_2 + (1 : Int32))) fun v3 => x_drop_L2 cnt n v3 d2) := rfl
def x_drop (cnt : Int32) (d : XD) : XD := x_drop_L2 cnt (mI cnt (dx_inN d) + 1) cnt d
abbrev rm_X3_drop : Room := { frames := 0, cells := 0, slots := 0, locals := 0 }
set_option maxHeartbeats 4000000 in
set_option maxRecDepth 100000 in
theorem m_X3_drop {l : Launch} {D : va_G} {ad : Nat → Nat} {ca : Nat → ClassId} (hI : xInj ad) {K : XK} {d : XD} (cnt : Int32) (RES : XD) (hr : RES = x_drop cnt d) (hc : 0 ≤ cnt) (hn : (dx_inN d).toInt ≤ 65536) : g_U l yX3_drop (ws_ yX3_drop cX3_drop 3 none) rm_X3_drop [.ref (ad 5), .int cnt] (xKp D ca) (xB D ad ca K d) none (xB D ad ca K RES) (xA ad) := by
  refine g_ofU (by decide) (Nat.le_of_ble_eq_true rfl) ?_
  intro p e s m args below meth c ls Q hF hB hKp hl hQ
  obtain ⟨hx, hb, -, -, hml, hown, hts⟩ := id hF
  have hown : s.vm.findClass RX3 = some m.cls := hown
  have hC : CallFix p m c cX3_drop 3 s args lw_all RX3 := ⟨hx, hb, hml, hown, hts⟩
  obtain ⟨hK, hN⟩ := id hKp
  have hP : va_P D xcl (XW ad ca K d) s.heap := hB
  have hS : va_S (xA ad) s.heap s.heap [] := va_S.rf
  have hl : lv_has ls 3 [(0, .ref (ad 5)), (1, .int cnt)] := hl
  unfold x_drop at hr
  refine lv_iload_n hx hb dX3_drop_0 rfl (lv_at hl 1 rfl) ?_
  refine lv_istore_n (lv' := [(2, .int cnt), (0, .ref (ad 5)), (1, .int cnt)]) hx hb dX3_drop_1 rfl hl (by decide) rfl (fun ls hl => ?_)
  have lp2 : ∀ (n : Nat) (w2_2 : Int32) (dl2 : XD) (H : Heap) (locs : List Loc) (ls : Array Slot), mI w2_2 (dx_inN dl2) < n → (cnt ≤ w2_2) → ((dx_inN dl2).toInt ≤ 65536) → RES = x_drop_L2 cnt n w2_2 dl2 → va_P D xcl (XW ad ca K dl2) H → va_S (xA ad) s.heap H locs → lv_has ls 3 [(2, .int w2_2), (0, .ref (ad 5)), (1, .int cnt)] → W p l e rm_X3_drop s m args below meth c H locs 0 0 Q (F0 m 2 ls []) := by
    intro n
    induction n with
    | zero =>
      intro w2_2 dl2 H locs ls hm
      exact absurd hm (Nat.not_lt_zero _)
    | succ n ih =>
      intro w2_2 dl2 H locs ls hm h0 h1 hr hP hS hl
      replace hr := hr.trans (x_drop_L2_s cnt n w2_2 dl2)
      refine lv_iload_n hx hb dX3_drop_2 rfl (lv_at hl 0 rfl) ?_
      refine lv_aload_n hx hb dX3_drop_3 rfl (lv_at hl 1 rfl) ?_
      refine xg_5_1 hx hb hts hown hK hP (hts _ q161) dX3_drop_4 ?_
      refine lv_icmp_ge (tgt := 30) hx hb dX3_drop_7 (by decide) (fun c_7 => ?_) (fun c_7 => ?_)
      · replace hr := hr.trans (if_pos c_7)
        refine lv_aload_n hx hb dX3_drop_30 rfl (lv_at hl 1 rfl) ?_
        refine lv_dup hx hb dX3_drop_31 rfl ?_
        refine xg_5_1 hx hb hts hown hK hP (hts _ q161) dX3_drop_32 ?_
        refine lv_iload_n hx hb dX3_drop_35 rfl (lv_at hl 2 rfl) ?_
        refine lv_isub hx hb dX3_drop_36 ?_
        refine xp_5_1 (v := ((dx_inN dl2) - cnt)) hx hb hts hown hK hI hP hS (hts _ q161) dX3_drop_37 (fun d1 ed1 H locs hP hS => ?_)
        replace hr := hr.trans (bnd_eq ed1)
        exact g_endUv (Pic := (fun u => xB D ad ca K u)) (u := d1) hF hQ hr hP hS dX3_drop_40
      · replace hr := hr.trans (if_neg c_7)
        refine lv_aload_n hx hb dX3_drop_10 rfl (lv_at hl 1 rfl) ?_
        refine xg_5_0 hx hb hts hown hK hP (hts _ q158) dX3_drop_11 ?_
        refine lv_iload_n hx hb dX3_drop_14 rfl (lv_at hl 0 rfl) ?_
        refine lv_iload_n hx hb dX3_drop_15 rfl (lv_at hl 2 rfl) ?_
        refine lv_isub hx hb dX3_drop_16 ?_
        refine lv_aload_n hx hb dX3_drop_17 rfl (lv_at hl 1 rfl) ?_
        refine xg_5_0 hx hb hts hown hK hP (hts _ q158) dX3_drop_18 ?_
        refine lv_iload_n hx hb dX3_drop_21 rfl (lv_at hl 0 rfl) ?_
        refine xl_6 hx hb hK hP (dr_1 hc h0 c_7 h1) dX3_drop_22 ?_
        refine xs_6 hx hb hK hI hP hS (dr_2 hc h0 c_7 h1) dX3_drop_23 (fun d2 ed2 H locs hP hS => ?_)
        replace hr := hr.trans (bnd_eq ed2)
        obtain ⟨v3, ev3⟩ : ∃ z : Int32, z = (w2_2 + (1 : Int32)) := ⟨_, rfl⟩
        replace hr := hr.trans (bnd_eq ev3)
        refine lv_iinc (v := v3) (lv' := [(2, .int v3), (0, .ref (ad 5)), (1, .int cnt)]) hx hb dX3_drop_24 hl (k := 0) rfl (by rw [ev3, ← ic_1]) (by decide) rfl (fun ls hl => ?_)
        refine lv_goto (tgt := 2) hx hb dX3_drop_27 (by decide) ?_
        exact ih v3 d2 _ _ ls (by rw [ed2]; exact mI_dec c_7 hm ev3) (i_le_s h0 c_7 ev3) (by rw [ed2]; exact h1) hr hP hS (lv_sub hl [0, 1, 2] rfl)
  exact lp2 (mI cnt (dx_inN d) + 1) cnt d _ _ ls (Nat.lt_succ_self _) (Int32.le_refl _) (hn) hr hP hS (lv_sub hl [0, 1, 2] rfl)
def x_clear_L18 : Nat → Int32 → XK → XD → (XK × XD)
  | 0, w18_4, Kl18, dl18 => (Kl18, dl18)
  | n + 1, w18_4, Kl18, dl18 => if (3 : Int32) ≤ w18_4 then (Kl18, dl18) else (bnd (kx_kinds_ (upd (kx_kinds Kl18) w18_4.toNatClampNeg (0 : Int32)) Kl18) fun K4 => bnd (kx_regs_ (upd (kx_regs K4) w18_4.toNatClampNeg (0 : Int32)) K4) fun K5 => bnd (α := Int32) ((w18_4 + (1 : Int32))) fun v6 => x_clear_L18 n v6 K5 dl18)
theorem x_clear_L18_s (n : Nat) (w18_4 : Int32) (Kl18 : XK) (dl18 : XD) : x_clear_L18 (n + 1) w18_4 Kl18 dl18 = if (3 : Int32) ≤ w18_4 then (Kl18, dl18) else (bnd (kx_kinds_ (upd (kx_kinds Kl18) w18_4.toNatClampNeg (0 : Int32)) Kl18) fun K4 => bnd (kx_regs_ (upd (kx_regs K4) w18_4.toNatClampNeg (0 : Int32)) K4) fun K5 => bnd (α := Int32) ((w18_4 + (1 : Int32))) fun v6 => x_clear_L18 n v6 K5 dl18) := rfl
def x_clear (K : XK) (o : Int32) (sz : Int32) (cd : Int32) (d : XD) : (XK × XD) := bnd (kx_op_ o K) fun K1 => bnd (kx_size_ sz K1) fun K2 => bnd (kx_cond_ cd K2) fun K3 => x_clear_L18 (mI (0 : Int32) (3 : Int32) + 1) (0 : Int32) K3 d
abbrev rm_X4_clear : Room := { frames := 0, cells := 0, slots := 0, locals := 0 }
set_option maxHeartbeats 4000000 in
set_option maxRecDepth 100000 in
theorem m_X4_clear {l : Launch} {D : va_G} {ad : Nat → Nat} {ca : Nat → ClassId} (hI : xInj ad) {K : XK} {d : XD} (o : Int32) (sz : Int32) (cd : Int32) (RES : (XK × XD)) (hr : RES = x_clear K o sz cd d) : g_U l yX4_clear (ws_ yX4_clear cX4_clear 5 none) rm_X4_clear [.ref (ad 9), .int o, .int sz, .int cd] (xKp D ca) (xB D ad ca K d) none (xB D ad ca RES.1 RES.2) (xA ad) := by
  refine g_ofU (by decide) (Nat.le_of_ble_eq_true rfl) ?_
  intro p e s m args below meth c ls Q hF hB hKp hl hQ
  obtain ⟨hx, hb, -, -, hml, hown, hts⟩ := id hF
  have hown : s.vm.findClass RX4 = some m.cls := hown
  have hC : CallFix p m c cX4_clear 5 s args lw_all RX4 := ⟨hx, hb, hml, hown, hts⟩
  obtain ⟨hK, hN⟩ := id hKp
  have hP : va_P D xcl (XW ad ca K d) s.heap := hB
  have hS : va_S (xA ad) s.heap s.heap [] := va_S.rf
  have hl : lv_has ls 5 [(0, .ref (ad 9)), (1, .int o), (2, .int sz), (3, .int cd)] := hl
  unfold x_clear at hr
  refine lv_aload_n hx hb dX4_clear_0 rfl (lv_at hl 0 rfl) ?_
  refine lv_iload_n hx hb dX4_clear_1 rfl (lv_at hl 1 rfl) ?_
  refine xp_9_0 (v := o) hx hb hts hown hK hI hP hS (hts _ q175) dX4_clear_2 (fun K1 eK1 H locs hP hS => ?_)
  replace hr := hr.trans (bnd_eq eK1)
  refine lv_aload_n hx hb dX4_clear_5 rfl (lv_at hl 0 rfl) ?_
  refine lv_iload_n hx hb dX4_clear_6 rfl (lv_at hl 2 rfl) ?_
  refine xp_9_1 (v := sz) hx hb hts hown hK hI hP hS (hts _ q178) dX4_clear_7 (fun K2 eK2 H locs hP hS => ?_)
  replace hr := hr.trans (bnd_eq eK2)
  refine lv_aload_n hx hb dX4_clear_10 rfl (lv_at hl 0 rfl) ?_
  refine lv_iload_n hx hb dX4_clear_11 rfl (lv_at hl 3 rfl) ?_
  refine xp_9_2 (v := cd) hx hb hts hown hK hI hP hS (hts _ q181) dX4_clear_12 (fun K3 eK3 H locs hP hS => ?_)
  replace hr := hr.trans (bnd_eq eK3)
  refine lv_iconst (v := (0 : Int32)) hx hb dX4_clear_15 ic_0 ?_
  refine lv_istore (lv' := [(4, .int (0 : Int32)), (0, .ref (ad 9)), (1, .int o), (2, .int sz), (3, .int cd)]) hx hb dX4_clear_16 hl (by decide) rfl (fun ls hl => ?_)
  have lp18 : ∀ (n : Nat) (w18_4 : Int32) (Kl18 : XK) (dl18 : XD) (H : Heap) (locs : List Loc) (ls : Array Slot), mI w18_4 (3 : Int32) < n → (0 ≤ w18_4) → RES = x_clear_L18 n w18_4 Kl18 dl18 → va_P D xcl (XW ad ca Kl18 dl18) H → va_S (xA ad) s.heap H locs → lv_has ls 5 [(4, .int w18_4), (0, .ref (ad 9)), (1, .int o), (2, .int sz), (3, .int cd)] → W p l e rm_X4_clear s m args below meth c H locs 0 0 Q (F0 m 18 ls []) := by
    intro n
    induction n with
    | zero =>
      intro w18_4 Kl18 dl18 H locs ls hm
      exact absurd hm (Nat.not_lt_zero _)
    | succ n ih =>
      intro w18_4 Kl18 dl18 H locs ls hm h0 hr hP hS hl
      replace hr := hr.trans (x_clear_L18_s n w18_4 Kl18 dl18)
      refine lv_iload hx hb dX4_clear_18 (lv_at hl 0 rfl) ?_
      refine lv_iconst (v := (3 : Int32)) hx hb dX4_clear_20 ic_3 ?_
      refine lv_icmp_ge (tgt := 46) hx hb dX4_clear_21 (by decide) (fun c_21 => ?_) (fun c_21 => ?_)
      · replace hr := hr.trans (if_pos c_21)
        exact g_endUv (Pic := (fun u => xB D ad ca u.1 u.2)) (u := (Kl18, dl18)) hF hQ hr hP hS dX4_clear_46
      · replace hr := hr.trans (if_neg c_21)
        refine lv_aload_n hx hb dX4_clear_24 rfl (lv_at hl 1 rfl) ?_
        refine xg_9_3 hx hb hts hown hK hP (hts _ q184) dX4_clear_25 ?_
        refine lv_iload hx hb dX4_clear_28 (lv_at hl 0 rfl) ?_
        refine lv_iconst (v := (0 : Int32)) hx hb dX4_clear_30 ic_0 ?_
        refine xs_10 hx hb hK hI hP hS (i_in h0 c_21 (by decide)) dX4_clear_31 (fun K4 eK4 H locs hP hS => ?_)
        replace hr := hr.trans (bnd_eq eK4)
        refine lv_aload_n hx hb dX4_clear_32 rfl (lv_at hl 1 rfl) ?_
        refine xg_9_4 hx hb hts hown hK hP (hts _ q187) dX4_clear_33 ?_
        refine lv_iload hx hb dX4_clear_36 (lv_at hl 0 rfl) ?_
        refine lv_iconst (v := (0 : Int32)) hx hb dX4_clear_38 ic_0 ?_
        refine xs_11 hx hb hK hI hP hS (i_in h0 c_21 (by decide)) dX4_clear_39 (fun K5 eK5 H locs hP hS => ?_)
        replace hr := hr.trans (bnd_eq eK5)
        obtain ⟨v6, ev6⟩ : ∃ z : Int32, z = (w18_4 + (1 : Int32)) := ⟨_, rfl⟩
        replace hr := hr.trans (bnd_eq ev6)
        refine lv_iinc (v := v6) (lv' := [(4, .int v6), (0, .ref (ad 9)), (1, .int o), (2, .int sz), (3, .int cd)]) hx hb dX4_clear_40 hl (k := 0) rfl (by rw [ev6, ← ic_1]) (by decide) rfl (fun ls hl => ?_)
        refine lv_goto (tgt := 18) hx hb dX4_clear_43 (by decide) ?_
        exact ih v6 K5 dl18 _ _ ls (mI_dec c_21 hm ev6) (i_nn h0 c_21 ev6) hr hP hS (lv_sub hl [0, 1, 2, 3, 4] rfl)
  exact lp18 (mI (0 : Int32) (3 : Int32) + 1) (0 : Int32) K3 d _ _ ls (Nat.lt_succ_self _) (by decide) hr hP hS (lv_sub hl [0, 1, 2, 3, 4] rfl)
def x_iput (K : XK) (k : Int32) (kind : Int32) (reg : Int32) (d : XD) : (XK × XD) := bnd (kx_kinds_ (upd (kx_kinds K) k.toNatClampNeg kind) K) fun K1 => bnd (kx_regs_ (upd (kx_regs K1) k.toNatClampNeg reg) K1) fun K2 => (K2, d)
abbrev rm_X4_put : Room := { frames := 0, cells := 0, slots := 0, locals := 0 }
set_option maxHeartbeats 4000000 in
set_option maxRecDepth 100000 in
theorem m_X4_put {l : Launch} {D : va_G} {ad : Nat → Nat} {ca : Nat → ClassId} (hI : xInj ad) {K : XK} {d : XD} (k : Int32) (kind : Int32) (reg : Int32) (RES : (XK × XD)) (hr : RES = x_iput K k kind reg d) (hk : vp_in k 3) : g_U l yX4_put (ws_ yX4_put cX4_put 4 none) rm_X4_put [.ref (ad 9), .int k, .int kind, .int reg] (xKp D ca) (xB D ad ca K d) none (xB D ad ca RES.1 RES.2) (xA ad) := by
  refine g_ofU (by decide) (Nat.le_of_ble_eq_true rfl) ?_
  intro p e s m args below meth c ls Q hF hB hKp hl hQ
  obtain ⟨hx, hb, -, -, hml, hown, hts⟩ := id hF
  have hown : s.vm.findClass RX4 = some m.cls := hown
  have hC : CallFix p m c cX4_put 4 s args lw_all RX4 := ⟨hx, hb, hml, hown, hts⟩
  obtain ⟨hK, hN⟩ := id hKp
  have hP : va_P D xcl (XW ad ca K d) s.heap := hB
  have hS : va_S (xA ad) s.heap s.heap [] := va_S.rf
  have hl : lv_has ls 4 [(0, .ref (ad 9)), (1, .int k), (2, .int kind), (3, .int reg)] := hl
  unfold x_iput at hr
  refine lv_aload_n hx hb dX4_put_0 rfl (lv_at hl 0 rfl) ?_
  refine xg_9_3 hx hb hts hown hK hP (hts _ q184) dX4_put_1 ?_
  refine lv_iload_n hx hb dX4_put_4 rfl (lv_at hl 1 rfl) ?_
  refine lv_iload_n hx hb dX4_put_5 rfl (lv_at hl 2 rfl) ?_
  refine xs_10 hx hb hK hI hP hS hk dX4_put_6 (fun K1 eK1 H locs hP hS => ?_)
  replace hr := hr.trans (bnd_eq eK1)
  refine lv_aload_n hx hb dX4_put_7 rfl (lv_at hl 0 rfl) ?_
  refine xg_9_4 hx hb hts hown hK hP (hts _ q187) dX4_put_8 ?_
  refine lv_iload_n hx hb dX4_put_11 rfl (lv_at hl 1 rfl) ?_
  refine lv_iload_n hx hb dX4_put_12 rfl (lv_at hl 3 rfl) ?_
  refine xs_11 hx hb hK hI hP hS hk dX4_put_13 (fun K2 eK2 H locs hP hS => ?_)
  replace hr := hr.trans (bnd_eq eK2)
  exact g_endUv (Pic := (fun u => xB D ad ca u.1 u.2)) (u := (K2, d)) hF hQ hr hP hS dX4_put_14
def x_imemory (K : XK) (ba : Int32) (ix : Int32) (sc : Int32) (di : Int32) (d : XD) : (XK × XD) := bnd (kx_base_ ba K) fun K1 => bnd (kx_index_ ix K1) fun K2 => bnd (kx_scale_ sc K2) fun K3 => bnd (kx_disp_ di K3) fun K4 => (K4, d)
abbrev rm_X4_memory : Room := { frames := 0, cells := 0, slots := 0, locals := 0 }
set_option maxHeartbeats 4000000 in
set_option maxRecDepth 100000 in
theorem m_X4_memory {l : Launch} {D : va_G} {ad : Nat → Nat} {ca : Nat → ClassId} (hI : xInj ad) {K : XK} {d : XD} (ba : Int32) (ix : Int32) (sc : Int32) (di : Int32) (RES : (XK × XD)) (hr : RES = x_imemory K ba ix sc di d) : g_U l yX4_memory (ws_ yX4_memory cX4_memory 5 none) rm_X4_memory [.ref (ad 9), .int ba, .int ix, .int sc, .int di] (xKp D ca) (xB D ad ca K d) none (xB D ad ca RES.1 RES.2) (xA ad) := by
  refine g_ofU (by decide) (Nat.le_of_ble_eq_true rfl) ?_
  intro p e s m args below meth c ls Q hF hB hKp hl hQ
  obtain ⟨hx, hb, -, -, hml, hown, hts⟩ := id hF
  have hown : s.vm.findClass RX4 = some m.cls := hown
  have hC : CallFix p m c cX4_memory 5 s args lw_all RX4 := ⟨hx, hb, hml, hown, hts⟩
  obtain ⟨hK, hN⟩ := id hKp
  have hP : va_P D xcl (XW ad ca K d) s.heap := hB
  have hS : va_S (xA ad) s.heap s.heap [] := va_S.rf
  have hl : lv_has ls 5 [(0, .ref (ad 9)), (1, .int ba), (2, .int ix), (3, .int sc), (4, .int di)] := hl
  unfold x_imemory at hr
  refine lv_aload_n hx hb dX4_memory_0 rfl (lv_at hl 0 rfl) ?_
  refine lv_iload_n hx hb dX4_memory_1 rfl (lv_at hl 1 rfl) ?_
  refine xp_9_5 (v := ba) hx hb hts hown hK hI hP hS (hts _ q190) dX4_memory_2 (fun K1 eK1 H locs hP hS => ?_)
  replace hr := hr.trans (bnd_eq eK1)
  refine lv_aload_n hx hb dX4_memory_5 rfl (lv_at hl 0 rfl) ?_
  refine lv_iload_n hx hb dX4_memory_6 rfl (lv_at hl 2 rfl) ?_
  refine xp_9_6 (v := ix) hx hb hts hown hK hI hP hS (hts _ q193) dX4_memory_7 (fun K2 eK2 H locs hP hS => ?_)
  replace hr := hr.trans (bnd_eq eK2)
  refine lv_aload_n hx hb dX4_memory_10 rfl (lv_at hl 0 rfl) ?_
  refine lv_iload_n hx hb dX4_memory_11 rfl (lv_at hl 3 rfl) ?_
  refine xp_9_7 (v := sc) hx hb hts hown hK hI hP hS (hts _ q196) dX4_memory_12 (fun K3 eK3 H locs hP hS => ?_)
  replace hr := hr.trans (bnd_eq eK3)
  refine lv_aload_n hx hb dX4_memory_15 rfl (lv_at hl 0 rfl) ?_
  refine lv_iload hx hb dX4_memory_16 (lv_at hl 4 rfl) ?_
  refine xp_9_8 (v := di) hx hb hts hown hK hI hP hS (hts _ q199) dX4_memory_18 (fun K4 eK4 H locs hP hS => ?_)
  replace hr := hr.trans (bnd_eq eK4)
  exact g_endUv (Pic := (fun u => xB D ad ca u.1 u.2)) (u := (K4, d)) hF hQ hr hP hS dX4_memory_21
def x_pload_L2 (start : Int64) : Nat → Int32 → XD → XD
  | 0, w2_3, dl2 => dl2
  | n + 1, w2_3, dl2 => if (16 : Int32) ≤ w2_3 then (bnd (dx_r_ (vp_updL (dx_r dl2) (4 : Int32).toNatClampNeg (2147479552 : Int64)) dl2) fun d1 => bnd (dx_ip_ start d1) fun d2 => bnd (dx_flags_ (0 : Int32) d2) fun d3 => bnd (dx_stop_ (0 : Int32) d3) fun d4 => bnd (dx_stopValue_ (0 : Int64) d4) fun d5 => bnd (dx_done_ (0 : Int32) d5) fun d6 => bnd (dx_inN_ (0 : Int32) d6) fun d7 => bnd (dx_outN_ (0 : Int32) d7) fun d8 => d8) else (bnd (dx_r_ (vp_updL (dx_r dl2) w2_3.toNatClampNeg (0 : Int64)) dl2) fun d9 => bnd (α := Int32) ((w2_3 + (1 : Int32))) fun v10 => x_pload_L2 start n v10 d9)
theorem x_pload_L2_s (start : Int64) (n : Nat) (w2_3 : Int32) (dl2 : XD) : x_pload_L2 start (n + 1) w2_3 dl2 = if (16 : Int32) ≤ w2_3 then (bnd (dx_r_ (vp_updL (dx_r dl2) (4 : Int32).toNatClampNeg (2147479552 : Int64)) dl2) fun d1 => bnd (dx_ip_ start d1) fun d2 => bnd (dx_flags_ (0 : Int32) d2) fun d3 => bnd (dx_stop_ (0 : Int32) d3) fun d4 => bnd (dx_stopValue_ (0 : Int64) d4) fun d5 => bnd (dx_done_ (0 : Int32) d5) fun d6 => bnd (dx_inN_ (0 : Int32) d6) fun d7 => bnd (dx_outN_ (0 : Int32) d7) fun d8 => d8) else (bnd (dx_r_ (vp_updL (dx_r dl2) w2_3.toNatClampNeg (0 : Int64)) dl2) fun d9 => bnd (α := Int32) ((w2_3 + (1 : Int32))) fun v10 => x_pload_L2 start n v10 d9) := rfl
def x_pload (start : Int64) (d : XD) : XD := x_pload_L2 start (mI (0 : Int32) (16 : Int32) + 1) (0 : Int32) d
abbrev rm_X2_load : Room := { frames := 0, cells := 0, slots := 0, locals := 0 }
set_option maxHeartbeats 4000000 in
set_option maxRecDepth 100000 in
theorem m_X2_load {l : Launch} {D : va_G} {ad : Nat → Nat} {ca : Nat → ClassId} (hI : xInj ad) {K : XK} {d : XD} (start : Int64) (RES : XD) (hr : RES = x_pload start d) : g_U l yX2_load (ws_ yX2_load cX2_load 4 none) rm_X2_load [.ref (ad 4), .long start] (xKp D ca) (xB D ad ca K d) none (xB D ad ca K RES) (xA ad) := by
  refine g_ofU (by decide) (Nat.le_of_ble_eq_true rfl) ?_
  intro p e s m args below meth c ls Q hF hB hKp hl hQ
  obtain ⟨hx, hb, -, -, hml, hown, hts⟩ := id hF
  have hown : s.vm.findClass RX2 = some m.cls := hown
  have hC : CallFix p m c cX2_load 4 s args lw_all RX2 := ⟨hx, hb, hml, hown, hts⟩
  obtain ⟨hK, hN⟩ := id hKp
  have hP : va_P D xcl (XW ad ca K d) s.heap := hB
  have hS : va_S (xA ad) s.heap s.heap [] := va_S.rf
  have hl : lv_has ls 4 [(0, .ref (ad 4)), (1, .long start)] := hl
  unfold x_pload at hr
  refine lv_iconst (v := (0 : Int32)) hx hb dX2_load_0 ic_0 ?_
  refine lv_istore_n (lv' := [(3, .int (0 : Int32)), (0, .ref (ad 4)), (1, .long start)]) hx hb dX2_load_1 rfl hl (by decide) rfl (fun ls hl => ?_)
  have lp2 : ∀ (n : Nat) (w2_3 : Int32) (dl2 : XD) (H : Heap) (locs : List Loc) (ls : Array Slot), mI w2_3 (16 : Int32) < n → (0 ≤ w2_3) → RES = x_pload_L2 start n w2_3 dl2 → va_P D xcl (XW ad ca K dl2) H → va_S (xA ad) s.heap H locs → lv_has ls 4 [(3, .int w2_3), (0, .ref (ad 4)), (1, .long start)] → W p l e rm_X2_load s m args below meth c H locs 0 0 Q (F0 m 2 ls []) := by
    intro n
    induction n with
    | zero =>
      intro w2_3 dl2 H locs ls hm
      exact absurd hm (Nat.not_lt_zero _)
    | succ n ih =>
      intro w2_3 dl2 H locs ls hm h0 hr hP hS hl
      replace hr := hr.trans (x_pload_L2_s start n w2_3 dl2)
      refine lv_iload_n hx hb dX2_load_2 rfl (lv_at hl 0 rfl) ?_
      refine lv_bipush (v := (16 : Int32)) hx hb dX2_load_3 bp_16 ?_
      refine lv_icmp_ge (tgt := 21) hx hb dX2_load_5 (by decide) (fun c_5 => ?_) (fun c_5 => ?_)
      · replace hr := hr.trans (if_pos c_5)
        refine lv_aload_n hx hb dX2_load_21 rfl (lv_at hl 1 rfl) ?_
        refine xg_4_4 hx hb hts hown hK hP (hts _ q233) dX2_load_22 ?_
        refine lv_iconst (v := (4 : Int32)) hx hb dX2_load_25 ic_4 ?_
        refine lv_ldc2 hx hb hown (hts _ q292) dX2_load_26 ?_
        refine xs_12 hx hb hK hI hP hS (show ¬ ((4 : Int32) < 0 ∨ 16 ≤ (4 : Int32).toNatClampNeg) by decide) dX2_load_29 (fun d1 ed1 H locs hP hS => ?_)
        replace hr := hr.trans (bnd_eq ed1)
        refine lv_aload_n hx hb dX2_load_30 rfl (lv_at hl 1 rfl) ?_
        refine lv_lload_n hx hb dX2_load_31 rfl (lv_at hl 2 rfl) ?_
        refine xp_4_5 (v := start) hx hb hts hown hK hI hP hS (hts _ q235) dX2_load_32 (fun d2 ed2 H locs hP hS => ?_)
        replace hr := hr.trans (bnd_eq ed2)
        refine lv_aload_n hx hb dX2_load_35 rfl (lv_at hl 1 rfl) ?_
        refine lv_iconst (v := (0 : Int32)) hx hb dX2_load_36 ic_0 ?_
        refine xp_4_8 (v := (0 : Int32)) hx hb hts hown hK hI hP hS (hts _ q240) dX2_load_37 (fun d3 ed3 H locs hP hS => ?_)
        replace hr := hr.trans (bnd_eq ed3)
        refine lv_aload_n hx hb dX2_load_40 rfl (lv_at hl 1 rfl) ?_
        refine lv_iconst (v := (0 : Int32)) hx hb dX2_load_41 ic_0 ?_
        refine xp_4_9 (v := (0 : Int32)) hx hb hts hown hK hI hP hS (hts _ q242) dX2_load_42 (fun d4 ed4 H locs hP hS => ?_)
        replace hr := hr.trans (bnd_eq ed4)
        refine lv_aload_n hx hb dX2_load_45 rfl (lv_at hl 1 rfl) ?_
        refine lv_lconst (v := (0 : Int64)) hx hb dX2_load_46 lc_0 ?_
        refine xp_4_7 (v := (0 : Int64)) hx hb hts hown hK hI hP hS (hts _ q238) dX2_load_47 (fun d5 ed5 H locs hP hS => ?_)
        replace hr := hr.trans (bnd_eq ed5)
        refine lv_aload_n hx hb dX2_load_50 rfl (lv_at hl 1 rfl) ?_
        refine lv_iconst (v := (0 : Int32)) hx hb dX2_load_51 ic_0 ?_
        refine xp_4_10 (v := (0 : Int32)) hx hb hts hown hK hI hP hS (hts _ q244) dX2_load_52 (fun d6 ed6 H locs hP hS => ?_)
        replace hr := hr.trans (bnd_eq ed6)
        refine lv_aload_n hx hb dX2_load_55 rfl (lv_at hl 1 rfl) ?_
        refine xg_4_1 hx hb hts hown hK hP (hts _ q227) dX2_load_56 ?_
        refine lv_iconst (v := (0 : Int32)) hx hb dX2_load_59 ic_0 ?_
        refine xpn_5_1 (v := (0 : Int32)) hx hb hts hown hK hI hP hS (xq_q162 hN) dX2_load_60 (fun d7 ed7 H locs hP hS => ?_)
        replace hr := hr.trans (bnd_eq ed7)
        refine lv_aload_n hx hb dX2_load_63 rfl (lv_at hl 1 rfl) ?_
        refine xg_4_2 hx hb hts hown hK hP (hts _ q229) dX2_load_64 ?_
        refine lv_iconst (v := (0 : Int32)) hx hb dX2_load_67 ic_0 ?_
        refine xpn_7_1 (v := (0 : Int32)) hx hb hts hown hK hI hP hS (xq_q162 hN) dX2_load_68 (fun d8 ed8 H locs hP hS => ?_)
        replace hr := hr.trans (bnd_eq ed8)
        exact g_endUv (Pic := (fun u => xB D ad ca K u)) (u := d8) hF hQ hr hP hS dX2_load_71
      · replace hr := hr.trans (if_neg c_5)
        refine lv_aload_n hx hb dX2_load_8 rfl (lv_at hl 1 rfl) ?_
        refine xg_4_4 hx hb hts hown hK hP (hts _ q233) dX2_load_9 ?_
        refine lv_iload_n hx hb dX2_load_12 rfl (lv_at hl 0 rfl) ?_
        refine lv_lconst (v := (0 : Int64)) hx hb dX2_load_13 lc_0 ?_
        refine xs_12 hx hb hK hI hP hS (i_in h0 c_5 (by decide)) dX2_load_14 (fun d9 ed9 H locs hP hS => ?_)
        replace hr := hr.trans (bnd_eq ed9)
        obtain ⟨v10, ev10⟩ : ∃ z : Int32, z = (w2_3 + (1 : Int32)) := ⟨_, rfl⟩
        replace hr := hr.trans (bnd_eq ev10)
        refine lv_iinc (v := v10) (lv' := [(3, .int v10), (0, .ref (ad 4)), (1, .long start)]) hx hb dX2_load_15 hl (k := 0) rfl (by rw [ev10, ← ic_1]) (by decide) rfl (fun ls hl => ?_)
        refine lv_goto (tgt := 2) hx hb dX2_load_18 (by decide) ?_
        exact ih v10 d9 _ _ ls (mI_dec c_5 hm ev10) (i_nn h0 c_5 ev10) hr hP hS (lv_sub hl [0, 1, 2] rfl)
  exact lp2 (mI (0 : Int32) (16 : Int32) + 1) (0 : Int32) d _ _ ls (Nat.lt_succ_self _) (by decide) hr hP hS (lv_sub hl [0, 1, 2] rfl)
