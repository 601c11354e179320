def x_begin (K : XK) (im : Int32) (te : Int32) (rb : Int32) (re : Int32) (db : Int32) (de : Int32) (d : XD) : Bool × (XK × XD) := if te < 0 then (false, (K, d)) else (if rb < te then (false, (K, d)) else (if re < rb then (false, (K, d)) else (if db < re then (false, (K, d)) else (if de < db then (false, (K, d)) else (if im < de then (false, (K, d)) else (if im ≤ (262144 : Int32) then (bnd (x_mload K im d) fun g1 => bnd (x_lay g1.1 ((4194304 : Int32) + te) ((4194304 : Int32) + rb) ((4194304 : Int32) + re) ((4194304 : Int32) + db) ((4194304 : Int32) + de) g1.2) fun g2 => bnd (x_pload (4194304 : Int64) g2.2) fun g3 => (true, (g2.1, g3))) else (false, (K, d))))))))
abbrev rm_X0_begin : Room := { frames := 2, cells := 0, slots := 0, locals := 41 }
set_option maxHeartbeats 4000000 in
set_option maxRecDepth 100000 in
theorem m_X0_begin {l : Launch} {D : va_G} {ad : Nat → Nat} {ca : Nat → ClassId} (hI : xInj ad) {K : XK} {d : XD} (im : Int32) (te : Int32) (rb : Int32) (re : Int32) (db : Int32) (de : Int32) (RES : Bool × (XK × XD)) (hr : RES = x_begin K im te rb re db de d) (hfit : ∀ i : Nat, i < 262144 → fits .byte (.int (dx_image d i)) = true) : g_U l yX0_begin (ws_ yX0_begin cX0_begin 7 (some .boolean)) rm_X0_begin [.ref (ad 0), .int im, .int te, .int rb, .int re, .int db, .int de] (xKp D ca) (xB D ad ca K d) (some (.int (b2i RES.1))) (xB D ad ca RES.2.1 RES.2.2) (xA ad) := by
  refine g_ofU (by decide) (Nat.le_of_ble_eq_true rfl) ?_
  intro p e s m args below meth c ls Q hF hB hKp hl hQ
  obtain ⟨hx, hb, -, -, hml, hown, hts⟩ := id hF
  have hown : s.vm.findClass RX0 = some m.cls := hown
  have hC : CallFix p m c cX0_begin 7 s args lw_all RX0 := ⟨hx, hb, hml, hown, hts⟩
  obtain ⟨hK, hN⟩ := id hKp
  have hP : va_P D xcl (XW ad ca K d) s.heap := hB
  have hS : va_S (xA ad) s.heap s.heap [] := va_S.rf
  have hl : lv_has ls 7 [(0, .ref (ad 0)), (1, .int im), (2, .int te), (3, .int rb), (4, .int re), (5, .int db), (6, .int de)] := hl
  unfold x_begin at hr
  refine lv_iload_n hx hb dX0_begin_0 rfl (lv_at hl 2 rfl) ?_
  refine lv_if_lt (tgt := 41) hx hb dX0_begin_1 (by decide) (fun c_1 => ?_) (fun c_1 => ?_)
  · replace hr := hr.trans (if_pos c_1)
    refine lv_iconst (v := (0 : Int32)) hx hb dX0_begin_41 ic_0 ?_
    exact g_endUz (Pic := (fun u => xB D ad ca u.1 u.2)) (u := (K, d)) hF hQ hr rfl hP hS dX0_begin_42
  · replace hr := hr.trans (if_neg c_1)
    refine lv_iload_n hx hb dX0_begin_4 rfl (lv_at hl 3 rfl) ?_
    refine lv_iload_n hx hb dX0_begin_5 rfl (lv_at hl 2 rfl) ?_
    refine lv_icmp_lt (tgt := 41) hx hb dX0_begin_6 (by decide) (fun c_6 => ?_) (fun c_6 => ?_)
    · replace hr := hr.trans (if_pos c_6)
      refine lv_iconst (v := (0 : Int32)) hx hb dX0_begin_41 ic_0 ?_
      exact g_endUz (Pic := (fun u => xB D ad ca u.1 u.2)) (u := (K, d)) hF hQ hr rfl hP hS dX0_begin_42
    · replace hr := hr.trans (if_neg c_6)
      refine lv_iload hx hb dX0_begin_9 (lv_at hl 4 rfl) ?_
      refine lv_iload_n hx hb dX0_begin_11 rfl (lv_at hl 3 rfl) ?_
      refine lv_icmp_lt (tgt := 41) hx hb dX0_begin_12 (by decide) (fun c_12 => ?_) (fun c_12 => ?_)
      · replace hr := hr.trans (if_pos c_12)
        refine lv_iconst (v := (0 : Int32)) hx hb dX0_begin_41 ic_0 ?_
        exact g_endUz (Pic := (fun u => xB D ad ca u.1 u.2)) (u := (K, d)) hF hQ hr rfl hP hS dX0_begin_42
      · replace hr := hr.trans (if_neg c_12)
        refine lv_iload hx hb dX0_begin_15 (lv_at hl 5 rfl) ?_
        refine lv_iload hx hb dX0_begin_17 (lv_at hl 4 rfl) ?_
        refine lv_icmp_lt (tgt := 41) hx hb dX0_begin_19 (by decide) (fun c_19 => ?_) (fun c_19 => ?_)
        · replace hr := hr.trans (if_pos c_19)
          refine lv_iconst (v := (0 : Int32)) hx hb dX0_begin_41 ic_0 ?_
          exact g_endUz (Pic := (fun u => xB D ad ca u.1 u.2)) (u := (K, d)) hF hQ hr rfl hP hS dX0_begin_42
        · replace hr := hr.trans (if_neg c_19)
          refine lv_iload hx hb dX0_begin_22 (lv_at hl 6 rfl) ?_
          refine lv_iload hx hb dX0_begin_24 (lv_at hl 5 rfl) ?_
          refine lv_icmp_lt (tgt := 41) hx hb dX0_begin_26 (by decide) (fun c_26 => ?_) (fun c_26 => ?_)
          · replace hr := hr.trans (if_pos c_26)
            refine lv_iconst (v := (0 : Int32)) hx hb dX0_begin_41 ic_0 ?_
            exact g_endUz (Pic := (fun u => xB D ad ca u.1 u.2)) (u := (K, d)) hF hQ hr rfl hP hS dX0_begin_42
          · replace hr := hr.trans (if_neg c_26)
            refine lv_iload_n hx hb dX0_begin_29 rfl (lv_at hl 1 rfl) ?_
            refine lv_iload hx hb dX0_begin_30 (lv_at hl 6 rfl) ?_
            refine lv_icmp_lt (tgt := 41) hx hb dX0_begin_32 (by decide) (fun c_32 => ?_) (fun c_32 => ?_)
            · replace hr := hr.trans (if_pos c_32)
              refine lv_iconst (v := (0 : Int32)) hx hb dX0_begin_41 ic_0 ?_
              exact g_endUz (Pic := (fun u => xB D ad ca u.1 u.2)) (u := (K, d)) hF hQ hr rfl hP hS dX0_begin_42
            · replace hr := hr.trans (if_neg c_32)
              refine lv_iload_n hx hb dX0_begin_35 rfl (lv_at hl 1 rfl) ?_
              refine lv_ldc hx hb hown (hts _ q101) dX0_begin_36 ?_
              refine lv_icmp_le (tgt := 43) hx hb dX0_begin_38 (by decide) (fun c_38 => ?_) (fun c_38 => ?_)
              · replace hr := hr.trans (if_pos c_38)
                refine lv_aload_n hx hb dX0_begin_43 rfl (lv_at hl 0 rfl) ?_
                refine xg_0_1 hx hb hts hown hK hP (hts _ q294) dX0_begin_44 ?_
                refine lv_aload_n hx hb dX0_begin_47 rfl (lv_at hl 0 rfl) ?_
                refine xg_0_0 hx hb hts hown hK hP (hts _ q293) dX0_begin_48 ?_
                refine lv_iload_n hx hb dX0_begin_51 rfl (lv_at hl 1 rfl) ?_
                obtain ⟨g1, eg1⟩ : ∃ z, z = x_mload K im d := ⟨_, rfl⟩
                replace hr := hr.trans (bnd_eq eg1)
                refine g_UV0 (As := [.ref (ad 1), .int im]) (rest := []) hC (m_X1_load hI (K := K) (d := d) im g1 eg1 (bg_sz c_1 c_6 c_12 c_19 c_26 c_32 c_38) hfit) (cwV 2 hts cw_X0_36 rfl rfl rfl hd_X1_load ⟨Nat.le_of_ble_eq_true rfl, Nat.le_of_ble_eq_true rfl⟩) xKst (va_recv hK hP (ci := 1) (q0 := 2) rfl rfl) hP hKp ⟨Nat.zero_le _, Nat.zero_le _⟩ hS (fun _ h => h) rfl hl.1 rfl (Nat.le_of_ble_eq_true rfl) dX0_begin_52 (fun H locs hP hS => ?_)
                have hP : va_P D xcl (XW ad ca g1.1 g1.2) H := hP
                refine lv_aload_n hx hb dX0_begin_55 rfl (lv_at hl 0 rfl) ?_
                refine xg_0_1 hx hb hts hown hK hP (hts _ q294) dX0_begin_56 ?_
                refine lv_ldc hx hb hown (hts _ q282) dX0_begin_59 ?_
                refine lv_iload_n hx hb dX0_begin_61 rfl (lv_at hl 2 rfl) ?_
                refine lv_iadd hx hb dX0_begin_62 ?_
                refine lv_ldc hx hb hown (hts _ q282) dX0_begin_63 ?_
                refine lv_iload_n hx hb dX0_begin_65 rfl (lv_at hl 3 rfl) ?_
                refine lv_iadd hx hb dX0_begin_66 ?_
                refine lv_ldc hx hb hown (hts _ q282) dX0_begin_67 ?_
                refine lv_iload hx hb dX0_begin_69 (lv_at hl 4 rfl) ?_
                refine lv_iadd hx hb dX0_begin_71 ?_
                refine lv_ldc hx hb hown (hts _ q282) dX0_begin_72 ?_
                refine lv_iload hx hb dX0_begin_74 (lv_at hl 5 rfl) ?_
                refine lv_iadd hx hb dX0_begin_76 ?_
                refine lv_ldc hx hb hown (hts _ q282) dX0_begin_77 ?_
                refine lv_iload hx hb dX0_begin_79 (lv_at hl 6 rfl) ?_
                refine lv_iadd hx hb dX0_begin_81 ?_
                obtain ⟨g2, eg2⟩ : ∃ z, z = x_lay g1.1 ((4194304 : Int32) + te) ((4194304 : Int32) + rb) ((4194304 : Int32) + re) ((4194304 : Int32) + db) ((4194304 : Int32) + de) g1.2 := ⟨_, rfl⟩
                replace hr := hr.trans (bnd_eq eg2)
                refine g_UV0 (As := [.int ((4194304 : Int32) + te), .int ((4194304 : Int32) + rb), .int ((4194304 : Int32) + re), .int ((4194304 : Int32) + db), .int ((4194304 : Int32) + de)]) (rest := []) hC (m_X1_lay hI (K := g1.1) (d := g1.2) ((4194304 : Int32) + te) ((4194304 : Int32) + rb) ((4194304 : Int32) + re) ((4194304 : Int32) + db) ((4194304 : Int32) + de) g2 eg2) (cwV 5 hts cw_X0_41 rfl rfl rfl hd_X1_lay ⟨Nat.le_of_ble_eq_true rfl, Nat.le_of_ble_eq_true rfl⟩) xKst (va_recv hK hP (ci := 1) (q0 := 2) rfl rfl) hP hKp ⟨Nat.zero_le _, Nat.zero_le _⟩ hS (fun _ h => h) rfl hl.1 rfl (Nat.le_of_ble_eq_true rfl) dX0_begin_82 (fun H locs hP hS => ?_)
                have hP : va_P D xcl (XW ad ca g2.1 g2.2) H := hP
                refine lv_aload_n hx hb dX0_begin_85 rfl (lv_at hl 0 rfl) ?_
                refine xg_0_2 hx hb hts hown hK hP (hts _ q295) dX0_begin_86 ?_
                refine lv_ldc2 hx hb hown (hts _ q287) dX0_begin_89 ?_
                obtain ⟨g3, eg3⟩ : ∃ z, z = x_pload (4194304 : Int64) g2.2 := ⟨_, rfl⟩
                replace hr := hr.trans (bnd_eq eg3)
                refine g_UV0 (As := [.long (4194304 : Int64)]) (rest := []) hC (m_X2_load hI (K := g2.1) (d := g2.2) (4194304 : Int64) g3 eg3) (cwV 1 hts cw_X0_47 rfl rfl rfl hd_X2_load ⟨Nat.le_of_ble_eq_true rfl, Nat.le_of_ble_eq_true rfl⟩) xKst (va_recv hK hP (ci := 2) (q0 := 4) rfl rfl) hP hKp ⟨Nat.zero_le _, Nat.zero_le _⟩ hS (fun _ h => h) rfl hl.1 rfl (Nat.le_of_ble_eq_true rfl) dX0_begin_92 (fun H locs hP hS => ?_)
                have hP : va_P D xcl (XW ad ca g2.1 g3) H := hP
                refine lv_iconst (v := (1 : Int32)) hx hb dX0_begin_95 ic_1 ?_
                exact g_endUz (Pic := (fun u => xB D ad ca u.1 u.2)) (u := (g2.1, g3)) hF hQ hr rfl hP hS dX0_begin_96
              · replace hr := hr.trans (if_neg c_38)
                refine lv_iconst (v := (0 : Int32)) hx hb dX0_begin_41 ic_0 ?_
                exact g_endUz (Pic := (fun u => xB D ad ca u.1 u.2)) (u := (K, d)) hF hQ hr rfl hP hS dX0_begin_42
def x_fill_L3 (place : Int32) (v : Int64) : Nat → Int32 → XD → XD
  | 0, w3_4, dl3 => dl3
  | n + 1, w3_4, dl3 => if (8 : Int32) ≤ w3_4 then dl3 else (bnd (α := Int64) (((place.toInt64) + (w3_4.toInt64))) fun v1 => if v1 < (0 : Int64) then (bnd (α := Int32) ((w3_4 + (1 : Int32))) fun v2 => x_fill_L3 place v n v2 dl3) else (if (262144 : Int64) ≤ v1 then (bnd (α := Int32) ((w3_4 + (1 : Int32))) fun v3 => x_fill_L3 place v n v3 dl3) else (bnd (dx_image_ (upd (dx_image dl3) (v1.toInt32).toNatClampNeg (vp_nar .byte (((lshr_ v ((8 : Int32) * w3_4)).toInt32).toInt8.toInt32))) dl3) fun d4 => bnd (α := Int32) ((w3_4 + (1 : Int32))) fun v5 => x_fill_L3 place v n v5 d4)))
theorem x_fill_L3_s (place : Int32) (v : Int64) (n : Nat) (w3_4 : Int32) (dl3 : XD) : x_fill_L3 place v (n + 1) w3_4 dl3 = if (8 : Int32) ≤ w3_4 then dl3 else (bnd (α := Int64) (((place.toInt64) + (w3_4.toInt64))) fun v1 => if v1 < (0 : Int64) then (bnd (α := Int32) ((w3_4 + (1 : Int32))) fun v2 => x_fill_L3 place v n v2 dl3) else (if (262144 : Int64) ≤ v1 then (bnd (α := Int32) ((w3_4 + (1 : Int32))) fun v3 => x_fill_L3 place v n v3 dl3) else (bnd (dx_image_ (upd (dx_image dl3) (v1.toInt32).toNatClampNeg (vp_nar .byte (((lshr_ v ((8 : Int32) * w3_4)).toInt32).toInt8.toInt32))) dl3) fun d4 => bnd (α := Int32) ((w3_4 + (1 : Int32))) fun v5 => x_fill_L3 place v n v5 d4))) := rfl
def x_fill (place : Int32) (v : Int64) (d : XD) : XD := x_fill_L3 place v (mI (0 : Int32) (8 : Int32) + 1) (0 : Int32) d
abbrev rm_X0_fill : Room := { frames := 0, cells := 0, slots := 0, locals := 0 }
set_option maxHeartbeats 4000000 in
set_option maxRecDepth 100000 in
theorem m_X0_fill {l : Launch} {D : va_G} {ad : Nat → Nat} {ca : Nat → ClassId} (hI : xInj ad) {K : XK} {d : XD} (place : Int32) (v : Int64) (RES : XD) (hr : RES = x_fill place v d) : g_U l yX0_fill (ws_ yX0_fill cX0_fill 7 none) rm_X0_fill [.ref (ad 0), .int place, .long v] (xKp D ca) (xB D ad ca K d) none (xB D ad ca K RES) (xA ad) := by
  refine g_ofU (by decide) (Nat.le_of_ble_eq_true rfl) ?_
  intro p e s m args below meth c ls Q hF hB hKp hl hQ
  obtain ⟨hx, hb, -, -, hml, hown, hts⟩ := id hF
  have hown : s.vm.findClass RX0 = some m.cls := hown
  have hC : CallFix p m c cX0_fill 7 s args lw_all RX0 := ⟨hx, hb, hml, hown, hts⟩
  obtain ⟨hK, hN⟩ := id hKp
  have hP : va_P D xcl (XW ad ca K d) s.heap := hB
  have hS : va_S (xA ad) s.heap s.heap [] := va_S.rf
  have hl : lv_has ls 7 [(0, .ref (ad 0)), (1, .int place), (2, .long v)] := hl
  unfold x_fill at hr
  refine lv_iconst (v := (0 : Int32)) hx hb dX0_fill_0 ic_0 ?_
  refine lv_istore (lv' := [(4, .int (0 : Int32)), (0, .ref (ad 0)), (1, .int place), (2, .long v)]) hx hb dX0_fill_1 hl (by decide) rfl (fun ls hl => ?_)
  have lp3 : ∀ (n : Nat) (w3_4 : Int32) (dl3 : XD) (H : Heap) (locs : List Loc) (ls : Array Slot), mI w3_4 (8 : Int32) < n → (0 ≤ w3_4) → RES = x_fill_L3 place v n w3_4 dl3 → va_P D xcl (XW ad ca K dl3) H → va_S (xA ad) s.heap H locs → lv_has ls 7 [(4, .int w3_4), (0, .ref (ad 0)), (1, .int place), (2, .long v)] → W p l e rm_X0_fill s m args below meth c H locs 0 0 Q (F0 m 3 ls []) := by
    intro n
    induction n with
    | zero =>
      intro w3_4 dl3 H locs ls hm
      exact absurd hm (Nat.not_lt_zero _)
    | succ n ih =>
      intro w3_4 dl3 H locs ls hm h0 hr hP hS hl
      replace hr := hr.trans (x_fill_L3_s place v n w3_4 dl3)
      refine lv_iload hx hb dX0_fill_3 (lv_at hl 0 rfl) ?_
      refine lv_bipush (v := (8 : Int32)) hx hb dX0_fill_5 bp_8 ?_
      refine lv_icmp_ge (tgt := 57) hx hb dX0_fill_7 (by decide) (fun c_7 => ?_) (fun c_7 => ?_)
      · replace hr := hr.trans (if_pos c_7)
        exact g_endUv (Pic := (fun u => xB D ad ca K u)) (u := dl3) hF hQ hr hP hS dX0_fill_57
      · replace hr := hr.trans (if_neg c_7)
        refine lv_iload_n hx hb dX0_fill_10 rfl (lv_at hl 2 rfl) ?_
        refine lv_i2l (v := place.toInt64) hx hb dX0_fill_11 rfl ?_
        refine lv_iload hx hb dX0_fill_12 (lv_at hl 0 rfl) ?_
        refine lv_i2l (v := w3_4.toInt64) hx hb dX0_fill_14 rfl ?_
        refine lv_ladd hx hb dX0_fill_15 ?_
        refine lv_topl (fun v1 ev1 => ?_)
        replace hr := hr.trans (bnd_eq ev1)
        refine lv_lstore (lv' := [(5, .long v1), (4, .int w3_4), (0, .ref (ad 0)), (1, .int place), (2, .long v)]) hx hb dX0_fill_16 hl (by decide) rfl (fun ls hl => ?_)
        refine lv_lload hx hb dX0_fill_18 (lv_at hl 0 rfl) ?_
        refine lv_lconst (v := (0 : Int64)) hx hb dX0_fill_20 lc_0 ?_
        refine lq_lt (tgt := 51) hx hb dX0_fill_21 dX0_fill_22 (by decide) (fun c_21 => ?_) (fun c_21 => ?_)
        · replace hr := hr.trans (if_pos c_21)
          obtain ⟨v2, ev2⟩ : ∃ z : Int32, z = (w3_4 + (1 : Int32)) := ⟨_, rfl⟩
          replace hr := hr.trans (bnd_eq ev2)
          refine lv_iinc (v := v2) (lv' := [(4, .int v2), (5, .long v1), (0, .ref (ad 0)), (1, .int place), (2, .long v)]) hx hb dX0_fill_51 hl (k := 1) rfl (by rw [ev2, ← ic_1]) (by decide) rfl (fun ls hl => ?_)
          refine lv_goto (tgt := 3) hx hb dX0_fill_54 (by decide) ?_
          exact ih v2 dl3 _ _ ls (mI_dec c_7 hm ev2) (i_nn h0 c_7 ev2) hr hP hS (lv_sub hl [0, 2, 3, 4] rfl)
        · replace hr := hr.trans (if_neg c_21)
          refine lv_lload hx hb dX0_fill_25 (lv_at hl 0 rfl) ?_
          refine lv_ldc2 hx hb hown (hts _ q308) dX0_fill_27 ?_
          refine lq_ge (tgt := 51) hx hb dX0_fill_30 dX0_fill_31 (by decide) (fun c_30 => ?_) (fun c_30 => ?_)
          · replace hr := hr.trans (if_pos c_30)
            obtain ⟨v3, ev3⟩ : ∃ z : Int32, z = (w3_4 + (1 : Int32)) := ⟨_, rfl⟩
            replace hr := hr.trans (bnd_eq ev3)
            refine lv_iinc (v := v3) (lv' := [(4, .int v3), (5, .long v1), (0, .ref (ad 0)), (1, .int place), (2, .long v)]) hx hb dX0_fill_51 hl (k := 1) rfl (by rw [ev3, ← ic_1]) (by decide) rfl (fun ls hl => ?_)
            refine lv_goto (tgt := 3) hx hb dX0_fill_54 (by decide) ?_
            exact ih v3 dl3 _ _ ls (mI_dec c_7 hm ev3) (i_nn h0 c_7 ev3) hr hP hS (lv_sub hl [0, 2, 3, 4] rfl)
          · replace hr := hr.trans (if_neg c_30)
            refine lv_aload_n hx hb dX0_fill_34 rfl (lv_at hl 2 rfl) ?_
            refine xg_0_0 hx hb hts hown hK hP (hts _ q293) dX0_fill_35 ?_
            refine lv_lload hx hb dX0_fill_38 (lv_at hl 0 rfl) ?_
            refine lv_l2i (v := v1.toInt32) hx hb dX0_fill_40 rfl ?_
            refine lv_lload_n hx hb dX0_fill_41 rfl (lv_at hl 4 rfl) ?_
            refine lv_bipush (v := (8 : Int32)) hx hb dX0_fill_42 bp_8 ?_
            refine lv_iload hx hb dX0_fill_44 (lv_at hl 1 rfl) ?_
            refine lv_imul hx hb dX0_fill_46 ?_
            refine lv_lshr (v := (lshr_ v ((8 : Int32) * w3_4))) hx hb dX0_fill_47 rfl ?_
            refine lv_l2i (v := (lshr_ v ((8 : Int32) * w3_4)).toInt32) hx hb dX0_fill_48 rfl ?_
            refine lv_i2b (v := ((lshr_ v ((8 : Int32) * w3_4)).toInt32).toInt8.toInt32) hx hb dX0_fill_49 rfl ?_
            refine xs_1 hx hb hK hI hP hS (fl_in c_21 c_30) dX0_fill_50 (fun d4 ed4 H locs hP hS => ?_)
            replace hr := hr.trans (bnd_eq ed4)
            obtain ⟨v5, ev5⟩ : ∃ z : Int32, z = (w3_4 + (1 : Int32)) := ⟨_, rfl⟩
            replace hr := hr.trans (bnd_eq ev5)
            refine lv_iinc (v := v5) (lv' := [(4, .int v5), (5, .long v1), (0, .ref (ad 0)), (1, .int place), (2, .long v)]) hx hb dX0_fill_51 hl (k := 1) rfl (by rw [ev5, ← ic_1]) (by decide) rfl (fun ls hl => ?_)
            refine lv_goto (tgt := 3) hx hb dX0_fill_54 (by decide) ?_
            exact ih v5 d4 _ _ ls (mI_dec c_7 hm ev5) (i_nn h0 c_7 ev5) hr hP hS (lv_sub hl [0, 2, 3, 4] rfl)
  exact lp3 (mI (0 : Int32) (8 : Int32) + 1) (0 : Int32) d _ _ ls (Nat.lt_succ_self _) (by decide) hr hP hS (lv_sub hl [0, 1, 2, 3] rfl)
def x_op (K : XK) (o : Int32) (sz : Int32) (cd : Int32) (d : XD) : (XK × XD) := bnd (x_clear K o sz cd d) fun g1 => (g1.1, g1.2)
abbrev rm_X0_op : Room := { frames := 1, cells := 0, slots := 0, locals := 24 }
set_option maxHeartbeats 4000000 in
set_option maxRecDepth 100000 in
theorem m_X0_op {l : Launch} {D : va_G} {ad : Nat → Nat} {ca : Nat → ClassId} (hI : xInj ad) {K : XK} {d : XD} (o : Int32) (sz : Int32) (cd : Int32) (RES : (XK × XD)) (hr : RES = x_op K o sz cd d) : g_U l yX0_op (ws_ yX0_op cX0_op 4 none) rm_X0_op [.ref (ad 0), .int o, .int sz, .int cd] (xKp D ca) (xB D ad ca K d) none (xB D ad ca RES.1 RES.2) (xA ad) := by
  refine g_ofU (by decide) (Nat.le_of_ble_eq_true rfl) ?_
  intro p e s m args below meth c ls Q hF hB hKp hl hQ
  obtain ⟨hx, hb, -, -, hml, hown, hts⟩ := id hF
  have hown : s.vm.findClass RX0 = some m.cls := hown
  have hC : CallFix p m c cX0_op 4 s args lw_all RX0 := ⟨hx, hb, hml, hown, hts⟩
  obtain ⟨hK, hN⟩ := id hKp
  have hP : va_P D xcl (XW ad ca K d) s.heap := hB
  have hS : va_S (xA ad) s.heap s.heap [] := va_S.rf
  have hl : lv_has ls 4 [(0, .ref (ad 0)), (1, .int o), (2, .int sz), (3, .int cd)] := hl
  unfold x_op at hr
  refine lv_aload_n hx hb dX0_op_0 rfl (lv_at hl 0 rfl) ?_
  refine xg_0_2 hx hb hts hown hK hP (hts _ q295) dX0_op_1 ?_
  refine xgn_4_3 hx hb hts hown hK hP (xq_q232 hN) dX0_op_4 ?_
  refine lv_iload_n hx hb dX0_op_7 rfl (lv_at hl 1 rfl) ?_
  refine lv_iload_n hx hb dX0_op_8 rfl (lv_at hl 2 rfl) ?_
  refine lv_iload_n hx hb dX0_op_9 rfl (lv_at hl 3 rfl) ?_
  obtain ⟨g1, eg1⟩ : ∃ z, z = x_clear K o sz cd d := ⟨_, rfl⟩
  replace hr := hr.trans (bnd_eq eg1)
  refine g_UV0 (As := [.int o, .int sz, .int cd]) (rest := []) hC (m_X4_clear hI (K := K) (d := d) o sz cd g1 eg1) (cwV 3 hts cw_X0_56 rfl rfl rfl hd_X4_clear ⟨Nat.le_of_ble_eq_true rfl, Nat.le_of_ble_eq_true rfl⟩) xKst (va_recv hK hP (ci := 4) (q0 := 9) rfl rfl) hP hKp ⟨Nat.zero_le _, Nat.zero_le _⟩ hS (fun _ h => h) rfl hl.1 rfl (Nat.le_of_ble_eq_true rfl) dX0_op_10 (fun H locs hP hS => ?_)
  have hP : va_P D xcl (XW ad ca g1.1 g1.2) H := hP
  exact g_endUv (Pic := (fun u => xB D ad ca u.1 u.2)) (u := (g1.1, g1.2)) hF hQ hr hP hS dX0_op_13
def x_operand (K : XK) (k : Int32) (kind : Int32) (reg : Int32) (d : XD) : Bool × (XK × XD) := if k < 0 then (false, (K, d)) else (if (2 : Int32) < k then (false, (K, d)) else (if kind < 0 then (false, (K, d)) else (if (3 : Int32) < kind then (false, (K, d)) else (if reg < 0 then (false, (K, d)) else (if (15 : Int32) < reg then (false, (K, d)) else (if kind = (1 : Int32) then (bnd (x_iput K k kind reg d) fun g1 => (true, (g1.1, g1.2))) else (if reg = 0 then (bnd (x_iput K k kind reg d) fun g2 => (true, (g2.1, g2.2))) else (false, (K, d)))))))))
abbrev rm_X0_operand : Room := { frames := 1, cells := 0, slots := 0, locals := 23 }
set_option maxHeartbeats 4000000 in
set_option maxRecDepth 100000 in
theorem m_X0_operand {l : Launch} {D : va_G} {ad : Nat → Nat} {ca : Nat → ClassId} (hI : xInj ad) {K : XK} {d : XD} (k : Int32) (kind : Int32) (reg : Int32) (RES : Bool × (XK × XD)) (hr : RES = x_operand K k kind reg d) : g_U l yX0_operand (ws_ yX0_operand cX0_operand 4 (some .boolean)) rm_X0_operand [.ref (ad 0), .int k, .int kind, .int reg] (xKp D ca) (xB D ad ca K d) (some (.int (b2i RES.1))) (xB D ad ca RES.2.1 RES.2.2) (xA ad) := by
  refine g_ofU (by decide) (Nat.le_of_ble_eq_true rfl) ?_
  intro p e s m args below meth c ls Q hF hB hKp hl hQ
  obtain ⟨hx, hb, -, -, hml, hown, hts⟩ := id hF
  have hown : s.vm.findClass RX0 = some m.cls := hown
  have hC : CallFix p m c cX0_operand 4 s args lw_all RX0 := ⟨hx, hb, hml, hown, hts⟩
  obtain ⟨hK, hN⟩ := id hKp
  have hP : va_P D xcl (XW ad ca K d) s.heap := hB
  have hS : va_S (xA ad) s.heap s.heap [] := va_S.rf
  have hl : lv_has ls 4 [(0, .ref (ad 0)), (1, .int k), (2, .int kind), (3, .int reg)] := hl
  unfold x_operand at hr
  refine lv_iload_n hx hb dX0_operand_0 rfl (lv_at hl 1 rfl) ?_
  refine lv_if_lt (tgt := 37) hx hb dX0_operand_1 (by decide) (fun c_1 => ?_) (fun c_1 => ?_)
  · replace hr := hr.trans (if_pos c_1)
    refine lv_iconst (v := (0 : Int32)) hx hb dX0_operand_37 ic_0 ?_
    exact g_endUz (Pic := (fun u => xB D ad ca u.1 u.2)) (u := (K, d)) hF hQ hr rfl hP hS dX0_operand_38
  · replace hr := hr.trans (if_neg c_1)
    refine lv_iload_n hx hb dX0_operand_4 rfl (lv_at hl 1 rfl) ?_
    refine lv_iconst (v := (2 : Int32)) hx hb dX0_operand_5 ic_2 ?_
    refine lv_icmp_gt (tgt := 37) hx hb dX0_operand_6 (by decide) (fun c_6 => ?_) (fun c_6 => ?_)
    · replace hr := hr.trans (if_pos c_6)
      refine lv_iconst (v := (0 : Int32)) hx hb dX0_operand_37 ic_0 ?_
      exact g_endUz (Pic := (fun u => xB D ad ca u.1 u.2)) (u := (K, d)) hF hQ hr rfl hP hS dX0_operand_38
    · replace hr := hr.trans (if_neg c_6)
      refine lv_iload_n hx hb dX0_operand_9 rfl (lv_at hl 2 rfl) ?_
      refine lv_if_lt (tgt := 37) hx hb dX0_operand_10 (by decide) (fun c_10 => ?_) (fun c_10 => ?_)
      · replace hr := hr.trans (if_pos c_10)
        refine lv_iconst (v := (0 : Int32)) hx hb dX0_operand_37 ic_0 ?_
        exact g_endUz (Pic := (fun u => xB D ad ca u.1 u.2)) (u := (K, d)) hF hQ hr rfl hP hS dX0_operand_38
      · replace hr := hr.trans (if_neg c_10)
        refine lv_iload_n hx hb dX0_operand_13 rfl (lv_at hl 2 rfl) ?_
        refine lv_iconst (v := (3 : Int32)) hx hb dX0_operand_14 ic_3 ?_
        refine lv_icmp_gt (tgt := 37) hx hb dX0_operand_15 (by decide) (fun c_15 => ?_) (fun c_15 => ?_)
        · replace hr := hr.trans (if_pos c_15)
          refine lv_iconst (v := (0 : Int32)) hx hb dX0_operand_37 ic_0 ?_
          exact g_endUz (Pic := (fun u => xB D ad ca u.1 u.2)) (u := (K, d)) hF hQ hr rfl hP hS dX0_operand_38
        · replace hr := hr.trans (if_neg c_15)
          refine lv_iload_n hx hb dX0_operand_18 rfl (lv_at hl 3 rfl) ?_
          refine lv_if_lt (tgt := 37) hx hb dX0_operand_19 (by decide) (fun c_19 => ?_) (fun c_19 => ?_)
          · replace hr := hr.trans (if_pos c_19)
            refine lv_iconst (v := (0 : Int32)) hx hb dX0_operand_37 ic_0 ?_
            exact g_endUz (Pic := (fun u => xB D ad ca u.1 u.2)) (u := (K, d)) hF hQ hr rfl hP hS dX0_operand_38
          · replace hr := hr.trans (if_neg c_19)
            refine lv_iload_n hx hb dX0_operand_22 rfl (lv_at hl 3 rfl) ?_
            refine lv_bipush (v := (15 : Int32)) hx hb dX0_operand_23 bp_15 ?_
            refine lv_icmp_gt (tgt := 37) hx hb dX0_operand_25 (by decide) (fun c_25 => ?_) (fun c_25 => ?_)
            · replace hr := hr.trans (if_pos c_25)
              refine lv_iconst (v := (0 : Int32)) hx hb dX0_operand_37 ic_0 ?_
              exact g_endUz (Pic := (fun u => xB D ad ca u.1 u.2)) (u := (K, d)) hF hQ hr rfl hP hS dX0_operand_38
            · replace hr := hr.trans (if_neg c_25)
              refine lv_iload_n hx hb dX0_operand_28 rfl (lv_at hl 2 rfl) ?_
              refine lv_iconst (v := (1 : Int32)) hx hb dX0_operand_29 ic_1 ?_
              refine lv_icmp_eq (tgt := 39) hx hb dX0_operand_30 (by decide) (fun c_30 => ?_) (fun c_30 => ?_)
              · replace hr := hr.trans (if_pos c_30)
                refine lv_aload_n hx hb dX0_operand_39 rfl (lv_at hl 0 rfl) ?_
                refine xg_0_2 hx hb hts hown hK hP (hts _ q295) dX0_operand_40 ?_
                refine xgn_4_3 hx hb hts hown hK hP (xq_q232 hN) dX0_operand_43 ?_
                refine lv_iload_n hx hb dX0_operand_46 rfl (lv_at hl 1 rfl) ?_
                refine lv_iload_n hx hb dX0_operand_47 rfl (lv_at hl 2 rfl) ?_
                refine lv_iload_n hx hb dX0_operand_48 rfl (lv_at hl 3 rfl) ?_
                obtain ⟨g1, eg1⟩ : ∃ z, z = x_iput K k kind reg d := ⟨_, rfl⟩
                replace hr := hr.trans (bnd_eq eg1)
                refine g_UV0 (As := [.int k, .int kind, .int reg]) (rest := []) hC (m_X4_put hI (K := K) (d := d) k kind reg g1 eg1 (in3_of c_1 c_6)) (cwV 3 hts cw_X0_62 rfl rfl rfl hd_X4_put ⟨Nat.le_of_ble_eq_true rfl, Nat.le_of_ble_eq_true rfl⟩) xKst (va_recv hK hP (ci := 4) (q0 := 9) rfl rfl) hP hKp ⟨Nat.zero_le _, Nat.zero_le _⟩ hS (fun _ h => h) rfl hl.1 rfl (Nat.le_of_ble_eq_true rfl) dX0_operand_49 (fun H locs hP hS => ?_)
                have hP : va_P D xcl (XW ad ca g1.1 g1.2) H := hP
                refine lv_iconst (v := (1 : Int32)) hx hb dX0_operand_52 ic_1 ?_
                exact g_endUz (Pic := (fun u => xB D ad ca u.1 u.2)) (u := (g1.1, g1.2)) hF hQ hr rfl hP hS dX0_operand_53
              · replace hr := hr.trans (if_neg c_30)
                refine lv_iload_n hx hb dX0_operand_33 rfl (lv_at hl 3 rfl) ?_
                refine lv_if_eq (tgt := 39) hx hb dX0_operand_34 (by decide) (fun c_34 => ?_) (fun c_34 => ?_)
                · replace hr := hr.trans (if_pos c_34)
                  refine lv_aload_n hx hb dX0_operand_39 rfl (lv_at hl 0 rfl) ?_
                  refine xg_0_2 hx hb hts hown hK hP (hts _ q295) dX0_operand_40 ?_
                  refine xgn_4_3 hx hb hts hown hK hP (xq_q232 hN) dX0_operand_43 ?_
                  refine lv_iload_n hx hb dX0_operand_46 rfl (lv_at hl 1 rfl) ?_
                  refine lv_iload_n hx hb dX0_operand_47 rfl (lv_at hl 2 rfl) ?_
                  refine lv_iload_n hx hb dX0_operand_48 rfl (lv_at hl 3 rfl) ?_
                  obtain ⟨g2, eg2⟩ : ∃ z, z = x_iput K k kind reg d := ⟨_, rfl⟩
                  replace hr := hr.trans (bnd_eq eg2)
                  refine g_UV0 (As := [.int k, .int kind, .int reg]) (rest := []) hC (m_X4_put hI (K := K) (d := d) k kind reg g2 eg2 (in3_of c_1 c_6)) (cwV 3 hts cw_X0_62 rfl rfl rfl hd_X4_put ⟨Nat.le_of_ble_eq_true rfl, Nat.le_of_ble_eq_true rfl⟩) xKst (va_recv hK hP (ci := 4) (q0 := 9) rfl rfl) hP hKp ⟨Nat.zero_le _, Nat.zero_le _⟩ hS (fun _ h => h) rfl hl.1 rfl (Nat.le_of_ble_eq_true rfl) dX0_operand_49 (fun H locs hP hS => ?_)
                  have hP : va_P D xcl (XW ad ca g2.1 g2.2) H := hP
                  refine lv_iconst (v := (1 : Int32)) hx hb dX0_operand_52 ic_1 ?_
                  exact g_endUz (Pic := (fun u => xB D ad ca u.1 u.2)) (u := (g2.1, g2.2)) hF hQ hr rfl hP hS dX0_operand_53
                · replace hr := hr.trans (if_neg c_34)
                  refine lv_iconst (v := (0 : Int32)) hx hb dX0_operand_37 ic_0 ?_
                  exact g_endUz (Pic := (fun u => xB D ad ca u.1 u.2)) (u := (K, d)) hF hQ hr rfl hP hS dX0_operand_38
def x_memory (K : XK) (ba : Int32) (ix : Int32) (sc : Int32) (di : Int32) (d : XD) : (XK × XD) := bnd (x_imemory K ba ix sc di d) fun g1 => (g1.1, g1.2)
abbrev rm_X0_memory : Room := { frames := 1, cells := 0, slots := 0, locals := 24 }
set_option maxHeartbeats 4000000 in
set_option maxRecDepth 100000 in
theorem m_X0_memory {l : Launch} {D : va_G} {ad : Nat → Nat} {ca : Nat → ClassId} (hI : xInj ad) {K : XK} {d : XD} (ba : Int32) (ix : Int32) (sc : Int32) (di : Int32) (RES : (XK × XD)) (hr : RES = x_memory K ba ix sc di d) : g_U l yX0_memory (ws_ yX0_memory cX0_memory 5 none) rm_X0_memory [.ref (ad 0), .int ba, .int ix, .int sc, .int di] (xKp D ca) (xB D ad ca K d) none (xB D ad ca RES.1 RES.2) (xA ad) := by
  refine g_ofU (by decide) (Nat.le_of_ble_eq_true rfl) ?_
  intro p e s m args below meth c ls Q hF hB hKp hl hQ
  obtain ⟨hx, hb, -, -, hml, hown, hts⟩ := id hF
  have hown : s.vm.findClass RX0 = some m.cls := hown
  have hC : CallFix p m c cX0_memory 5 s args lw_all RX0 := ⟨hx, hb, hml, hown, hts⟩
  obtain ⟨hK, hN⟩ := id hKp
  have hP : va_P D xcl (XW ad ca K d) s.heap := hB
  have hS : va_S (xA ad) s.heap s.heap [] := va_S.rf
  have hl : lv_has ls 5 [(0, .ref (ad 0)), (1, .int ba), (2, .int ix), (3, .int sc), (4, .int di)] := hl
  unfold x_memory at hr
  refine lv_aload_n hx hb dX0_memory_0 rfl (lv_at hl 0 rfl) ?_
  refine xg_0_2 hx hb hts hown hK hP (hts _ q295) dX0_memory_1 ?_
  refine xgn_4_3 hx hb hts hown hK hP (xq_q232 hN) dX0_memory_4 ?_
  refine lv_iload_n hx hb dX0_memory_7 rfl (lv_at hl 1 rfl) ?_
  refine lv_iload_n hx hb dX0_memory_8 rfl (lv_at hl 2 rfl) ?_
  refine lv_iload_n hx hb dX0_memory_9 rfl (lv_at hl 3 rfl) ?_
  refine lv_iload hx hb dX0_memory_10 (lv_at hl 4 rfl) ?_
  obtain ⟨g1, eg1⟩ : ∃ z, z = x_imemory K ba ix sc di d := ⟨_, rfl⟩
  replace hr := hr.trans (bnd_eq eg1)
  refine g_UV0 (As := [.int ba, .int ix, .int sc, .int di]) (rest := []) hC (m_X4_memory hI (K := K) (d := d) ba ix sc di g1 eg1) (cwV 4 hts cw_X0_65 rfl rfl rfl hd_X4_memory ⟨Nat.le_of_ble_eq_true rfl, Nat.le_of_ble_eq_true rfl⟩) xKst (va_recv hK hP (ci := 4) (q0 := 9) rfl rfl) hP hKp ⟨Nat.zero_le _, Nat.zero_le _⟩ hS (fun _ h => h) rfl hl.1 rfl (Nat.le_of_ble_eq_true rfl) dX0_memory_12 (fun H locs hP hS => ?_)
  have hP : va_P D xcl (XW ad ca g1.1 g1.2) H := hP
  exact g_endUv (Pic := (fun u => xB D ad ca u.1 u.2)) (u := (g1.1, g1.2)) hF hQ hr hP hS dX0_memory_15
def x_number (K : XK) (v : Int64) (d : XD) : (XK × XD) := bnd (kx_number_ v K) fun K1 => (K1, d)
abbrev rm_X0_number : Room := { frames := 0, cells := 0, slots := 0, locals := 0 }
set_option maxHeartbeats 4000000 in
set_option maxRecDepth 100000 in
theorem m_X0_number {l : Launch} {D : va_G} {ad : Nat → Nat} {ca : Nat → ClassId} (hI : xInj ad) {K : XK} {d : XD} (v : Int64) (RES : (XK × XD)) (hr : RES = x_number K v d) : g_U l yX0_number (ws_ yX0_number cX0_number 3 none) rm_X0_number [.ref (ad 0), .long v] (xKp D ca) (xB D ad ca K d) none (xB D ad ca RES.1 RES.2) (xA ad) := by
  refine g_ofU (by decide) (Nat.le_of_ble_eq_true rfl) ?_
  intro p e s m args below meth c ls Q hF hB hKp hl hQ
  obtain ⟨hx, hb, -, -, hml, hown, hts⟩ := id hF
  have hown : s.vm.findClass RX0 = some m.cls := hown
  have hC : CallFix p m c cX0_number 3 s args lw_all RX0 := ⟨hx, hb, hml, hown, hts⟩
  obtain ⟨hK, hN⟩ := id hKp
  have hP : va_P D xcl (XW ad ca K d) s.heap := hB
  have hS : va_S (xA ad) s.heap s.heap [] := va_S.rf
  have hl : lv_has ls 3 [(0, .ref (ad 0)), (1, .long v)] := hl
  unfold x_number at hr
  refine lv_aload_n hx hb dX0_number_0 rfl (lv_at hl 0 rfl) ?_
  refine xg_0_2 hx hb hts hown hK hP (hts _ q295) dX0_number_1 ?_
  refine xgn_4_3 hx hb hts hown hK hP (xq_q232 hN) dX0_number_4 ?_
  refine lv_lload_n hx hb dX0_number_7 rfl (lv_at hl 1 rfl) ?_
  refine xpn_9_9 (v := v) hx hb hts hown hK hI hP hS (xq_q202 hN) dX0_number_8 (fun K1 eK1 H locs hP hS => ?_)
  replace hr := hr.trans (bnd_eq eK1)
  exact g_endUv (Pic := (fun u => xB D ad ca u.1 u.2)) (u := (K1, d)) hF hQ hr hP hS dX0_number_11
def x_step (K : XK) (len : Int32) (d : XD) : Int32 × (XK × XD) := if len < (1 : Int32) then ((-1 : Int32), (K, d)) else (if (15 : Int32) < len then ((-1 : Int32), (K, d)) else (if (dx_stop d) = (1 : Int32) then ((-1 : Int32), (K, d)) else (if (b2i (s_is K)) = 0 then ((-1 : Int32), (K, d)) else (bnd (x_pstep K len d) fun g1 => ((dx_stop g1.2.2), (g1.2.1, g1.2.2))))))
abbrev rm_X0_step : Room := { frames := 9, cells := 0, slots := 0, locals := 226 }
set_option maxHeartbeats 4000000 in
set_option maxRecDepth 100000 in
theorem m_X0_step {l : Launch} {D : va_G} {ad : Nat → Nat} {ca : Nat → ClassId} (hI : xInj ad) {K : XK} {d : XD} (len : Int32) (RES : Int32 × (XK × XD)) (hr : RES = x_step K len d) (hok : s_is K = true → XOk K) (hio : XIO d) : g_U l yX0_step (ws_ yX0_step cX0_step 2 (some .int)) rm_X0_step [.ref (ad 0), .int len] (xKp D ca) (xB D ad ca K d) (some (.int RES.1)) (xB D ad ca RES.2.1 RES.2.2) (xA ad) := by
  refine g_ofU (by decide) (Nat.le_of_ble_eq_true rfl) ?_
  intro p e s m args below meth c ls Q hF hB hKp hl hQ
  obtain ⟨hx, hb, -, -, hml, hown, hts⟩ := id hF
  have hown : s.vm.findClass RX0 = some m.cls := hown
  have hC : CallFix p m c cX0_step 2 s args lw_all RX0 := ⟨hx, hb, hml, hown, hts⟩
  obtain ⟨hK, hN⟩ := id hKp
  have hP : va_P D xcl (XW ad ca K d) s.heap := hB
  have hS : va_S (xA ad) s.heap s.heap [] := va_S.rf
  have hl : lv_has ls 2 [(0, .ref (ad 0)), (1, .int len)] := hl
  unfold x_step at hr
  refine lv_iload_n hx hb dX0_step_0 rfl (lv_at hl 1 rfl) ?_
  refine lv_iconst (v := (1 : Int32)) hx hb dX0_step_1 ic_1 ?_
  refine lv_icmp_lt (tgt := 35) hx hb dX0_step_2 (by decide) (fun c_2 => ?_) (fun c_2 => ?_)
  · replace hr := hr.trans (if_pos c_2)
    refine lv_iconst (v := (-1 : Int32)) hx hb dX0_step_35 ic_m1 ?_
    exact g_endUi (Pic := (fun u => xB D ad ca u.1 u.2)) (u := (K, d)) hF hQ hr hP hS dX0_step_36
  · replace hr := hr.trans (if_neg c_2)
    refine lv_iload_n hx hb dX0_step_5 rfl (lv_at hl 1 rfl) ?_
    refine lv_bipush (v := (15 : Int32)) hx hb dX0_step_6 bp_15 ?_
    refine lv_icmp_gt (tgt := 35) hx hb dX0_step_8 (by decide) (fun c_8 => ?_) (fun c_8 => ?_)
    · replace hr := hr.trans (if_pos c_8)
      refine lv_iconst (v := (-1 : Int32)) hx hb dX0_step_35 ic_m1 ?_
      exact g_endUi (Pic := (fun u => xB D ad ca u.1 u.2)) (u := (K, d)) hF hQ hr hP hS dX0_step_36
    · replace hr := hr.trans (if_neg c_8)
      refine lv_aload_n hx hb dX0_step_11 rfl (lv_at hl 0 rfl) ?_
      refine xg_0_2 hx hb hts hown hK hP (hts _ q295) dX0_step_12 ?_
      refine xgn_4_9 hx hb hts hown hK hP (xq_q243 hN) dX0_step_15 ?_
      refine lv_iconst (v := (1 : Int32)) hx hb dX0_step_18 ic_1 ?_
      refine lv_icmp_eq (tgt := 35) hx hb dX0_step_19 (by decide) (fun c_19 => ?_) (fun c_19 => ?_)
      · replace hr := hr.trans (if_pos c_19)
        refine lv_iconst (v := (-1 : Int32)) hx hb dX0_step_35 ic_m1 ?_
        exact g_endUi (Pic := (fun u => xB D ad ca u.1 u.2)) (u := (K, d)) hF hQ hr hP hS dX0_step_36
      · replace hr := hr.trans (if_neg c_19)
        refine lv_aload_n hx hb dX0_step_22 rfl (lv_at hl 0 rfl) ?_
        refine xg_0_2 hx hb hts hown hK hP (hts _ q295) dX0_step_23 ?_
        refine xgn_4_3 hx hb hts hown hK hP (xq_q232 hN) dX0_step_26 ?_
        refine g_RS (As := [.ref (ad 9)]) (rest := []) hC (m_X6_is (K := K) (d := d)  _ rfl) (va_cwS 1 hts cw_X0_76 rfl rfl rfl hd_X6_is ⟨Nat.le_of_ble_eq_true rfl, Nat.le_of_ble_eq_true rfl⟩) xKst hP hKp ⟨Nat.zero_le _, Nat.zero_le _⟩ rfl hl.1 rfl (Nat.le_of_ble_eq_true rfl) dX0_step_29 ?_
        refine lv_if_ne (tgt := 37) hx hb dX0_step_32 (by decide) (fun c_32 => ?_) (fun c_32 => ?_)
        · replace hr := hr.trans (if_neg c_32)
          refine lv_aload_n hx hb dX0_step_37 rfl (lv_at hl 0 rfl) ?_
          refine xg_0_2 hx hb hts hown hK hP (hts _ q295) dX0_step_38 ?_
          refine lv_iload_n hx hb dX0_step_41 rfl (lv_at hl 1 rfl) ?_
          obtain ⟨g1, eg1⟩ : ∃ z, z = x_pstep K len d := ⟨_, rfl⟩
          replace hr := hr.trans (bnd_eq eg1)
          refine g_UV1 (As := [.int len]) (rest := []) hC (m_X2_step hI (K := K) (d := d) len g1 eg1 (hok (b2i_t c_32)) hio) (cwV 1 hts cw_X0_82 rfl rfl rfl hd_X2_step ⟨Nat.le_of_ble_eq_true rfl, Nat.le_of_ble_eq_true rfl⟩) xKst (va_recv hK hP (ci := 2) (q0 := 4) rfl rfl) hP hKp ⟨Nat.zero_le _, Nat.zero_le _⟩ hS (fun _ h => h) rfl hl.1 rfl (Nat.le_of_ble_eq_true rfl) dX0_step_42 (fun H locs hP hS => ?_)
          have hP : va_P D xcl (XW ad ca g1.2.1 g1.2.2) H := hP
          refine lv_pop hx hb dX0_step_45 rfl ?_
          refine lv_aload_n hx hb dX0_step_46 rfl (lv_at hl 0 rfl) ?_
          refine xg_0_2 hx hb hts hown hK hP (hts _ q295) dX0_step_47 ?_
          refine xgn_4_9 hx hb hts hown hK hP (xq_q243 hN) dX0_step_50 ?_
          exact g_endUi (Pic := (fun u => xB D ad ca u.1 u.2)) (u := (g1.2.1, g1.2.2)) hF hQ hr hP hS dX0_step_53
        · replace hr := hr.trans (if_pos c_32)
          refine lv_iconst (v := (-1 : Int32)) hx hb dX0_step_35 ic_m1 ?_
          exact g_endUi (Pic := (fun u => xB D ad ca u.1 u.2)) (u := (K, d)) hF hQ hr hP hS dX0_step_36
def x_value (d : XD) : Int64 := (dx_stopValue d)
abbrev rm_X0_value : Room := { frames := 0, cells := 0, slots := 0, locals := 0 }
set_option maxHeartbeats 4000000 in
set_option maxRecDepth 100000 in
theorem m_X0_value {l : Launch} {D : va_G} {ad : Nat → Nat} {ca : Nat → ClassId} {K : XK} {d : XD} (RES : Int64) (hr : RES = x_value d) : g_R l yX0_value (ws_ yX0_value cX0_value 1 (some .long)) rm_X0_value [.ref (ad 0)] (xKp D ca) (xB D ad ca K d) (.long RES) := by
  refine g_ofR (by decide) (Nat.le_of_ble_eq_true rfl) ?_
  intro p e s m args below meth c ls Q hF hB hKp hl hQ
  obtain ⟨hx, hb, -, -, hml, hown, hts⟩ := id hF
  have hown : s.vm.findClass RX0 = some m.cls := hown
  have hC : CallFix p m c cX0_value 1 s args lw_all RX0 := ⟨hx, hb, hml, hown, hts⟩
  obtain ⟨hK, hN⟩ := id hKp
  have hP : va_P D xcl (XW ad ca K d) s.heap := hB
  have hl : lv_has ls 1 [(0, .ref (ad 0))] := hl
  unfold x_value at hr
  refine lv_aload_n hx hb dX0_value_0 rfl (lv_at hl 0 rfl) ?_
  refine xg_0_2 hx hb hts hown hK hP (hts _ q295) dX0_value_1 ?_
  refine xgn_4_7 hx hb hts hown hK hP (xq_q239 hN) dX0_value_4 ?_
  exact g_endRl hF hQ hr dX0_value_7
def x_register (K : XK) (k : Int32) (d : XD) : Int64 := if k < 0 then (if k = (16 : Int32) then (dx_ip d) else (if k = (17 : Int32) then ((2 : Int64) + ((dx_flags d).toInt64)) else (if k = (18 : Int32) then (kx_broken K) else (if k = (19 : Int32) then ((dx_done d).toInt64) else (0 : Int64))))) else (if (16 : Int32) ≤ k then (if k = (16 : Int32) then (dx_ip d) else (if k = (17 : Int32) then ((2 : Int64) + ((dx_flags d).toInt64)) else (if k = (18 : Int32) then (kx_broken K) else (if k = (19 : Int32) then ((dx_done d).toInt64) else (0 : Int64))))) else ((dx_r d) k.toNatClampNeg))
abbrev rm_X0_register : Room := { frames := 0, cells := 0, slots := 0, locals := 0 }
set_option maxHeartbeats 4000000 in
set_option maxRecDepth 100000 in
theorem m_X0_register {l : Launch} {D : va_G} {ad : Nat → Nat} {ca : Nat → ClassId} {K : XK} {d : XD} (k : Int32) (RES : Int64) (hr : RES = x_register K k d) : g_R l yX0_register (ws_ yX0_register cX0_register 2 (some .long)) rm_X0_register [.ref (ad 0), .int k] (xKp D ca) (xB D ad ca K d) (.long RES) := by
  refine g_ofR (by decide) (Nat.le_of_ble_eq_true rfl) ?_
  intro p e s m args below meth c ls Q hF hB hKp hl hQ
  obtain ⟨hx, hb, -, -, hml, hown, hts⟩ := id hF
  have hown : s.vm.findClass RX0 = some m.cls := hown
  have hC : CallFix p m c cX0_register 2 s args lw_all RX0 := ⟨hx, hb, hml, hown, hts⟩
  obtain ⟨hK, hN⟩ := id hKp
  have hP : va_P D xcl (XW ad ca K d) s.heap := hB
  have hl : lv_has ls 2 [(0, .ref (ad 0)), (1, .int k)] := hl
  unfold x_register at hr
  refine lv_iload_n hx hb dX0_register_0 rfl (lv_at hl 1 rfl) ?_
  refine lv_if_lt (tgt := 20) hx hb dX0_register_1 (by decide) (fun c_1 => ?_) (fun c_1 => ?_)
  · replace hr := hr.trans (if_pos c_1)
    refine lv_iload_n hx hb dX0_register_20 rfl (lv_at hl 1 rfl) ?_
    refine lv_bipush (v := (16 : Int32)) hx hb dX0_register_21 bp_16 ?_
    refine lv_icmp_ne (tgt := 36) hx hb dX0_register_23 (by decide) (fun c_23 => ?_) (fun c_23 => ?_)
    · replace hr := hr.trans (if_neg c_23)
      refine lv_iload_n hx hb dX0_register_36 rfl (lv_at hl 1 rfl) ?_
      refine lv_bipush (v := (17 : Int32)) hx hb dX0_register_37 bp_17 ?_
      refine lv_icmp_ne (tgt := 57) hx hb dX0_register_39 (by decide) (fun c_39 => ?_) (fun c_39 => ?_)
      · replace hr := hr.trans (if_neg c_39)
        refine lv_iload_n hx hb dX0_register_57 rfl (lv_at hl 1 rfl) ?_
        refine lv_bipush (v := (18 : Int32)) hx hb dX0_register_58 bp_18 ?_
        refine lv_icmp_ne (tgt := 73) hx hb dX0_register_60 (by decide) (fun c_60 => ?_) (fun c_60 => ?_)
        · replace hr := hr.trans (if_neg c_60)
          refine lv_iload_n hx hb dX0_register_73 rfl (lv_at hl 1 rfl) ?_
          refine lv_bipush (v := (19 : Int32)) hx hb dX0_register_74 bp_19 ?_
          refine lv_icmp_ne (tgt := 90) hx hb dX0_register_76 (by decide) (fun c_76 => ?_) (fun c_76 => ?_)
          · replace hr := hr.trans (if_neg c_76)
            refine lv_lconst (v := (0 : Int64)) hx hb dX0_register_90 lc_0 ?_
            exact g_endRl hF hQ hr dX0_register_91
          · replace hr := hr.trans (if_pos c_76)
            refine lv_aload_n hx hb dX0_register_79 rfl (lv_at hl 0 rfl) ?_
            refine xg_0_2 hx hb hts hown hK hP (hts _ q295) dX0_register_80 ?_
            refine xgn_4_10 hx hb hts hown hK hP (xq_q245 hN) dX0_register_83 ?_
            refine lv_i2l (v := (dx_done d).toInt64) hx hb dX0_register_86 rfl ?_
            refine lv_goto (tgt := 91) hx hb dX0_register_87 (by decide) ?_
            exact g_endRl hF hQ hr dX0_register_91
        · replace hr := hr.trans (if_pos c_60)
          refine lv_aload_n hx hb dX0_register_63 rfl (lv_at hl 0 rfl) ?_
          refine xg_0_1 hx hb hts hown hK hP (hts _ q294) dX0_register_64 ?_
          refine xgn_2_9 hx hb hts hown hK hP (xq_q122 hN) dX0_register_67 ?_
          refine lv_goto (tgt := 91) hx hb dX0_register_70 (by decide) ?_
          exact g_endRl hF hQ hr dX0_register_91
      · replace hr := hr.trans (if_pos c_39)
        refine lv_ldc2 hx hb hown (hts _ q625) dX0_register_42 ?_
        refine lv_aload_n hx hb dX0_register_45 rfl (lv_at hl 0 rfl) ?_
        refine xg_0_2 hx hb hts hown hK hP (hts _ q295) dX0_register_46 ?_
        refine xgn_4_8 hx hb hts hown hK hP (xq_q241 hN) dX0_register_49 ?_
        refine lv_i2l (v := (dx_flags d).toInt64) hx hb dX0_register_52 rfl ?_
        refine lv_ladd hx hb dX0_register_53 ?_
        refine lv_goto (tgt := 91) hx hb dX0_register_54 (by decide) ?_
        exact g_endRl hF hQ hr dX0_register_91
    · replace hr := hr.trans (if_pos c_23)
      refine lv_aload_n hx hb dX0_register_26 rfl (lv_at hl 0 rfl) ?_
      refine xg_0_2 hx hb hts hown hK hP (hts _ q295) dX0_register_27 ?_
      refine xgn_4_5 hx hb hts hown hK hP (xq_q236 hN) dX0_register_30 ?_
      refine lv_goto (tgt := 91) hx hb dX0_register_33 (by decide) ?_
      exact g_endRl hF hQ hr dX0_register_91
  · replace hr := hr.trans (if_neg c_1)
    refine lv_iload_n hx hb dX0_register_4 rfl (lv_at hl 1 rfl) ?_
    refine lv_bipush (v := (16 : Int32)) hx hb dX0_register_5 bp_16 ?_
    refine lv_icmp_ge (tgt := 20) hx hb dX0_register_7 (by decide) (fun c_7 => ?_) (fun c_7 => ?_)
    · replace hr := hr.trans (if_pos c_7)
      refine lv_iload_n hx hb dX0_register_20 rfl (lv_at hl 1 rfl) ?_
      refine lv_bipush (v := (16 : Int32)) hx hb dX0_register_21 bp_16 ?_
      refine lv_icmp_ne (tgt := 36) hx hb dX0_register_23 (by decide) (fun c_23 => ?_) (fun c_23 => ?_)
      · replace hr := hr.trans (if_neg c_23)
        refine lv_iload_n hx hb dX0_register_36 rfl (lv_at hl 1 rfl) ?_
        refine lv_bipush (v := (17 : Int32)) hx hb dX0_register_37 bp_17 ?_
        refine lv_icmp_ne (tgt := 57) hx hb dX0_register_39 (by decide) (fun c_39 => ?_) (fun c_39 => ?_)
        · replace hr := hr.trans (if_neg c_39)
          refine lv_iload_n hx hb dX0_register_57 rfl (lv_at hl 1 rfl) ?_
          refine lv_bipush (v := (18 : Int32)) hx hb dX0_register_58 bp_18 ?_
          refine lv_icmp_ne (tgt := 73) hx hb dX0_register_60 (by decide) (fun c_60 => ?_) (fun c_60 => ?_)
          · replace hr := hr.trans (if_neg c_60)
            refine lv_iload_n hx hb dX0_register_73 rfl (lv_at hl 1 rfl) ?_
            refine lv_bipush (v := (19 : Int32)) hx hb dX0_register_74 bp_19 ?_
            refine lv_icmp_ne (tgt := 90) hx hb dX0_register_76 (by decide) (fun c_76 => ?_) (fun c_76 => ?_)
            · replace hr := hr.trans (if_neg c_76)
              refine lv_lconst (v := (0 : Int64)) hx hb dX0_register_90 lc_0 ?_
              exact g_endRl hF hQ hr dX0_register_91
            · replace hr := hr.trans (if_pos c_76)
              refine lv_aload_n hx hb dX0_register_79 rfl (lv_at hl 0 rfl) ?_
              refine xg_0_2 hx hb hts hown hK hP (hts _ q295) dX0_register_80 ?_
              refine xgn_4_10 hx hb hts hown hK hP (xq_q245 hN) dX0_register_83 ?_
              refine lv_i2l (v := (dx_done d).toInt64) hx hb dX0_register_86 rfl ?_
              refine lv_goto (tgt := 91) hx hb dX0_register_87 (by decide) ?_
              exact g_endRl hF hQ hr dX0_register_91
          · replace hr := hr.trans (if_pos c_60)
            refine lv_aload_n hx hb dX0_register_63 rfl (lv_at hl 0 rfl) ?_
            refine xg_0_1 hx hb hts hown hK hP (hts _ q294) dX0_register_64 ?_
            refine xgn_2_9 hx hb hts hown hK hP (xq_q122 hN) dX0_register_67 ?_
            refine lv_goto (tgt := 91) hx hb dX0_register_70 (by decide) ?_
            exact g_endRl hF hQ hr dX0_register_91
        · replace hr := hr.trans (if_pos c_39)
          refine lv_ldc2 hx hb hown (hts _ q625) dX0_register_42 ?_
          refine lv_aload_n hx hb dX0_register_45 rfl (lv_at hl 0 rfl) ?_
          refine xg_0_2 hx hb hts hown hK hP (hts _ q295) dX0_register_46 ?_
          refine xgn_4_8 hx hb hts hown hK hP (xq_q241 hN) dX0_register_49 ?_
          refine lv_i2l (v := (dx_flags d).toInt64) hx hb dX0_register_52 rfl ?_
          refine lv_ladd hx hb dX0_register_53 ?_
          refine lv_goto (tgt := 91) hx hb dX0_register_54 (by decide) ?_
          exact g_endRl hF hQ hr dX0_register_91
      · replace hr := hr.trans (if_pos c_23)
        refine lv_aload_n hx hb dX0_register_26 rfl (lv_at hl 0 rfl) ?_
        refine xg_0_2 hx hb hts hown hK hP (hts _ q295) dX0_register_27 ?_
        refine xgn_4_5 hx hb hts hown hK hP (xq_q236 hN) dX0_register_30 ?_
        refine lv_goto (tgt := 91) hx hb dX0_register_33 (by decide) ?_
        exact g_endRl hF hQ hr dX0_register_91
    · replace hr := hr.trans (if_neg c_7)
      refine lv_aload_n hx hb dX0_register_10 rfl (lv_at hl 0 rfl) ?_
      refine xg_0_2 hx hb hts hown hK hP (hts _ q295) dX0_register_11 ?_
      refine xgn_4_4 hx hb hts hown hK hP (xq_q234 hN) dX0_register_14 ?_
      refine lv_iload_n hx hb dX0_register_17 rfl (lv_at hl 1 rfl) ?_
      refine xl_12 hx hb hK hP (rg_in c_1 c_7) dX0_register_18 ?_
      exact g_endRl hF hQ hr dX0_register_19
def x_set (k : Int32) (v : Int64) (d : XD) : Bool × XD := if k < 0 then (false, d) else (if k ≤ (16 : Int32) then (if k = (16 : Int32) then (bnd (dx_ip_ v d) fun d2 => (true, d2)) else (bnd (dx_r_ (vp_updL (dx_r d) k.toNatClampNeg v) d) fun d1 => (true, d1))) else (false, d))
abbrev rm_X0_set : Room := { frames := 0, cells := 0, slots := 0, locals := 0 }
set_option maxHeartbeats 4000000 in
set_option maxRecDepth 100000 in
theorem m_X0_set {l : Launch} {D : va_G} {ad : Nat → Nat} {ca : Nat → ClassId} (hI : xInj ad) {K : XK} {d : XD} (k : Int32) (v : Int64) (RES : Bool × XD) (hr : RES = x_set k v d) : g_U l yX0_set (ws_ yX0_set cX0_set 4 (some .boolean)) rm_X0_set [.ref (ad 0), .int k, .long v] (xKp D ca) (xB D ad ca K d) (some (.int (b2i RES.1))) (xB D ad ca K RES.2) (xA ad) := by
  refine g_ofU (by decide) (Nat.le_of_ble_eq_true rfl) ?_
  intro p e s m args below meth c ls Q hF hB hKp hl hQ
  obtain ⟨hx, hb, -, -, hml, hown, hts⟩ := id hF
  have hown : s.vm.findClass RX0 = some m.cls := hown
  have hC : CallFix p m c cX0_set 4 s args lw_all RX0 := ⟨hx, hb, hml, hown, hts⟩
  obtain ⟨hK, hN⟩ := id hKp
  have hP : va_P D xcl (XW ad ca K d) s.heap := hB
  have hS : va_S (xA ad) s.heap s.heap [] := va_S.rf
  have hl : lv_has ls 4 [(0, .ref (ad 0)), (1, .int k), (2, .long v)] := hl
  unfold x_set at hr
  refine lv_iload_n hx hb dX0_set_0 rfl (lv_at hl 1 rfl) ?_
  refine lv_if_lt (tgt := 10) hx hb dX0_set_1 (by decide) (fun c_1 => ?_) (fun c_1 => ?_)
  · replace hr := hr.trans (if_pos c_1)
    refine lv_iconst (v := (0 : Int32)) hx hb dX0_set_10 ic_0 ?_
    exact g_endUz (Pic := (fun u => xB D ad ca K u)) (u := d) hF hQ hr rfl hP hS dX0_set_11
  · replace hr := hr.trans (if_neg c_1)
    refine lv_iload_n hx hb dX0_set_4 rfl (lv_at hl 1 rfl) ?_
    refine lv_bipush (v := (16 : Int32)) hx hb dX0_set_5 bp_16 ?_
    refine lv_icmp_le (tgt := 12) hx hb dX0_set_7 (by decide) (fun c_7 => ?_) (fun c_7 => ?_)
    · replace hr := hr.trans (if_pos c_7)
      refine lv_iload_n hx hb dX0_set_12 rfl (lv_at hl 1 rfl) ?_
      refine lv_bipush (v := (16 : Int32)) hx hb dX0_set_13 bp_16 ?_
      refine lv_icmp_ne (tgt := 29) hx hb dX0_set_15 (by decide) (fun c_15 => ?_) (fun c_15 => ?_)
      · replace hr := hr.trans (if_neg c_15)
        refine lv_aload_n hx hb dX0_set_29 rfl (lv_at hl 0 rfl) ?_
        refine xg_0_2 hx hb hts hown hK hP (hts _ q295) dX0_set_30 ?_
        refine xgn_4_4 hx hb hts hown hK hP (xq_q234 hN) dX0_set_33 ?_
        refine lv_iload_n hx hb dX0_set_36 rfl (lv_at hl 1 rfl) ?_
        refine lv_lload_n hx hb dX0_set_37 rfl (lv_at hl 2 rfl) ?_
        refine xs_12 hx hb hK hI hP hS (st_in c_1 c_7 c_15) dX0_set_38 (fun d1 ed1 H locs hP hS => ?_)
        replace hr := hr.trans (bnd_eq ed1)
        refine lv_iconst (v := (1 : Int32)) hx hb dX0_set_39 ic_1 ?_
        exact g_endUz (Pic := (fun u => xB D ad ca K u)) (u := d1) hF hQ hr rfl hP hS dX0_set_40
      · replace hr := hr.trans (if_pos c_15)
        refine lv_aload_n hx hb dX0_set_18 rfl (lv_at hl 0 rfl) ?_
        refine xg_0_2 hx hb hts hown hK hP (hts _ q295) dX0_set_19 ?_
        refine lv_lload_n hx hb dX0_set_22 rfl (lv_at hl 2 rfl) ?_
        refine xpn_4_5 (v := v) hx hb hts hown hK hI hP hS (xq_q236 hN) dX0_set_23 (fun d2 ed2 H locs hP hS => ?_)
        replace hr := hr.trans (bnd_eq ed2)
        refine lv_goto (tgt := 39) hx hb dX0_set_26 (by decide) ?_
        refine lv_iconst (v := (1 : Int32)) hx hb dX0_set_39 ic_1 ?_
        exact g_endUz (Pic := (fun u => xB D ad ca K u)) (u := d2) hF hQ hr rfl hP hS dX0_set_40
    · replace hr := hr.trans (if_neg c_7)
      refine lv_iconst (v := (0 : Int32)) hx hb dX0_set_10 ic_0 ?_
      exact g_endUz (Pic := (fun u => xB D ad ca K u)) (u := d) hF hQ hr rfl hP hS dX0_set_11
def x_input_L35 (word : Int64) : Nat → Int32 → XD → Bool × XD
  | 0, w35_4, dl35 => (false, dl35)
  | n + 1, w35_4, dl35 => if w35_4 < 0 then (true, dl35) else (bnd (x_add_in ((lshr_ word ((8 : Int32) * w35_4)).toInt32) dl35) fun g2 => bnd (α := Int32) ((w35_4 + (-1 : Int32))) fun v3 => x_input_L35 word n v3 g2)
theorem x_input_L35_s (word : Int64) (n : Nat) (w35_4 : Int32) (dl35 : XD) : x_input_L35 word (n + 1) w35_4 dl35 = if w35_4 < 0 then (true, dl35) else (bnd (x_add_in ((lshr_ word ((8 : Int32) * w35_4)).toInt32) dl35) fun g2 => bnd (α := Int32) ((w35_4 + (-1 : Int32))) fun v3 => x_input_L35 word n v3 g2) := rfl
def x_input (word : Int64) (cnt : Int32) (d : XD) : Bool × XD := if cnt < (1 : Int32) then (false, d) else (if (8 : Int32) < cnt then (false, d) else (if ((dx_inN d) + cnt) ≤ (65536 : Int32) then (bnd (α := Int32) ((cnt - (1 : Int32))) fun v1 => x_input_L35 word (mDn v1 + 1) v1 d) else (false, d)))
abbrev rm_X0_input : Room := { frames := 1, cells := 0, slots := 0, locals := 21 }
set_option maxHeartbeats 4000000 in
set_option maxRecDepth 100000 in
theorem m_X0_input {l : Launch} {D : va_G} {ad : Nat → Nat} {ca : Nat → ClassId} (hI : xInj ad) {K : XK} {d : XD} (word : Int64) (cnt : Int32) (RES : Bool × XD) (hr : RES = x_input word cnt d) (hio : XIO d) : g_U l yX0_input (ws_ yX0_input cX0_input 5 (some .boolean)) rm_X0_input [.ref (ad 0), .long word, .int cnt] (xKp D ca) (xB D ad ca K d) (some (.int (b2i RES.1))) (xB D ad ca K RES.2) (xA ad) := by
  refine g_ofU (by decide) (Nat.le_of_ble_eq_true rfl) ?_
  intro p e s m args below meth c ls Q hF hB hKp hl hQ
  obtain ⟨hx, hb, -, -, hml, hown, hts⟩ := id hF
  have hown : s.vm.findClass RX0 = some m.cls := hown
  have hC : CallFix p m c cX0_input 5 s args lw_all RX0 := ⟨hx, hb, hml, hown, hts⟩
  obtain ⟨hK, hN⟩ := id hKp
  have hP : va_P D xcl (XW ad ca K d) s.heap := hB
  have hS : va_S (xA ad) s.heap s.heap [] := va_S.rf
  have hl : lv_has ls 5 [(0, .ref (ad 0)), (1, .long word), (3, .int cnt)] := hl
  unfold x_input at hr
  refine lv_iload_n hx hb dX0_input_0 rfl (lv_at hl 2 rfl) ?_
  refine lv_iconst (v := (1 : Int32)) hx hb dX0_input_1 ic_1 ?_
  refine lv_icmp_lt (tgt := 28) hx hb dX0_input_2 (by decide) (fun c_2 => ?_) (fun c_2 => ?_)
  · replace hr := hr.trans (if_pos c_2)
    refine lv_iconst (v := (0 : Int32)) hx hb dX0_input_28 ic_0 ?_
    exact g_endUz (Pic := (fun u => xB D ad ca K u)) (u := d) hF hQ hr rfl hP hS dX0_input_29
  · replace hr := hr.trans (if_neg c_2)
    refine lv_iload_n hx hb dX0_input_5 rfl (lv_at hl 2 rfl) ?_
    refine lv_bipush (v := (8 : Int32)) hx hb dX0_input_6 bp_8 ?_
    refine lv_icmp_gt (tgt := 28) hx hb dX0_input_8 (by decide) (fun c_8 => ?_) (fun c_8 => ?_)
    · replace hr := hr.trans (if_pos c_8)
      refine lv_iconst (v := (0 : Int32)) hx hb dX0_input_28 ic_0 ?_
      exact g_endUz (Pic := (fun u => xB D ad ca K u)) (u := d) hF hQ hr rfl hP hS dX0_input_29
    · replace hr := hr.trans (if_neg c_8)
      refine lv_aload_n hx hb dX0_input_11 rfl (lv_at hl 0 rfl) ?_
      refine xg_0_2 hx hb hts hown hK hP (hts _ q295) dX0_input_12 ?_
      refine xgn_4_1 hx hb hts hown hK hP (xq_q228 hN) dX0_input_15 ?_
      refine xgn_5_1 hx hb hts hown hK hP (xq_q163 hN) dX0_input_18 ?_
      refine lv_iload_n hx hb dX0_input_21 rfl (lv_at hl 2 rfl) ?_
      refine lv_iadd hx hb dX0_input_22 ?_
      refine lv_ldc hx hb hown (hts _ q634) dX0_input_23 ?_
      refine lv_icmp_le (tgt := 30) hx hb dX0_input_25 (by decide) (fun c_25 => ?_) (fun c_25 => ?_)
      · replace hr := hr.trans (if_pos c_25)
        refine lv_iload_n hx hb dX0_input_30 rfl (lv_at hl 2 rfl) ?_
        refine lv_iconst (v := (1 : Int32)) hx hb dX0_input_31 ic_1 ?_
        refine lv_isub hx hb dX0_input_32 ?_
        refine lv_topi (fun v1 ev1 => ?_)
        replace hr := hr.trans (bnd_eq ev1)
        refine lv_istore (lv' := [(4, .int v1), (0, .ref (ad 0)), (1, .long word), (3, .int cnt)]) hx hb dX0_input_33 hl (by decide) rfl (fun ls hl => ?_)
        have lp35 : ∀ (n : Nat) (w35_4 : Int32) (dl35 : XD) (H : Heap) (locs : List Loc) (ls : Array Slot), mDn w35_4 < n → (InpI (dx_inN dl35) w35_4) → RES = x_input_L35 word n w35_4 dl35 → va_P D xcl (XW ad ca K dl35) H → va_S (xA ad) s.heap H locs → lv_has ls 5 [(4, .int w35_4), (0, .ref (ad 0)), (1, .long word), (3, .int cnt)] → W p l e rm_X0_input s m args below meth c H locs 0 0 Q (F0 m 35 ls []) := by
          intro n
          induction n with
          | zero =>
            intro w35_4 dl35 H locs ls hm
            exact absurd hm (Nat.not_lt_zero _)
          | succ n ih =>
            intro w35_4 dl35 H locs ls hm h0 hr hP hS hl
            replace hr := hr.trans (x_input_L35_s word n w35_4 dl35)
            refine lv_iload hx hb dX0_input_35 (lv_at hl 0 rfl) ?_
            refine lv_if_lt (tgt := 64) hx hb dX0_input_37 (by decide) (fun c_37 => ?_) (fun c_37 => ?_)
            · replace hr := hr.trans (if_pos c_37)
              refine lv_iconst (v := (1 : Int32)) hx hb dX0_input_64 ic_1 ?_
              exact g_endUz (Pic := (fun u => xB D ad ca K u)) (u := dl35) hF hQ hr rfl hP hS dX0_input_65
            · replace hr := hr.trans (if_neg c_37)
              refine lv_aload_n hx hb dX0_input_40 rfl (lv_at hl 1 rfl) ?_
              refine xg_0_2 hx hb hts hown hK hP (hts _ q295) dX0_input_41 ?_
              refine xgn_4_1 hx hb hts hown hK hP (xq_q228 hN) dX0_input_44 ?_
              refine lv_lload_n hx hb dX0_input_47 rfl (lv_at hl 2 rfl) ?_
              refine lv_bipush (v := (8 : Int32)) hx hb dX0_input_48 bp_8 ?_
              refine lv_iload hx hb dX0_input_50 (lv_at hl 0 rfl) ?_
              refine lv_imul hx hb dX0_input_52 ?_
              refine lv_lshr (v := (lshr_ word ((8 : Int32) * w35_4))) hx hb dX0_input_53 rfl ?_
              refine lv_l2i (v := (lshr_ word ((8 : Int32) * w35_4)).toInt32) hx hb dX0_input_54 rfl ?_
              obtain ⟨g2, eg2⟩ : ∃ z, z = x_add_in ((lshr_ word ((8 : Int32) * w35_4)).toInt32) dl35 := ⟨_, rfl⟩
              replace hr := hr.trans (bnd_eq eg2)
              refine g_UV0 (As := [.int ((lshr_ word ((8 : Int32) * w35_4)).toInt32)]) (rest := []) hC (m_X3_add_5 hI (K := K) (d := dl35) ((lshr_ word ((8 : Int32) * w35_4)).toInt32) g2 eg2 (inp_in h0 c_37)) (cwV 1 hts cw_X0_117 rfl rfl rfl hd_X3_add ⟨Nat.le_of_ble_eq_true rfl, Nat.le_of_ble_eq_true rfl⟩) xKst (va_recv hK hP (ci := 3) (q0 := 5) rfl rfl) hP hKp ⟨Nat.zero_le _, Nat.zero_le _⟩ hS (fun _ h => h) rfl hl.1 rfl (Nat.le_of_ble_eq_true rfl) dX0_input_55 (fun H locs hP hS => ?_)
              have hP : va_P D xcl (XW ad ca K g2) H := hP
              obtain ⟨v3, ev3⟩ : ∃ z : Int32, z = (w35_4 + (-1 : Int32)) := ⟨_, rfl⟩
              replace hr := hr.trans (bnd_eq ev3)
              refine lv_iinc (v := v3) (lv' := [(4, .int v3), (0, .ref (ad 0)), (1, .long word), (3, .int cnt)]) hx hb dX0_input_58 hl (k := 0) rfl (by rw [ev3, ← ic_m1]) (by decide) rfl (fun ls hl => ?_)
              refine lv_goto (tgt := 35) hx hb dX0_input_61 (by decide) ?_
              exact ih v3 g2 _ _ ls (mDn_dec c_37 hm ev3) (inp_s h0 c_37 ev3 (by rw [eg2]; rfl)) hr hP hS (lv_sub hl [0, 1, 2, 3] rfl)
        exact lp35 (mDn v1 + 1) v1 d _ _ ls (Nat.lt_succ_self _) (inp_0 hio.1 c_2 c_8 c_25 ev1) hr hP hS (lv_sub hl [0, 1, 2, 3] rfl)
      · replace hr := hr.trans (if_neg c_25)
        refine lv_iconst (v := (0 : Int32)) hx hb dX0_input_28 ic_0 ?_
        exact g_endUz (Pic := (fun u => xB D ad ca K u)) (u := d) hF hQ hr rfl hP hS dX0_input_29
def x_output (i : Int32) (d : XD) : Int32 := if i = (-1 : Int32) then (dx_outN d) else (if i < 0 then (-1 : Int32) else (if (dx_outN d) ≤ i then (-1 : Int32) else (((dx_outB d) i.toNatClampNeg) &&& (255 : Int32))))
abbrev rm_X0_output : Room := { frames := 0, cells := 0, slots := 0, locals := 0 }
set_option maxHeartbeats 4000000 in
set_option maxRecDepth 100000 in
theorem m_X0_output {l : Launch} {D : va_G} {ad : Nat → Nat} {ca : Nat → ClassId} {K : XK} {d : XD} (i : Int32) (RES : Int32) (hr : RES = x_output i d) (hio : XIO d) : g_R l yX0_output (ws_ yX0_output cX0_output 2 (some .int)) rm_X0_output [.ref (ad 0), .int i] (xKp D ca) (xB D ad ca K d) (.int RES) := by
  refine g_ofR (by decide) (Nat.le_of_ble_eq_true rfl) ?_
  intro p e s m args below meth c ls Q hF hB hKp hl hQ
  obtain ⟨hx, hb, -, -, hml, hown, hts⟩ := id hF
  have hown : s.vm.findClass RX0 = some m.cls := hown
  have hC : CallFix p m c cX0_output 2 s args lw_all RX0 := ⟨hx, hb, hml, hown, hts⟩
  obtain ⟨hK, hN⟩ := id hKp
  have hP : va_P D xcl (XW ad ca K d) s.heap := hB
  have hl : lv_has ls 2 [(0, .ref (ad 0)), (1, .int i)] := hl
  unfold x_output at hr
  refine lv_iload_n hx hb dX0_output_0 rfl (lv_at hl 1 rfl) ?_
  refine lv_iconst (v := (-1 : Int32)) hx hb dX0_output_1 ic_m1 ?_
  refine lv_icmp_ne (tgt := 18) hx hb dX0_output_2 (by decide) (fun c_2 => ?_) (fun c_2 => ?_)
  · replace hr := hr.trans (if_neg c_2)
    refine lv_iload_n hx hb dX0_output_18 rfl (lv_at hl 1 rfl) ?_
    refine lv_if_lt (tgt := 55) hx hb dX0_output_19 (by decide) (fun c_19 => ?_) (fun c_19 => ?_)
    · replace hr := hr.trans (if_pos c_19)
      refine lv_iconst (v := (-1 : Int32)) hx hb dX0_output_55 ic_m1 ?_
      exact g_endRi hF hQ hr dX0_output_56
    · replace hr := hr.trans (if_neg c_19)
      refine lv_iload_n hx hb dX0_output_22 rfl (lv_at hl 1 rfl) ?_
      refine lv_aload_n hx hb dX0_output_23 rfl (lv_at hl 0 rfl) ?_
      refine xg_0_2 hx hb hts hown hK hP (hts _ q295) dX0_output_24 ?_
      refine xgn_4_2 hx hb hts hown hK hP (xq_q230 hN) dX0_output_27 ?_
      refine xgn_7_1 hx hb hts hown hK hP (xq_q163 hN) dX0_output_30 ?_
      refine lv_icmp_ge (tgt := 55) hx hb dX0_output_33 (by decide) (fun c_33 => ?_) (fun c_33 => ?_)
      · replace hr := hr.trans (if_pos c_33)
        refine lv_iconst (v := (-1 : Int32)) hx hb dX0_output_55 ic_m1 ?_
        exact g_endRi hF hQ hr dX0_output_56
      · replace hr := hr.trans (if_neg c_33)
        refine lv_aload_n hx hb dX0_output_36 rfl (lv_at hl 0 rfl) ?_
        refine xg_0_2 hx hb hts hown hK hP (hts _ q295) dX0_output_37 ?_
        refine xgn_4_2 hx hb hts hown hK hP (xq_q230 hN) dX0_output_40 ?_
        refine xgn_7_0 hx hb hts hown hK hP (xq_q159 hN) dX0_output_43 ?_
        refine lv_iload_n hx hb dX0_output_46 rfl (lv_at hl 1 rfl) ?_
        refine xl_8 hx hb hK hP (i_in (Int32.not_lt.mp c_19) c_33 hio.2.2) dX0_output_47 ?_
        refine lv_sipush (v := (255 : Int32)) hx hb dX0_output_48 sp_255 ?_
        refine lv_iand hx hb dX0_output_51 ?_
        refine lv_goto (tgt := 56) hx hb dX0_output_52 (by decide) ?_
        exact g_endRi hF hQ hr dX0_output_56
  · replace hr := hr.trans (if_pos c_2)
    refine lv_aload_n hx hb dX0_output_5 rfl (lv_at hl 0 rfl) ?_
    refine xg_0_2 hx hb hts hown hK hP (hts _ q295) dX0_output_6 ?_
    refine xgn_4_2 hx hb hts hown hK hP (xq_q230 hN) dX0_output_9 ?_
    refine xgn_7_1 hx hb hts hown hK hP (xq_q163 hN) dX0_output_12 ?_
    refine lv_goto (tgt := 56) hx hb dX0_output_15 (by decide) ?_
    exact g_endRi hF hQ hr dX0_output_56
def x_peek (K : XK) (a : Int64) (d : XD) : Int32 := bnd (α := Int32) ((x_where K a false)) fun v1 => if 0 ≤ v1 then (((dx_bytes d) v1.toNatClampNeg) &&& (255 : Int32)) else (-1 : Int32)
abbrev rm_X0_peek : Room := { frames := 2, cells := 0, slots := 0, locals := 49 }
set_option maxHeartbeats 4000000 in
set_option maxRecDepth 100000 in
theorem m_X0_peek {l : Launch} {D : va_G} {ad : Nat → Nat} {ca : Nat → ClassId} {K : XK} {d : XD} (a : Int64) (RES : Int32) (hr : RES = x_peek K a d) (hlay : XLay K) : g_R l yX0_peek (ws_ yX0_peek cX0_peek 4 (some .int)) rm_X0_peek [.ref (ad 0), .long a] (xKp D ca) (xB D ad ca K d) (.int RES) := by
  refine g_ofR (by decide) (Nat.le_of_ble_eq_true rfl) ?_
  intro p e s m args below meth c ls Q hF hB hKp hl hQ
  obtain ⟨hx, hb, -, -, hml, hown, hts⟩ := id hF
  have hown : s.vm.findClass RX0 = some m.cls := hown
  have hC : CallFix p m c cX0_peek 4 s args lw_all RX0 := ⟨hx, hb, hml, hown, hts⟩
  obtain ⟨hK, hN⟩ := id hKp
  have hP : va_P D xcl (XW ad ca K d) s.heap := hB
  have hl : lv_has ls 4 [(0, .ref (ad 0)), (1, .long a)] := hl
  unfold x_peek at hr
  refine lv_aload_n hx hb dX0_peek_0 rfl (lv_at hl 0 rfl) ?_
  refine xg_0_1 hx hb hts hown hK hP (hts _ q294) dX0_peek_1 ?_
  refine lv_lload_n hx hb dX0_peek_4 rfl (lv_at hl 1 rfl) ?_
  refine lv_iconst (v := (0 : Int32)) hx hb dX0_peek_5 ic_0 ?_
  refine g_RV (As := [.long a, .int (b2i false)]) (rest := []) hC (m_X1_where (K := K) (d := d) a false _ rfl) (cwV 2 hts cw_X0_126 rfl rfl rfl hd_X1_where ⟨Nat.le_of_ble_eq_true rfl, Nat.le_of_ble_eq_true rfl⟩) xKst (va_recv hK hP (ci := 1) (q0 := 2) rfl rfl) hP hKp ⟨Nat.zero_le _, Nat.zero_le _⟩ rfl hl.1 rfl (Nat.le_of_ble_eq_true rfl) dX0_peek_6 ?_
  refine lv_topi (fun v1 ev1 => ?_)
  replace hr := hr.trans (bnd_eq ev1)
  refine lv_istore_n (lv' := [(3, .int v1), (0, .ref (ad 0)), (1, .long a)]) hx hb dX0_peek_9 rfl hl (by decide) rfl (fun ls hl => ?_)
  refine lv_iload_n hx hb dX0_peek_10 rfl (lv_at hl 0 rfl) ?_
  refine lv_if_ge (tgt := 18) hx hb dX0_peek_11 (by decide) (fun c_11 => ?_) (fun c_11 => ?_)
  · replace hr := hr.trans (if_pos c_11)
    refine lv_aload_n hx hb dX0_peek_18 rfl (lv_at hl 1 rfl) ?_
    refine xg_0_1 hx hb hts hown hK hP (hts _ q294) dX0_peek_19 ?_
    refine xgn_2_0 hx hb hts hown hK hP (xq_q111 hN) dX0_peek_22 ?_
    refine lv_iload_n hx hb dX0_peek_25 rfl (lv_at hl 0 rfl) ?_
    refine xl_3 hx hb hK hP (x_where_in2 ev1 hlay c_11) dX0_peek_26 ?_
    refine lv_sipush (v := (255 : Int32)) hx hb dX0_peek_27 sp_255 ?_
    refine lv_iand hx hb dX0_peek_30 ?_
    exact g_endRi hF hQ hr dX0_peek_31
  · replace hr := hr.trans (if_neg c_11)
    refine lv_iconst (v := (-1 : Int32)) hx hb dX0_peek_14 ic_m1 ?_
    refine lv_goto (tgt := 31) hx hb dX0_peek_15 (by decide) ?_
    exact g_endRi hF hQ hr dX0_peek_31
def x_poke (K : XK) (a : Int64) (v : Int32) (d : XD) : Bool × XD := bnd (α := Int32) ((x_where K a true)) fun v1 => if 0 ≤ v1 then (bnd (dx_bytes_ (upd (dx_bytes d) v1.toNatClampNeg (vp_nar .byte (v.toInt8.toInt32))) d) fun d2 => (true, d2)) else (false, d)
abbrev rm_X0_poke : Room := { frames := 2, cells := 0, slots := 0, locals := 49 }
set_option maxHeartbeats 4000000 in
set_option maxRecDepth 100000 in
theorem m_X0_poke {l : Launch} {D : va_G} {ad : Nat → Nat} {ca : Nat → ClassId} (hI : xInj ad) {K : XK} {d : XD} (a : Int64) (v : Int32) (RES : Bool × XD) (hr : RES = x_poke K a v d) (hlay : XLay K) : g_U l yX0_poke (ws_ yX0_poke cX0_poke 5 (some .boolean)) rm_X0_poke [.ref (ad 0), .long a, .int v] (xKp D ca) (xB D ad ca K d) (some (.int (b2i RES.1))) (xB D ad ca K RES.2) (xA ad) := by
  refine g_ofU (by decide) (Nat.le_of_ble_eq_true rfl) ?_
  intro p e s m args below meth c ls Q hF hB hKp hl hQ
  obtain ⟨hx, hb, -, -, hml, hown, hts⟩ := id hF
  have hown : s.vm.findClass RX0 = some m.cls := hown
  have hC : CallFix p m c cX0_poke 5 s args lw_all RX0 := ⟨hx, hb, hml, hown, hts⟩
  obtain ⟨hK, hN⟩ := id hKp
  have hP : va_P D xcl (XW ad ca K d) s.heap := hB
  have hS : va_S (xA ad) s.heap s.heap [] := va_S.rf
  have hl : lv_has ls 5 [(0, .ref (ad 0)), (1, .long a), (3, .int v)] := hl
  unfold x_poke at hr
  refine lv_aload_n hx hb dX0_poke_0 rfl (lv_at hl 0 rfl) ?_
  refine xg_0_1 hx hb hts hown hK hP (hts _ q294) dX0_poke_1 ?_
  refine lv_lload_n hx hb dX0_poke_4 rfl (lv_at hl 1 rfl) ?_
  refine lv_iconst (v := (1 : Int32)) hx hb dX0_poke_5 ic_1 ?_
  refine g_RV (As := [.long a, .int (b2i true)]) (rest := []) hC (m_X1_where (K := K) (d := d) a true _ rfl) (cwV 2 hts cw_X0_126 rfl rfl rfl hd_X1_where ⟨Nat.le_of_ble_eq_true rfl, Nat.le_of_ble_eq_true rfl⟩) xKst (va_recv hK hP (ci := 1) (q0 := 2) rfl rfl) hP hKp ⟨Nat.zero_le _, Nat.zero_le _⟩ rfl hl.1 rfl (Nat.le_of_ble_eq_true rfl) dX0_poke_6 ?_
  refine lv_topi (fun v1 ev1 => ?_)
  replace hr := hr.trans (bnd_eq ev1)
  refine lv_istore (lv' := [(4, .int v1), (0, .ref (ad 0)), (1, .long a), (3, .int v)]) hx hb dX0_poke_9 hl (by decide) rfl (fun ls hl => ?_)
  refine lv_iload hx hb dX0_poke_11 (lv_at hl 0 rfl) ?_
  refine lv_if_ge (tgt := 18) hx hb dX0_poke_13 (by decide) (fun c_13 => ?_) (fun c_13 => ?_)
  · replace hr := hr.trans (if_pos c_13)
    refine lv_aload_n hx hb dX0_poke_18 rfl (lv_at hl 1 rfl) ?_
    refine xg_0_1 hx hb hts hown hK hP (hts _ q294) dX0_poke_19 ?_
    refine xgn_2_0 hx hb hts hown hK hP (xq_q111 hN) dX0_poke_22 ?_
    refine lv_iload hx hb dX0_poke_25 (lv_at hl 0 rfl) ?_
    refine lv_iload_n hx hb dX0_poke_27 rfl (lv_at hl 3 rfl) ?_
    refine lv_i2b (v := v.toInt8.toInt32) hx hb dX0_poke_28 rfl ?_
    refine xs_3 hx hb hK hI hP hS (x_where_in2 ev1 hlay c_13) dX0_poke_29 (fun d2 ed2 H locs hP hS => ?_)
    replace hr := hr.trans (bnd_eq ed2)
    refine lv_iconst (v := (1 : Int32)) hx hb dX0_poke_30 ic_1 ?_
    exact g_endUz (Pic := (fun u => xB D ad ca K u)) (u := d2) hF hQ hr rfl hP hS dX0_poke_31
  · replace hr := hr.trans (if_neg c_13)
    refine lv_iconst (v := (0 : Int32)) hx hb dX0_poke_16 ic_0 ?_
    exact g_endUz (Pic := (fun u => xB D ad ca K u)) (u := d) hF hQ hr rfl hP hS dX0_poke_17
