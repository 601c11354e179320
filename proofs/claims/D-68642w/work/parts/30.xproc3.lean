def x_readInput_L61 (K : XK) (p1 : Int32) : Nat → Int32 → XD → Int64 × XD
  | 0, w61_2, dl61 => (0, dl61)
  | n + 1, w61_2, dl61 => if p1 ≤ w61_2 then (bnd (x_drop p1 dl61) fun g2 => ((p1.toInt64), g2)) else (bnd (dx_bytes_ (upd (dx_bytes dl61) (x_where K (((dx_r dl61) (6 : Int32).toNatClampNeg) + (w61_2.toInt64)) true).toNatClampNeg (vp_nar .byte ((dx_inB dl61) w61_2.toNatClampNeg))) dl61) fun d3 => bnd (α := Int32) ((w61_2 + (1 : Int32))) fun v4 => x_readInput_L61 K p1 n v4 d3)
theorem x_readInput_L61_s (K : XK) (p1 : Int32) (n : Nat) (w61_2 : Int32) (dl61 : XD) : x_readInput_L61 K p1 (n + 1) w61_2 dl61 = if p1 ≤ w61_2 then (bnd (x_drop p1 dl61) fun g2 => ((p1.toInt64), g2)) else (bnd (dx_bytes_ (upd (dx_bytes dl61) (x_where K (((dx_r dl61) (6 : Int32).toNatClampNeg) + (w61_2.toInt64)) true).toNatClampNeg (vp_nar .byte ((dx_inB dl61) w61_2.toNatClampNeg))) dl61) fun d3 => bnd (α := Int32) ((w61_2 + (1 : Int32))) fun v4 => x_readInput_L61 K p1 n v4 d3) := rfl
def x_readInput (K : XK) (d : XD) : Int64 × XD := bnd (α := Int32) (if 0 ≤ (j_compareUnsigned ((dx_r d) (2 : Int32).toNatClampNeg) ((dx_inN d).toInt64)) then (dx_inN d) else (((dx_r d) (2 : Int32).toNatClampNeg).toInt32)) fun p1 => if (b2i (x_all K ((dx_r d) (6 : Int32).toNatClampNeg) (p1.toInt64) true)) = 0 then ((-14 : Int64), d) else (x_readInput_L61 K p1 (mI (0 : Int32) p1 + 1) (0 : Int32) d)
abbrev rm_X2_readInput : Room := { frames := 3, cells := 0, slots := 0, locals := 77 }
set_option maxHeartbeats 4000000 in
set_option maxRecDepth 100000 in
theorem m_X2_readInput {l : Launch} {D : va_G} {ad : Nat → Nat} {ca : Nat → ClassId} (hI : xInj ad) {K : XK} {d : XD} (RES : Int64 × XD) (hr : RES = x_readInput K d) (hlay : XLay K) (hio : XIO d) : g_U l yX2_readInput (ws_ yX2_readInput cX2_readInput 3 (some .long)) rm_X2_readInput [.ref (ad 4)] (xKp D ca) (xB D ad ca K d) (some (.long RES.1)) (xB D ad ca K RES.2) (xA ad) := by
  refine g_ofU (by decide) (Nat.le_of_ble_eq_true rfl) ?_
  intro p e s m args below meth c ls Q hF hB hKp hl hQ
  obtain ⟨hx, hb, -, -, hml, hown, hts⟩ := id hF
  have hown : s.vm.findClass RX2 = some m.cls := hown
  have hC : CallFix p m c cX2_readInput 3 s args lw_all RX2 := ⟨hx, hb, hml, hown, hts⟩
  obtain ⟨hK, hN⟩ := id hKp
  have hP : va_P D xcl (XW ad ca K d) s.heap := hB
  have hS : va_S (xA ad) s.heap s.heap [] := va_S.rf
  have hl : lv_has ls 3 [(0, .ref (ad 4))] := hl
  unfold x_readInput at hr
  refine lv_aload_n hx hb dX2_readInput_0 rfl (lv_at hl 0 rfl) ?_
  refine xg_4_4 hx hb hts hown hK hP (hts _ q233) dX2_readInput_1 ?_
  refine lv_iconst (v := (2 : Int32)) hx hb dX2_readInput_4 ic_2 ?_
  refine xl_12 hx hb hK hP (show ¬ ((2 : Int32) < 0 ∨ 16 ≤ (2 : Int32).toNatClampNeg) by decide) dX2_readInput_5 ?_
  refine lv_aload_n hx hb dX2_readInput_6 rfl (lv_at hl 0 rfl) ?_
  refine xg_4_1 hx hb hts hown hK hP (hts _ q227) dX2_readInput_7 ?_
  refine xgn_5_1 hx hb hts hown hK hP (xq_q162 hN) dX2_readInput_10 ?_
  refine lv_i2l (v := (dx_inN d).toInt64) hx hb dX2_readInput_13 rfl ?_
  refine g_RS (As := [.long ((dx_r d) (2 : Int32).toNatClampNeg), .long ((dx_inN d).toInt64)]) (rest := []) hC (m_J0_compareUnsigned ((dx_r d) (2 : Int32).toNatClampNeg) ((dx_inN d).toInt64) _ rfl) (va_cwS 2 hts cw_X2_228 rfl rfl rfl hd_J0_compareUnsigned ⟨Nat.le_of_ble_eq_true rfl, Nat.le_of_ble_eq_true rfl⟩) g_Kst0 trivial trivial ⟨Nat.zero_le _, Nat.zero_le _⟩ rfl hl.1 rfl (Nat.le_of_ble_eq_true rfl) dX2_readInput_14 ?_
  obtain ⟨p1, ep1⟩ : ∃ z : Int32, z = (if 0 ≤ (j_compareUnsigned ((dx_r d) (2 : Int32).toNatClampNeg) ((dx_inN d).toInt64)) then (dx_inN d) else (((dx_r d) (2 : Int32).toNatClampNeg).toInt32)) := ⟨_, rfl⟩
  replace hr := hr.trans (bnd_eq ep1)
  have kp1 : ∀ (H : Heap) (locs : List Loc) (ls : Array Slot), va_P D xcl (XW ad ca K d) H → va_S (xA ad) s.heap H locs → lv_has ls 3 [(0, .ref (ad 4))] → W p l e rm_X2_readInput s m args below meth c H locs 0 0 Q (F0 m 37 ls [.int p1]) := by
    intro H locs ls hP hS hl
    refine lv_istore_n (lv' := [(1, .int p1), (0, .ref (ad 4))]) hx hb dX2_readInput_37 rfl hl (by decide) rfl (fun ls hl => ?_)
    refine lv_aload_n hx hb dX2_readInput_38 rfl (lv_at hl 1 rfl) ?_
    refine lv_aload_n hx hb dX2_readInput_39 rfl (lv_at hl 1 rfl) ?_
    refine xg_4_4 hx hb hts hown hK hP (hts _ q233) dX2_readInput_40 ?_
    refine lv_bipush (v := (6 : Int32)) hx hb dX2_readInput_43 bp_6 ?_
    refine xl_12 hx hb hK hP (show ¬ ((6 : Int32) < 0 ∨ 16 ≤ (6 : Int32).toNatClampNeg) by decide) dX2_readInput_45 ?_
    refine lv_iload_n hx hb dX2_readInput_46 rfl (lv_at hl 0 rfl) ?_
    refine lv_i2l (v := p1.toInt64) hx hb dX2_readInput_47 rfl ?_
    refine lv_iconst (v := (1 : Int32)) hx hb dX2_readInput_48 ic_1 ?_
    refine g_RV (As := [.long ((dx_r d) (6 : Int32).toNatClampNeg), .long (p1.toInt64), .int (b2i true)]) (rest := []) hC (m_X2_all (K := K) (d := d) ((dx_r d) (6 : Int32).toNatClampNeg) (p1.toInt64) true _ rfl) (cwV 3 hts cw_X2_292 rfl rfl rfl hd_X2_all ⟨Nat.le_of_ble_eq_true rfl, Nat.le_of_ble_eq_true rfl⟩) xKst (va_recv hK hP (ci := 2) (q0 := 4) rfl rfl) hP hKp ⟨Nat.zero_le _, Nat.zero_le _⟩ rfl hl.1 rfl (Nat.le_of_ble_eq_true rfl) dX2_readInput_49 ?_
    refine lv_if_ne (tgt := 59) hx hb dX2_readInput_52 (by decide) (fun c_52 => ?_) (fun c_52 => ?_)
    · replace hr := hr.trans (if_neg c_52)
      refine lv_iconst (v := (0 : Int32)) hx hb dX2_readInput_59 ic_0 ?_
      refine lv_istore_n (lv' := [(2, .int (0 : Int32)), (1, .int p1), (0, .ref (ad 4))]) hx hb dX2_readInput_60 rfl hl (by decide) rfl (fun ls hl => ?_)
      have lp61 : ∀ (n : Nat) (w61_2 : Int32) (dl61 : XD) (H : Heap) (locs : List Loc) (ls : Array Slot), mI w61_2 p1 < n → (0 ≤ w61_2) → (dx_r dl61 = dx_r d) → (dx_inN dl61 = dx_inN d) → RES = x_readInput_L61 K p1 n w61_2 dl61 → va_P D xcl (XW ad ca K dl61) H → va_S (xA ad) s.heap H locs → lv_has ls 3 [(2, .int w61_2), (1, .int p1), (0, .ref (ad 4))] → W p l e rm_X2_readInput s m args below meth c H locs 0 0 Q (F0 m 61 ls []) := by
        intro n
        induction n with
        | zero =>
          intro w61_2 dl61 H locs ls hm
          exact absurd hm (Nat.not_lt_zero _)
        | succ n ih =>
          intro w61_2 dl61 H locs ls hm h0 h1 h2 hr hP hS hl
          replace hr := hr.trans (x_readInput_L61_s K p1 n w61_2 dl61)
          refine lv_iload_n hx hb dX2_readInput_61 rfl (lv_at hl 0 rfl) ?_
          refine lv_iload_n hx hb dX2_readInput_62 rfl (lv_at hl 1 rfl) ?_
          refine lv_icmp_ge (tgt := 107) hx hb dX2_readInput_63 (by decide) (fun c_63 => ?_) (fun c_63 => ?_)
          · replace hr := hr.trans (if_pos c_63)
            refine lv_aload_n hx hb dX2_readInput_107 rfl (lv_at hl 2 rfl) ?_
            refine xg_4_1 hx hb hts hown hK hP (hts _ q227) dX2_readInput_108 ?_
            refine lv_iload_n hx hb dX2_readInput_111 rfl (lv_at hl 1 rfl) ?_
            obtain ⟨g2, eg2⟩ : ∃ z, z = x_drop p1 dl61 := ⟨_, rfl⟩
            replace hr := hr.trans (bnd_eq eg2)
            refine g_UV0 (As := [.int p1]) (rest := []) hC (m_X3_drop hI (K := K) (d := dl61) p1 g2 eg2 (ri_n hio.1 ep1).1 (by rw [h2]; exact hio.1.2)) (cwV 1 hts cw_X2_303 rfl rfl rfl hd_X3_drop ⟨Nat.le_of_ble_eq_true rfl, Nat.le_of_ble_eq_true rfl⟩) xKst (va_recv hK hP (ci := 3) (q0 := 5) rfl rfl) hP hKp ⟨Nat.zero_le _, Nat.zero_le _⟩ hS (fun _ h => h) rfl hl.1 rfl (Nat.le_of_ble_eq_true rfl) dX2_readInput_112 (fun H locs hP hS => ?_)
            have hP : va_P D xcl (XW ad ca K g2) H := hP
            refine lv_iload_n hx hb dX2_readInput_115 rfl (lv_at hl 1 rfl) ?_
            refine lv_i2l (v := p1.toInt64) hx hb dX2_readInput_116 rfl ?_
            exact g_endUl (Pic := (fun u => xB D ad ca K u)) (u := g2) hF hQ hr hP hS dX2_readInput_117
          · replace hr := hr.trans (if_neg c_63)
            refine lv_aload_n hx hb dX2_readInput_66 rfl (lv_at hl 2 rfl) ?_
            refine xg_4_0 hx hb hts hown hK hP (hts _ q226) dX2_readInput_67 ?_
            refine xgn_2_0 hx hb hts hown hK hP (xq_q112 hN) dX2_readInput_70 ?_
            refine lv_aload_n hx hb dX2_readInput_73 rfl (lv_at hl 2 rfl) ?_
            refine xg_4_0 hx hb hts hown hK hP (hts _ q226) dX2_readInput_74 ?_
            refine lv_aload_n hx hb dX2_readInput_77 rfl (lv_at hl 2 rfl) ?_
            refine xg_4_4 hx hb hts hown hK hP (hts _ q233) dX2_readInput_78 ?_
            refine lv_bipush (v := (6 : Int32)) hx hb dX2_readInput_81 bp_6 ?_
            refine xl_12 hx hb hK hP (show ¬ ((6 : Int32) < 0 ∨ 16 ≤ (6 : Int32).toNatClampNeg) by decide) dX2_readInput_83 ?_
            refine lv_iload_n hx hb dX2_readInput_84 rfl (lv_at hl 0 rfl) ?_
            refine lv_i2l (v := w61_2.toInt64) hx hb dX2_readInput_85 rfl ?_
            refine lv_ladd hx hb dX2_readInput_86 ?_
            refine lv_iconst (v := (1 : Int32)) hx hb dX2_readInput_87 ic_1 ?_
            refine g_RV (As := [.long (((dx_r dl61) (6 : Int32).toNatClampNeg) + (w61_2.toInt64)), .int (b2i true)]) (rest := [.ref (ad 3)]) hC (m_X1_where (K := K) (d := dl61) (((dx_r dl61) (6 : Int32).toNatClampNeg) + (w61_2.toInt64)) true _ rfl) (cwV 2 hts cw_X2_288 rfl rfl rfl hd_X1_where ⟨Nat.le_of_ble_eq_true rfl, Nat.le_of_ble_eq_true rfl⟩) xKst (va_recv hK hP (ci := 1) (q0 := 2) rfl rfl) hP hKp ⟨Nat.zero_le _, Nat.zero_le _⟩ rfl hl.1 rfl (Nat.le_of_ble_eq_true rfl) dX2_readInput_88 ?_
            refine lv_aload_n hx hb dX2_readInput_91 rfl (lv_at hl 2 rfl) ?_
            refine xg_4_1 hx hb hts hown hK hP (hts _ q227) dX2_readInput_92 ?_
            refine xgn_5_0 hx hb hts hown hK hP (xq_q160 hN) dX2_readInput_95 ?_
            refine lv_iload_n hx hb dX2_readInput_98 rfl (lv_at hl 0 rfl) ?_
            refine xl_6 hx hb hK hP (i_in h0 c_63 (ri_65 hio.1 (ri_n hio.1 ep1))) dX2_readInput_99 ?_
            refine xs_3 hx hb hK hI hP hS (x_where_in hlay (by rw [h1]; exact x_all_i c_52 h0 c_63)) dX2_readInput_100 (fun d3 ed3 H locs hP hS => ?_)
            replace hr := hr.trans (bnd_eq ed3)
            obtain ⟨v4, ev4⟩ : ∃ z : Int32, z = (w61_2 + (1 : Int32)) := ⟨_, rfl⟩
            replace hr := hr.trans (bnd_eq ev4)
            refine lv_iinc (v := v4) (lv' := [(2, .int v4), (1, .int p1), (0, .ref (ad 4))]) hx hb dX2_readInput_101 hl (k := 0) rfl (by rw [ev4, ← ic_1]) (by decide) rfl (fun ls hl => ?_)
            refine lv_goto (tgt := 61) hx hb dX2_readInput_104 (by decide) ?_
            exact ih v4 d3 _ _ ls (mI_dec c_63 hm ev4) (i_nn h0 c_63 ev4) (by rw [ed3]; exact h1) (by rw [ed3]; exact h2) hr hP hS (lv_sub hl [0, 1, 2] rfl)
      exact lp61 (mI (0 : Int32) p1 + 1) (0 : Int32) d _ _ ls (Nat.lt_succ_self _) (by decide) (rfl) (rfl) hr hP hS (lv_sub hl [0, 1, 2] rfl)
    · replace hr := hr.trans (if_pos c_52)
      refine lv_ldc2 hx hb hown (hts _ q561) dX2_readInput_55 ?_
      exact g_endUl (Pic := (fun u => xB D ad ca K u)) (u := d) hF hQ hr hP hS dX2_readInput_58
  replace hr := ep1
  refine lv_if_ge (tgt := 30) hx hb dX2_readInput_17 (by decide) (fun c_17 => ?_) (fun c_17 => ?_)
  · replace hr := hr.trans (if_pos c_17)
    refine lv_aload_n hx hb dX2_readInput_30 rfl (lv_at hl 0 rfl) ?_
    refine xg_4_1 hx hb hts hown hK hP (hts _ q227) dX2_readInput_31 ?_
    refine xgn_5_1 hx hb hts hown hK hP (xq_q162 hN) dX2_readInput_34 ?_
    subst hr
    exact kp1 _ _ ls hP hS (lv_sub hl [0] rfl)
  · replace hr := hr.trans (if_neg c_17)
    refine lv_aload_n hx hb dX2_readInput_20 rfl (lv_at hl 0 rfl) ?_
    refine xg_4_4 hx hb hts hown hK hP (hts _ q233) dX2_readInput_21 ?_
    refine lv_iconst (v := (2 : Int32)) hx hb dX2_readInput_24 ic_2 ?_
    refine xl_12 hx hb hK hP (show ¬ ((2 : Int32) < 0 ∨ 16 ≤ (2 : Int32).toNatClampNeg) by decide) dX2_readInput_25 ?_
    refine lv_l2i (v := ((dx_r d) (2 : Int32).toNatClampNeg).toInt32) hx hb dX2_readInput_26 rfl ?_
    refine lv_goto (tgt := 37) hx hb dX2_readInput_27 (by decide) ?_
    subst hr
    exact kp1 _ _ ls hP hS (lv_sub hl [0] rfl)
def x_writeOutput_L52 (K : XK) (v1 : Int64) : Nat → Int64 → XD → Int64 × XD
  | 0, w52_3, dl52 => (0, dl52)
  | n + 1, w52_3, dl52 => if v1 ≤ w52_3 then (v1, dl52) else (bnd (x_add_out ((dx_bytes dl52) (x_where K (((dx_r dl52) (6 : Int32).toNatClampNeg) + w52_3) false).toNatClampNeg) dl52) fun g2 => bnd (α := Int64) ((w52_3 + (1 : Int64))) fun v3 => x_writeOutput_L52 K v1 n v3 g2)
theorem x_writeOutput_L52_s (K : XK) (v1 : Int64) (n : Nat) (w52_3 : Int64) (dl52 : XD) : x_writeOutput_L52 K v1 (n + 1) w52_3 dl52 = if v1 ≤ w52_3 then (v1, dl52) else (bnd (x_add_out ((dx_bytes dl52) (x_where K (((dx_r dl52) (6 : Int32).toNatClampNeg) + w52_3) false).toNatClampNeg) dl52) fun g2 => bnd (α := Int64) ((w52_3 + (1 : Int64))) fun v3 => x_writeOutput_L52 K v1 n v3 g2) := rfl
def x_writeOutput (K : XK) (d : XD) : Int64 × XD := bnd (α := Int64) (((dx_r d) (2 : Int32).toNatClampNeg)) fun v1 => if (j_compareUnsigned v1 (((65536 : Int32) - (dx_outN d)).toInt64)) ≤ 0 then (if (b2i (x_all K ((dx_r d) (6 : Int32).toNatClampNeg) v1 false)) = 0 then ((-14 : Int64), d) else (x_writeOutput_L52 K v1 (mL (0 : Int64) v1 + 1) (0 : Int64) d)) else ((-28 : Int64), d)
abbrev rm_X2_writeOutput : Room := { frames := 3, cells := 0, slots := 0, locals := 77 }
set_option maxHeartbeats 4000000 in
set_option maxRecDepth 100000 in
theorem m_X2_writeOutput {l : Launch} {D : va_G} {ad : Nat → Nat} {ca : Nat → ClassId} (hI : xInj ad) {K : XK} {d : XD} (RES : Int64 × XD) (hr : RES = x_writeOutput K d) (hlay : XLay K) (hio : XIO d) : g_U l yX2_writeOutput (ws_ yX2_writeOutput cX2_writeOutput 5 (some .long)) rm_X2_writeOutput [.ref (ad 4)] (xKp D ca) (xB D ad ca K d) (some (.long RES.1)) (xB D ad ca K RES.2) (xA ad) := by
  refine g_ofU (by decide) (Nat.le_of_ble_eq_true rfl) ?_
  intro p e s m args below meth c ls Q hF hB hKp hl hQ
  obtain ⟨hx, hb, -, -, hml, hown, hts⟩ := id hF
  have hown : s.vm.findClass RX2 = some m.cls := hown
  have hC : CallFix p m c cX2_writeOutput 5 s args lw_all RX2 := ⟨hx, hb, hml, hown, hts⟩
  obtain ⟨hK, hN⟩ := id hKp
  have hP : va_P D xcl (XW ad ca K d) s.heap := hB
  have hS : va_S (xA ad) s.heap s.heap [] := va_S.rf
  have hl : lv_has ls 5 [(0, .ref (ad 4))] := hl
  unfold x_writeOutput at hr
  refine lv_aload_n hx hb dX2_writeOutput_0 rfl (lv_at hl 0 rfl) ?_
  refine xg_4_4 hx hb hts hown hK hP (hts _ q233) dX2_writeOutput_1 ?_
  refine lv_iconst (v := (2 : Int32)) hx hb dX2_writeOutput_4 ic_2 ?_
  refine xl_12 hx hb hK hP (show ¬ ((2 : Int32) < 0 ∨ 16 ≤ (2 : Int32).toNatClampNeg) by decide) dX2_writeOutput_5 ?_
  refine lv_topl (fun v1 ev1 => ?_)
  replace hr := hr.trans (bnd_eq ev1)
  refine lv_lstore_n (lv' := [(1, .long v1), (0, .ref (ad 4))]) hx hb dX2_writeOutput_6 rfl hl (by decide) rfl (fun ls hl => ?_)
  refine lv_lload_n hx hb dX2_writeOutput_7 rfl (lv_at hl 0 rfl) ?_
  refine lv_ldcw hx hb hown (hts _ q570) dX2_writeOutput_8 ?_
  refine lv_aload_n hx hb dX2_writeOutput_11 rfl (lv_at hl 1 rfl) ?_
  refine xg_4_2 hx hb hts hown hK hP (hts _ q229) dX2_writeOutput_12 ?_
  refine xgn_7_1 hx hb hts hown hK hP (xq_q162 hN) dX2_writeOutput_15 ?_
  refine lv_isub hx hb dX2_writeOutput_18 ?_
  refine lv_i2l (v := ((65536 : Int32) - (dx_outN d)).toInt64) hx hb dX2_writeOutput_19 rfl ?_
  refine g_RS (As := [.long v1, .long (((65536 : Int32) - (dx_outN d)).toInt64)]) (rest := []) hC (m_J0_compareUnsigned v1 (((65536 : Int32) - (dx_outN d)).toInt64) _ rfl) (va_cwS 2 hts cw_X2_228 rfl rfl rfl hd_J0_compareUnsigned ⟨Nat.le_of_ble_eq_true rfl, Nat.le_of_ble_eq_true rfl⟩) g_Kst0 trivial trivial ⟨Nat.zero_le _, Nat.zero_le _⟩ rfl hl.1 rfl (Nat.le_of_ble_eq_true rfl) dX2_writeOutput_20 ?_
  refine lv_if_le (tgt := 30) hx hb dX2_writeOutput_23 (by decide) (fun c_23 => ?_) (fun c_23 => ?_)
  · replace hr := hr.trans (if_pos c_23)
    refine lv_aload_n hx hb dX2_writeOutput_30 rfl (lv_at hl 1 rfl) ?_
    refine lv_aload_n hx hb dX2_writeOutput_31 rfl (lv_at hl 1 rfl) ?_
    refine xg_4_4 hx hb hts hown hK hP (hts _ q233) dX2_writeOutput_32 ?_
    refine lv_bipush (v := (6 : Int32)) hx hb dX2_writeOutput_35 bp_6 ?_
    refine xl_12 hx hb hK hP (show ¬ ((6 : Int32) < 0 ∨ 16 ≤ (6 : Int32).toNatClampNeg) by decide) dX2_writeOutput_37 ?_
    refine lv_lload_n hx hb dX2_writeOutput_38 rfl (lv_at hl 0 rfl) ?_
    refine lv_iconst (v := (0 : Int32)) hx hb dX2_writeOutput_39 ic_0 ?_
    refine g_RV (As := [.long ((dx_r d) (6 : Int32).toNatClampNeg), .long v1, .int (b2i false)]) (rest := []) hC (m_X2_all (K := K) (d := d) ((dx_r d) (6 : Int32).toNatClampNeg) v1 false _ rfl) (cwV 3 hts cw_X2_292 rfl rfl rfl hd_X2_all ⟨Nat.le_of_ble_eq_true rfl, Nat.le_of_ble_eq_true rfl⟩) xKst (va_recv hK hP (ci := 2) (q0 := 4) rfl rfl) hP hKp ⟨Nat.zero_le _, Nat.zero_le _⟩ rfl hl.1 rfl (Nat.le_of_ble_eq_true rfl) dX2_writeOutput_40 ?_
    refine lv_if_ne (tgt := 50) hx hb dX2_writeOutput_43 (by decide) (fun c_43 => ?_) (fun c_43 => ?_)
    · replace hr := hr.trans (if_neg c_43)
      refine lv_lconst (v := (0 : Int64)) hx hb dX2_writeOutput_50 lc_0 ?_
      refine lv_lstore_n (lv' := [(3, .long (0 : Int64)), (1, .long v1), (0, .ref (ad 4))]) hx hb dX2_writeOutput_51 rfl hl (by decide) rfl (fun ls hl => ?_)
      have lp52 : ∀ (n : Nat) (w52_3 : Int64) (dl52 : XD) (H : Heap) (locs : List Loc) (ls : Array Slot), mL w52_3 v1 < n → (0 ≤ w52_3) → (dx_r dl52 = dx_r d) → ((dx_outN dl52).toInt = (dx_outN d).toInt + w52_3.toInt) → RES = x_writeOutput_L52 K v1 n w52_3 dl52 → va_P D xcl (XW ad ca K dl52) H → va_S (xA ad) s.heap H locs → lv_has ls 5 [(3, .long w52_3), (1, .long v1), (0, .ref (ad 4))] → W p l e rm_X2_writeOutput s m args below meth c H locs 0 0 Q (F0 m 52 ls []) := by
        intro n
        induction n with
        | zero =>
          intro w52_3 dl52 H locs ls hm
          exact absurd hm (Nat.not_lt_zero _)
        | succ n ih =>
          intro w52_3 dl52 H locs ls hm h0 h1 h2 hr hP hS hl
          replace hr := hr.trans (x_writeOutput_L52_s K v1 n w52_3 dl52)
          refine lv_lload_n hx hb dX2_writeOutput_52 rfl (lv_at hl 0 rfl) ?_
          refine lv_lload_n hx hb dX2_writeOutput_53 rfl (lv_at hl 1 rfl) ?_
          refine lq_ge (tgt := 97) hx hb dX2_writeOutput_54 dX2_writeOutput_55 (by decide) (fun c_54 => ?_) (fun c_54 => ?_)
          · replace hr := hr.trans (if_pos c_54)
            refine lv_lload_n hx hb dX2_writeOutput_97 rfl (lv_at hl 1 rfl) ?_
            exact g_endUl (Pic := (fun u => xB D ad ca K u)) (u := dl52) hF hQ hr hP hS dX2_writeOutput_98
          · replace hr := hr.trans (if_neg c_54)
            refine lv_aload_n hx hb dX2_writeOutput_58 rfl (lv_at hl 2 rfl) ?_
            refine xg_4_2 hx hb hts hown hK hP (hts _ q229) dX2_writeOutput_59 ?_
            refine lv_aload_n hx hb dX2_writeOutput_62 rfl (lv_at hl 2 rfl) ?_
            refine xg_4_0 hx hb hts hown hK hP (hts _ q226) dX2_writeOutput_63 ?_
            refine xgn_2_0 hx hb hts hown hK hP (xq_q112 hN) dX2_writeOutput_66 ?_
            refine lv_aload_n hx hb dX2_writeOutput_69 rfl (lv_at hl 2 rfl) ?_
            refine xg_4_0 hx hb hts hown hK hP (hts _ q226) dX2_writeOutput_70 ?_
            refine lv_aload_n hx hb dX2_writeOutput_73 rfl (lv_at hl 2 rfl) ?_
            refine xg_4_4 hx hb hts hown hK hP (hts _ q233) dX2_writeOutput_74 ?_
            refine lv_bipush (v := (6 : Int32)) hx hb dX2_writeOutput_77 bp_6 ?_
            refine xl_12 hx hb hK hP (show ¬ ((6 : Int32) < 0 ∨ 16 ≤ (6 : Int32).toNatClampNeg) by decide) dX2_writeOutput_79 ?_
            refine lv_lload_n hx hb dX2_writeOutput_80 rfl (lv_at hl 0 rfl) ?_
            refine lv_ladd hx hb dX2_writeOutput_81 ?_
            refine lv_iconst (v := (0 : Int32)) hx hb dX2_writeOutput_82 ic_0 ?_
            refine g_RV (As := [.long (((dx_r dl52) (6 : Int32).toNatClampNeg) + w52_3), .int (b2i false)]) (rest := [.ref (ad 3), .ref (ad 7)]) hC (m_X1_where (K := K) (d := dl52) (((dx_r dl52) (6 : Int32).toNatClampNeg) + w52_3) false _ rfl) (cwV 2 hts cw_X2_288 rfl rfl rfl hd_X1_where ⟨Nat.le_of_ble_eq_true rfl, Nat.le_of_ble_eq_true rfl⟩) xKst (va_recv hK hP (ci := 1) (q0 := 2) rfl rfl) hP hKp ⟨Nat.zero_le _, Nat.zero_le _⟩ rfl hl.1 rfl (Nat.le_of_ble_eq_true rfl) dX2_writeOutput_83 ?_
            refine xl_3 hx hb hK hP (x_where_in hlay (by rw [h1]; exact x_all_all c_43 _ h0 c_54)) dX2_writeOutput_86 ?_
            obtain ⟨g2, eg2⟩ : ∃ z, z = x_add_out ((dx_bytes dl52) (x_where K (((dx_r dl52) (6 : Int32).toNatClampNeg) + w52_3) false).toNatClampNeg) dl52 := ⟨_, rfl⟩
            replace hr := hr.trans (bnd_eq eg2)
            refine g_UV0 (As := [.int ((dx_bytes dl52) (x_where K (((dx_r dl52) (6 : Int32).toNatClampNeg) + w52_3) false).toNatClampNeg)]) (rest := []) hC (m_X3_add_7 hI (K := K) (d := dl52) ((dx_bytes dl52) (x_where K (((dx_r dl52) (6 : Int32).toNatClampNeg) + w52_3) false).toNatClampNeg) g2 eg2 (wo_in hio.2 h2 h0 c_54 (wo_n hio.2 (Int32.not_lt.mpr c_23)))) (cwV 1 hts cw_X2_309 rfl rfl rfl hd_X3_add ⟨Nat.le_of_ble_eq_true rfl, Nat.le_of_ble_eq_true rfl⟩) xKst (va_recv hK hP (ci := 3) (q0 := 7) rfl rfl) hP hKp ⟨Nat.zero_le _, Nat.zero_le _⟩ hS (fun _ h => h) rfl hl.1 rfl (Nat.le_of_ble_eq_true rfl) dX2_writeOutput_87 (fun H locs hP hS => ?_)
            have hP : va_P D xcl (XW ad ca K g2) H := hP
            refine lv_lload_n hx hb dX2_writeOutput_90 rfl (lv_at hl 0 rfl) ?_
            refine lv_lconst (v := (1 : Int64)) hx hb dX2_writeOutput_91 lc_1 ?_
            refine lv_ladd hx hb dX2_writeOutput_92 ?_
            refine lv_topl (fun v3 ev3 => ?_)
            replace hr := hr.trans (bnd_eq ev3)
            refine lv_lstore_n (lv' := [(3, .long v3), (1, .long v1), (0, .ref (ad 4))]) hx hb dX2_writeOutput_93 rfl hl (by decide) rfl (fun ls hl => ?_)
            refine lv_goto (tgt := 52) hx hb dX2_writeOutput_94 (by decide) ?_
            exact ih v3 g2 _ _ ls (mL_dec c_54 hm ev3) (l_nn h0 c_54 ev3) ((wo_r eg2).trans h1) (wo_st eg2 hio.2 h2 h0 c_54 (wo_n hio.2 (Int32.not_lt.mpr c_23)) ev3) hr hP hS (lv_sub hl [0, 1, 2] rfl)
      exact lp52 (mL (0 : Int64) v1 + 1) (0 : Int64) d _ _ ls (Nat.lt_succ_self _) (by decide) (rfl) (Int.add_zero _ ▸ rfl) hr hP hS (lv_sub hl [0, 1, 2] rfl)
    · replace hr := hr.trans (if_pos c_43)
      refine lv_ldc2 hx hb hown (hts _ q561) dX2_writeOutput_46 ?_
      exact g_endUl (Pic := (fun u => xB D ad ca K u)) (u := d) hF hQ hr hP hS dX2_writeOutput_49
  · replace hr := hr.trans (if_neg c_23)
    refine lv_ldc2 hx hb hown (hts _ q571) dX2_writeOutput_26 ?_
    exact g_endUl (Pic := (fun u => xB D ad ca K u)) (u := d) hF hQ hr hP hS dX2_writeOutput_29
def x_serve (K : XK) (d : XD) : (XK × XD) := bnd (dx_r_ (vp_updL (dx_r d) (1 : Int32).toNatClampNeg (dx_next d)) d) fun d1 => bnd (dx_r_ (vp_updL (dx_r d1) (11 : Int32).toNatClampNeg (((2 : Int32) + (dx_flags d1)).toInt64)) d1) fun d2 => bnd (α := Int64) (((dx_r d2) (0 : Int32).toNatClampNeg)) fun v3 => if v3 = (0 : Int64) then (bnd (x_readInput K d2) fun g10 => bnd (dx_r_ (vp_updL (dx_r g10.2) (0 : Int32).toNatClampNeg g10.1) g10.2) fun d11 => (K, d11)) else (if v3 = (1 : Int64) then (bnd (x_writeOutput K d2) fun g8 => bnd (dx_r_ (vp_updL (dx_r g8.2) (0 : Int32).toNatClampNeg g8.1) g8.2) fun d9 => (K, d9)) else (if v3 = (12 : Int64) then (bnd (x_moveBreak K ((dx_r d2) (7 : Int32).toNatClampNeg) d2) fun g6 => bnd (dx_r_ (vp_updL (dx_r g6.2.2) (0 : Int32).toNatClampNeg g6.1) g6.2.2) fun d7 => (g6.2.1, d7)) else (if v3 = (60 : Int64) then (bnd (x_fail (1 : Int32) ((dx_r d2) (7 : Int32).toNatClampNeg) d2) fun g5 => (K, g5)) else (bnd (dx_r_ (vp_updL (dx_r d2) (0 : Int32).toNatClampNeg (-38 : Int64)) d2) fun d4 => (K, d4)))))
abbrev rm_X2_serve : Room := { frames := 4, cells := 0, slots := 0, locals := 101 }
set_option maxHeartbeats 4000000 in
set_option maxRecDepth 100000 in
theorem m_X2_serve {l : Launch} {D : va_G} {ad : Nat → Nat} {ca : Nat → ClassId} (hI : xInj ad) {K : XK} {d : XD} (RES : (XK × XD)) (hr : RES = x_serve K d) (hgd : XGd K) (hio : XIO d) : g_U l yX2_serve (ws_ yX2_serve cX2_serve 3 none) rm_X2_serve [.ref (ad 4)] (xKp D ca) (xB D ad ca K d) none (xB D ad ca RES.1 RES.2) (xA ad) := by
  refine g_ofU (by decide) (Nat.le_of_ble_eq_true rfl) ?_
  intro p e s m args below meth c ls Q hF hB hKp hl hQ
  obtain ⟨hx, hb, -, -, hml, hown, hts⟩ := id hF
  have hown : s.vm.findClass RX2 = some m.cls := hown
  have hC : CallFix p m c cX2_serve 3 s args lw_all RX2 := ⟨hx, hb, hml, hown, hts⟩
  obtain ⟨hK, hN⟩ := id hKp
  have hP : va_P D xcl (XW ad ca K d) s.heap := hB
  have hS : va_S (xA ad) s.heap s.heap [] := va_S.rf
  have hl : lv_has ls 3 [(0, .ref (ad 4))] := hl
  unfold x_serve at hr
  refine lv_aload_n hx hb dX2_serve_0 rfl (lv_at hl 0 rfl) ?_
  refine xg_4_4 hx hb hts hown hK hP (hts _ q233) dX2_serve_1 ?_
  refine lv_iconst (v := (1 : Int32)) hx hb dX2_serve_4 ic_1 ?_
  refine lv_aload_n hx hb dX2_serve_5 rfl (lv_at hl 0 rfl) ?_
  refine xg_4_6 hx hb hts hown hK hP (hts _ q237) dX2_serve_6 ?_
  refine xs_12 hx hb hK hI hP hS (show ¬ ((1 : Int32) < 0 ∨ 16 ≤ (1 : Int32).toNatClampNeg) by decide) dX2_serve_9 (fun d1 ed1 H locs hP hS => ?_)
  replace hr := hr.trans (bnd_eq ed1)
  refine lv_aload_n hx hb dX2_serve_10 rfl (lv_at hl 0 rfl) ?_
  refine xg_4_4 hx hb hts hown hK hP (hts _ q233) dX2_serve_11 ?_
  refine lv_bipush (v := (11 : Int32)) hx hb dX2_serve_14 bp_11 ?_
  refine lv_iconst (v := (2 : Int32)) hx hb dX2_serve_16 ic_2 ?_
  refine lv_aload_n hx hb dX2_serve_17 rfl (lv_at hl 0 rfl) ?_
  refine xg_4_8 hx hb hts hown hK hP (hts _ q240) dX2_serve_18 ?_
  refine lv_iadd hx hb dX2_serve_21 ?_
  refine lv_i2l (v := ((2 : Int32) + (dx_flags d1)).toInt64) hx hb dX2_serve_22 rfl ?_
  refine xs_12 hx hb hK hI hP hS (show ¬ ((11 : Int32) < 0 ∨ 16 ≤ (11 : Int32).toNatClampNeg) by decide) dX2_serve_23 (fun d2 ed2 H locs hP hS => ?_)
  replace hr := hr.trans (bnd_eq ed2)
  refine lv_aload_n hx hb dX2_serve_24 rfl (lv_at hl 0 rfl) ?_
  refine xg_4_4 hx hb hts hown hK hP (hts _ q233) dX2_serve_25 ?_
  refine lv_iconst (v := (0 : Int32)) hx hb dX2_serve_28 ic_0 ?_
  refine xl_12 hx hb hK hP (show ¬ ((0 : Int32) < 0 ∨ 16 ≤ (0 : Int32).toNatClampNeg) by decide) dX2_serve_29 ?_
  refine lv_topl (fun v3 ev3 => ?_)
  replace hr := hr.trans (bnd_eq ev3)
  refine lv_lstore_n (lv' := [(1, .long v3), (0, .ref (ad 4))]) hx hb dX2_serve_30 rfl hl (by decide) rfl (fun ls hl => ?_)
  refine lv_lload_n hx hb dX2_serve_31 rfl (lv_at hl 0 rfl) ?_
  refine lv_lconst (v := (0 : Int64)) hx hb dX2_serve_32 lc_0 ?_
  refine lq_ne (tgt := 50) hx hb dX2_serve_33 dX2_serve_34 (by decide) (fun c_33 => ?_) (fun c_33 => ?_)
  · replace hr := hr.trans (if_neg c_33)
    refine lv_lload_n hx hb dX2_serve_50 rfl (lv_at hl 0 rfl) ?_
    refine lv_lconst (v := (1 : Int64)) hx hb dX2_serve_51 lc_1 ?_
    refine lq_ne (tgt := 69) hx hb dX2_serve_52 dX2_serve_53 (by decide) (fun c_52 => ?_) (fun c_52 => ?_)
    · replace hr := hr.trans (if_neg c_52)
      refine lv_lload_n hx hb dX2_serve_69 rfl (lv_at hl 0 rfl) ?_
      refine lv_ldc2 hx hb hown (hts _ q576) dX2_serve_70 ?_
      refine lq_ne (tgt := 100) hx hb dX2_serve_73 dX2_serve_74 (by decide) (fun c_73 => ?_) (fun c_73 => ?_)
      · replace hr := hr.trans (if_neg c_73)
        refine lv_lload_n hx hb dX2_serve_100 rfl (lv_at hl 0 rfl) ?_
        refine lv_ldc2 hx hb hown (hts _ q581) dX2_serve_101 ?_
        refine lq_ne (tgt := 123) hx hb dX2_serve_104 dX2_serve_105 (by decide) (fun c_104 => ?_) (fun c_104 => ?_)
        · replace hr := hr.trans (if_neg c_104)
          refine lv_aload_n hx hb dX2_serve_123 rfl (lv_at hl 1 rfl) ?_
          refine xg_4_4 hx hb hts hown hK hP (hts _ q233) dX2_serve_124 ?_
          refine lv_iconst (v := (0 : Int32)) hx hb dX2_serve_127 ic_0 ?_
          refine lv_ldc2 hx hb hown (hts _ q582) dX2_serve_128 ?_
          refine xs_12 hx hb hK hI hP hS (show ¬ ((0 : Int32) < 0 ∨ 16 ≤ (0 : Int32).toNatClampNeg) by decide) dX2_serve_131 (fun d4 ed4 H locs hP hS => ?_)
          replace hr := hr.trans (bnd_eq ed4)
          exact g_endUv (Pic := (fun u => xB D ad ca u.1 u.2)) (u := (K, d4)) hF hQ hr hP hS dX2_serve_132
        · replace hr := hr.trans (if_pos c_104)
          refine lv_aload_n hx hb dX2_serve_108 rfl (lv_at hl 1 rfl) ?_
          refine lv_iconst (v := (1 : Int32)) hx hb dX2_serve_109 ic_1 ?_
          refine lv_aload_n hx hb dX2_serve_110 rfl (lv_at hl 1 rfl) ?_
          refine xg_4_4 hx hb hts hown hK hP (hts _ q233) dX2_serve_111 ?_
          refine lv_bipush (v := (7 : Int32)) hx hb dX2_serve_114 bp_7 ?_
          refine xl_12 hx hb hK hP (show ¬ ((7 : Int32) < 0 ∨ 16 ≤ (7 : Int32).toNatClampNeg) by decide) dX2_serve_116 ?_
          obtain ⟨g5, eg5⟩ : ∃ z, z = x_fail (1 : Int32) ((dx_r d2) (7 : Int32).toNatClampNeg) d2 := ⟨_, rfl⟩
          replace hr := hr.trans (bnd_eq eg5)
          refine g_UV0 (As := [.int (1 : Int32), .long ((dx_r d2) (7 : Int32).toNatClampNeg)]) (rest := []) hC (m_X2_fail hI (K := K) (d := d2) (1 : Int32) ((dx_r d2) (7 : Int32).toNatClampNeg) g5 eg5) (cwV 2 hts cw_X2_85 rfl rfl rfl hd_X2_fail ⟨Nat.le_of_ble_eq_true rfl, Nat.le_of_ble_eq_true rfl⟩) xKst (va_recv hK hP (ci := 2) (q0 := 4) rfl rfl) hP hKp ⟨Nat.zero_le _, Nat.zero_le _⟩ hS (fun _ h => h) rfl hl.1 rfl (Nat.le_of_ble_eq_true rfl) dX2_serve_117 (fun H locs hP hS => ?_)
          have hP : va_P D xcl (XW ad ca K g5) H := hP
          refine lv_goto (tgt := 132) hx hb dX2_serve_120 (by decide) ?_
          exact g_endUv (Pic := (fun u => xB D ad ca u.1 u.2)) (u := (K, g5)) hF hQ hr hP hS dX2_serve_132
      · replace hr := hr.trans (if_pos c_73)
        refine lv_aload_n hx hb dX2_serve_77 rfl (lv_at hl 1 rfl) ?_
        refine xg_4_4 hx hb hts hown hK hP (hts _ q233) dX2_serve_78 ?_
        refine lv_iconst (v := (0 : Int32)) hx hb dX2_serve_81 ic_0 ?_
        refine lv_aload_n hx hb dX2_serve_82 rfl (lv_at hl 1 rfl) ?_
        refine xg_4_0 hx hb hts hown hK hP (hts _ q226) dX2_serve_83 ?_
        refine lv_aload_n hx hb dX2_serve_86 rfl (lv_at hl 1 rfl) ?_
        refine xg_4_4 hx hb hts hown hK hP (hts _ q233) dX2_serve_87 ?_
        refine lv_bipush (v := (7 : Int32)) hx hb dX2_serve_90 bp_7 ?_
        refine xl_12 hx hb hK hP (show ¬ ((7 : Int32) < 0 ∨ 16 ≤ (7 : Int32).toNatClampNeg) by decide) dX2_serve_92 ?_
        obtain ⟨g6, eg6⟩ : ∃ z, z = x_moveBreak K ((dx_r d2) (7 : Int32).toNatClampNeg) d2 := ⟨_, rfl⟩
        replace hr := hr.trans (bnd_eq eg6)
        refine g_UV1 (As := [.long ((dx_r d2) (7 : Int32).toNatClampNeg)]) (rest := [.int (0 : Int32), .ref (ad 12)]) hC (m_X1_moveBreak hI (K := K) (d := d2) ((dx_r d2) (7 : Int32).toNatClampNeg) g6 eg6 hgd.1) (cwV 1 hts cw_X2_281 rfl rfl rfl hd_X1_moveBreak ⟨Nat.le_of_ble_eq_true rfl, Nat.le_of_ble_eq_true rfl⟩) xKst (va_recv hK hP (ci := 1) (q0 := 2) rfl rfl) hP hKp ⟨Nat.zero_le _, Nat.zero_le _⟩ hS (fun _ h => h) rfl hl.1 rfl (Nat.le_of_ble_eq_true rfl) dX2_serve_93 (fun H locs hP hS => ?_)
        have hP : va_P D xcl (XW ad ca g6.2.1 g6.2.2) H := hP
        refine xs_12 hx hb hK hI hP hS (show ¬ ((0 : Int32) < 0 ∨ 16 ≤ (0 : Int32).toNatClampNeg) by decide) dX2_serve_96 (fun d7 ed7 H locs hP hS => ?_)
        replace hr := hr.trans (bnd_eq ed7)
        refine lv_goto (tgt := 132) hx hb dX2_serve_97 (by decide) ?_
        exact g_endUv (Pic := (fun u => xB D ad ca u.1 u.2)) (u := (g6.2.1, d7)) hF hQ hr hP hS dX2_serve_132
    · replace hr := hr.trans (if_pos c_52)
      refine lv_aload_n hx hb dX2_serve_56 rfl (lv_at hl 1 rfl) ?_
      refine xg_4_4 hx hb hts hown hK hP (hts _ q233) dX2_serve_57 ?_
      refine lv_iconst (v := (0 : Int32)) hx hb dX2_serve_60 ic_0 ?_
      refine lv_aload_n hx hb dX2_serve_61 rfl (lv_at hl 1 rfl) ?_
      obtain ⟨g8, eg8⟩ : ∃ z, z = x_writeOutput K d2 := ⟨_, rfl⟩
      replace hr := hr.trans (bnd_eq eg8)
      refine g_UV1 (As := []) (rest := [.int (0 : Int32), .ref (ad 12)]) hC (m_X2_writeOutput hI (K := K) (d := d2)  g8 eg8 hgd.1 (by rw [ed2, ed1]; exact hio)) (cwV 0 hts cw_X2_276 rfl rfl rfl hd_X2_writeOutput ⟨Nat.le_of_ble_eq_true rfl, Nat.le_of_ble_eq_true rfl⟩) xKst (va_recv hK hP (ci := 2) (q0 := 4) rfl rfl) hP hKp ⟨Nat.zero_le _, Nat.zero_le _⟩ hS (fun _ h => h) rfl hl.1 rfl (Nat.le_of_ble_eq_true rfl) dX2_serve_62 (fun H locs hP hS => ?_)
      have hP : va_P D xcl (XW ad ca K g8.2) H := hP
      refine xs_12 hx hb hK hI hP hS (show ¬ ((0 : Int32) < 0 ∨ 16 ≤ (0 : Int32).toNatClampNeg) by decide) dX2_serve_65 (fun d9 ed9 H locs hP hS => ?_)
      replace hr := hr.trans (bnd_eq ed9)
      refine lv_goto (tgt := 132) hx hb dX2_serve_66 (by decide) ?_
      exact g_endUv (Pic := (fun u => xB D ad ca u.1 u.2)) (u := (K, d9)) hF hQ hr hP hS dX2_serve_132
  · replace hr := hr.trans (if_pos c_33)
    refine lv_aload_n hx hb dX2_serve_37 rfl (lv_at hl 1 rfl) ?_
    refine xg_4_4 hx hb hts hown hK hP (hts _ q233) dX2_serve_38 ?_
    refine lv_iconst (v := (0 : Int32)) hx hb dX2_serve_41 ic_0 ?_
    refine lv_aload_n hx hb dX2_serve_42 rfl (lv_at hl 1 rfl) ?_
    obtain ⟨g10, eg10⟩ : ∃ z, z = x_readInput K d2 := ⟨_, rfl⟩
    replace hr := hr.trans (bnd_eq eg10)
    refine g_UV1 (As := []) (rest := [.int (0 : Int32), .ref (ad 12)]) hC (m_X2_readInput hI (K := K) (d := d2)  g10 eg10 hgd.1 (by rw [ed2, ed1]; exact hio)) (cwV 0 hts cw_X2_273 rfl rfl rfl hd_X2_readInput ⟨Nat.le_of_ble_eq_true rfl, Nat.le_of_ble_eq_true rfl⟩) xKst (va_recv hK hP (ci := 2) (q0 := 4) rfl rfl) hP hKp ⟨Nat.zero_le _, Nat.zero_le _⟩ hS (fun _ h => h) rfl hl.1 rfl (Nat.le_of_ble_eq_true rfl) dX2_serve_43 (fun H locs hP hS => ?_)
    have hP : va_P D xcl (XW ad ca K g10.2) H := hP
    refine xs_12 hx hb hK hI hP hS (show ¬ ((0 : Int32) < 0 ∨ 16 ≤ (0 : Int32).toNatClampNeg) by decide) dX2_serve_46 (fun d11 ed11 H locs hP hS => ?_)
    replace hr := hr.trans (bnd_eq ed11)
    refine lv_goto (tgt := 132) hx hb dX2_serve_47 (by decide) ?_
    exact g_endUv (Pic := (fun u => xB D ad ca u.1 u.2)) (u := (K, d11)) hF hQ hr hP hS dX2_serve_132
def x_others (K : XK) (o : Int32) (sz : Int32) (d : XD) : (XK × XD) := if o = (37 : Int32) then (if (b2i (x_isNegative ((dx_r d) (0 : Int32).toNatClampNeg) sz)) = 0 then (bnd (x_setRegister (2 : Int32) sz (0 : Int64) d) fun g1 => (K, g1)) else (bnd (x_setRegister (2 : Int32) sz (-1 : Int64) d) fun g2 => (K, g2))) else if o = (38 : Int32) then (if sz = (4 : Int32) then (bnd (x_setRegister (0 : Int32) sz (((((dx_r d) (0 : Int32).toNatClampNeg).toInt32).toInt16.toInt32).toInt64) d) fun g4 => (K, g4)) else (bnd (x_setRegister (0 : Int32) sz ((((dx_r d) (0 : Int32).toNatClampNeg).toInt32).toInt64) d) fun g3 => (K, g3))) else if o = (39 : Int32) then (K, d) else if o = (40 : Int32) then (bnd (x_fail (6 : Int32) (0 : Int64) d) fun g5 => (K, g5)) else if o = (41 : Int32) then (bnd (x_fail (2 : Int32) (0 : Int64) d) fun g6 => (K, g6)) else if o = (42 : Int32) then (bnd (x_serve K d) fun g7 => (g7.1, g7.2)) else if o = (43 : Int32) then (bnd (x_fetch K ((dx_r d) (5 : Int32).toNatClampNeg) (8 : Int32) d) fun g8 => if (dx_stop g8.2) = 0 then (bnd (dx_r_ (vp_updL (dx_r g8.2) (4 : Int32).toNatClampNeg (((dx_r g8.2) (5 : Int32).toNatClampNeg) + (8 : Int64))) g8.2) fun d9 => bnd (dx_r_ (vp_updL (dx_r d9) (5 : Int32).toNatClampNeg g8.1) d9) fun d10 => (K, d10)) else (K, g8.2)) else if o = (44 : Int32) then (bnd (α := Bool) (if o = (45 : Int32) then true else false) fun p11 => bnd (x_get K (1 : Int32) sz d) fun g12 => bnd (x_scan K p11 sz g12.1 g12.2) fun g13 => (K, g13)) else if o = (45 : Int32) then (bnd (α := Bool) (if o = (45 : Int32) then true else false) fun p14 => bnd (x_get K (1 : Int32) sz d) fun g15 => bnd (x_scan K p14 sz g15.1 g15.2) fun g16 => (K, g16)) else if o = (46 : Int32) then (bnd (x_get K (0 : Int32) sz d) fun g17 => bnd (x_put K (0 : Int32) sz (lushr_ (j_reverseBytes g17.1) ((64 : Int32) - ((8 : Int32) * sz))) g17.2) fun g18 => (K, g18)) else if o = (47 : Int32) then (bnd (x_get K (0 : Int32) sz d) fun g19 => bnd (x_get K (1 : Int32) sz g19.2) fun g20 => bnd (x_mark (1 : Int32) (x_bit g19.1 ((g20.1.toInt32) &&& (((8 : Int32) * sz) - (1 : Int32)))) g20.2) fun g21 => (K, g21)) else if o = (48 : Int32) then (bnd (x_exchangeAdd K sz d) fun g22 => (K, g22)) else if o = (49 : Int32) then (bnd (x_compareExchange K sz d) fun g23 => (K, g23)) else (K, d)
abbrev rm_X2_others : Room := { frames := 6, cells := 0, slots := 0, locals := 152 }
set_option maxHeartbeats 4000000 in
set_option maxRecDepth 100000 in
theorem m_X2_others {l : Launch} {D : va_G} {ad : Nat → Nat} {ca : Nat → ClassId} (hI : xInj ad) {K : XK} {d : XD} (o : Int32) (sz : Int32) (RES : (XK × XD)) (hr : RES = x_others K o sz d) (hgd : XGd K) (hio : XIO d) : g_U l yX2_others (ws_ yX2_others cX2_others 5 none) rm_X2_others [.ref (ad 4), .int o, .int sz] (xKp D ca) (xB D ad ca K d) none (xB D ad ca RES.1 RES.2) (xA ad) := by
  refine g_ofU (by decide) (Nat.le_of_ble_eq_true rfl) ?_
  intro p e s m args below meth c ls Q hF hB hKp hl hQ
  obtain ⟨hx, hb, -, -, hml, hown, hts⟩ := id hF
  have hown : s.vm.findClass RX2 = some m.cls := hown
  have hC : CallFix p m c cX2_others 5 s args lw_all RX2 := ⟨hx, hb, hml, hown, hts⟩
  obtain ⟨hK, hN⟩ := id hKp
  have hP : va_P D xcl (XW ad ca K d) s.heap := hB
  have hS : va_S (xA ad) s.heap s.heap [] := va_S.rf
  have hl : lv_has ls 5 [(0, .ref (ad 4)), (1, .int o), (2, .int sz)] := hl
  unfold x_others at hr
  refine lv_iload_n hx hb dX2_others_0 rfl (lv_at hl 1 rfl) ?_
  by_cases c_1_37 : o = (37 : Int32)
  · replace hr := hr.trans (if_pos c_1_37)
    refine lv_tableIn (off := 67) (tgt := 68) hx hb dX2_others_1 (by rw [c_1_37]; decide) (by rw [c_1_37]; decide) (by rw [c_1_37]; rfl) (by decide) ?_
    refine lv_aload_n hx hb dX2_others_68 rfl (lv_at hl 0 rfl) ?_
    refine lv_iconst (v := (2 : Int32)) hx hb dX2_others_69 ic_2 ?_
    refine lv_iload_n hx hb dX2_others_70 rfl (lv_at hl 2 rfl) ?_
    refine lv_aload_n hx hb dX2_others_71 rfl (lv_at hl 0 rfl) ?_
    refine xg_4_4 hx hb hts hown hK hP (hts _ q233) dX2_others_72 ?_
    refine lv_iconst (v := (0 : Int32)) hx hb dX2_others_75 ic_0 ?_
    refine xl_12 hx hb hK hP (show ¬ ((0 : Int32) < 0 ∨ 16 ≤ (0 : Int32).toNatClampNeg) by decide) dX2_others_76 ?_
    refine lv_iload_n hx hb dX2_others_77 rfl (lv_at hl 2 rfl) ?_
    refine g_RS (As := [.long ((dx_r d) (0 : Int32).toNatClampNeg), .int sz]) (rest := [.int sz, .int (2 : Int32), .ref (ad 4)]) hC (m_X2_isNegative ((dx_r d) (0 : Int32).toNatClampNeg) sz _ rfl) (va_cwS 2 hts cw_X2_129 rfl rfl rfl hd_X2_isNegative ⟨Nat.le_of_ble_eq_true rfl, Nat.le_of_ble_eq_true rfl⟩) g_Kst0 trivial trivial ⟨Nat.zero_le _, Nat.zero_le _⟩ rfl hl.1 rfl (Nat.le_of_ble_eq_true rfl) dX2_others_78 ?_
    refine lv_if_eq (tgt := 90) hx hb dX2_others_81 (by decide) (fun c_81 => ?_) (fun c_81 => ?_)
    · replace hr := hr.trans (if_pos c_81)
      refine lv_lconst (v := (0 : Int64)) hx hb dX2_others_90 lc_0 ?_
      obtain ⟨g1, eg1⟩ : ∃ z, z = x_setRegister (2 : Int32) sz (0 : Int64) d := ⟨_, rfl⟩
      replace hr := hr.trans (bnd_eq eg1)
      refine g_UV0 (As := [.int (2 : Int32), .int sz, .long (0 : Int64)]) (rest := []) hC (m_X2_setRegister hI (K := K) (d := d) (2 : Int32) sz (0 : Int64) g1 eg1 (show ¬ ((2 : Int32) < 0 ∨ 16 ≤ (2 : Int32).toNatClampNeg) by decide)) (cwV 3 hts cw_X2_118 rfl rfl rfl hd_X2_setRegister ⟨Nat.le_of_ble_eq_true rfl, Nat.le_of_ble_eq_true rfl⟩) xKst (va_recv hK hP (ci := 2) (q0 := 4) rfl rfl) hP hKp ⟨Nat.zero_le _, Nat.zero_le _⟩ hS (fun _ h => h) rfl hl.1 rfl (Nat.le_of_ble_eq_true rfl) dX2_others_91 (fun H locs hP hS => ?_)
      have hP : va_P D xcl (XW ad ca K g1) H := hP
      refine lv_goto (tgt := 302) hx hb dX2_others_94 (by decide) ?_
      exact g_endUv (Pic := (fun u => xB D ad ca u.1 u.2)) (u := (K, g1)) hF hQ hr hP hS dX2_others_302
    · replace hr := hr.trans (if_neg c_81)
      refine lv_ldc2 hx hb hown (hts _ q432) dX2_others_84 ?_
      refine lv_goto (tgt := 91) hx hb dX2_others_87 (by decide) ?_
      obtain ⟨g2, eg2⟩ : ∃ z, z = x_setRegister (2 : Int32) sz (-1 : Int64) d := ⟨_, rfl⟩
      replace hr := hr.trans (bnd_eq eg2)
      refine g_UV0 (As := [.int (2 : Int32), .int sz, .long (-1 : Int64)]) (rest := []) hC (m_X2_setRegister hI (K := K) (d := d) (2 : Int32) sz (-1 : Int64) g2 eg2 (show ¬ ((2 : Int32) < 0 ∨ 16 ≤ (2 : Int32).toNatClampNeg) by decide)) (cwV 3 hts cw_X2_118 rfl rfl rfl hd_X2_setRegister ⟨Nat.le_of_ble_eq_true rfl, Nat.le_of_ble_eq_true rfl⟩) xKst (va_recv hK hP (ci := 2) (q0 := 4) rfl rfl) hP hKp ⟨Nat.zero_le _, Nat.zero_le _⟩ hS (fun _ h => h) rfl hl.1 rfl (Nat.le_of_ble_eq_true rfl) dX2_others_91 (fun H locs hP hS => ?_)
      have hP : va_P D xcl (XW ad ca K g2) H := hP
      refine lv_goto (tgt := 302) hx hb dX2_others_94 (by decide) ?_
      exact g_endUv (Pic := (fun u => xB D ad ca u.1 u.2)) (u := (K, g2)) hF hQ hr hP hS dX2_others_302
  · replace hr := hr.trans (if_neg c_1_37)
    by_cases c_1_38 : o = (38 : Int32)
    · replace hr := hr.trans (if_pos c_1_38)
      refine lv_tableIn (off := 96) (tgt := 97) hx hb dX2_others_1 (by rw [c_1_38]; decide) (by rw [c_1_38]; decide) (by rw [c_1_38]; rfl) (by decide) ?_
      refine lv_aload_n hx hb dX2_others_97 rfl (lv_at hl 0 rfl) ?_
      refine lv_iconst (v := (0 : Int32)) hx hb dX2_others_98 ic_0 ?_
      refine lv_iload_n hx hb dX2_others_99 rfl (lv_at hl 2 rfl) ?_
      refine lv_iload_n hx hb dX2_others_100 rfl (lv_at hl 2 rfl) ?_
      refine lv_iconst (v := (4 : Int32)) hx hb dX2_others_101 ic_4 ?_
      refine lv_icmp_ne (tgt := 117) hx hb dX2_others_102 (by decide) (fun c_102 => ?_) (fun c_102 => ?_)
      · replace hr := hr.trans (if_neg c_102)
        refine lv_aload_n hx hb dX2_others_117 rfl (lv_at hl 0 rfl) ?_
        refine xg_4_4 hx hb hts hown hK hP (hts _ q233) dX2_others_118 ?_
        refine lv_iconst (v := (0 : Int32)) hx hb dX2_others_121 ic_0 ?_
        refine xl_12 hx hb hK hP (show ¬ ((0 : Int32) < 0 ∨ 16 ≤ (0 : Int32).toNatClampNeg) by decide) dX2_others_122 ?_
        refine lv_l2i (v := ((dx_r d) (0 : Int32).toNatClampNeg).toInt32) hx hb dX2_others_123 rfl ?_
        refine lv_i2l (v := (((dx_r d) (0 : Int32).toNatClampNeg).toInt32).toInt64) hx hb dX2_others_124 rfl ?_
        obtain ⟨g3, eg3⟩ : ∃ z, z = x_setRegister (0 : Int32) sz ((((dx_r d) (0 : Int32).toNatClampNeg).toInt32).toInt64) d := ⟨_, rfl⟩
        replace hr := hr.trans (bnd_eq eg3)
        refine g_UV0 (As := [.int (0 : Int32), .int sz, .long ((((dx_r d) (0 : Int32).toNatClampNeg).toInt32).toInt64)]) (rest := []) hC (m_X2_setRegister hI (K := K) (d := d) (0 : Int32) sz ((((dx_r d) (0 : Int32).toNatClampNeg).toInt32).toInt64) g3 eg3 (show ¬ ((0 : Int32) < 0 ∨ 16 ≤ (0 : Int32).toNatClampNeg) by decide)) (cwV 3 hts cw_X2_118 rfl rfl rfl hd_X2_setRegister ⟨Nat.le_of_ble_eq_true rfl, Nat.le_of_ble_eq_true rfl⟩) xKst (va_recv hK hP (ci := 2) (q0 := 4) rfl rfl) hP hKp ⟨Nat.zero_le _, Nat.zero_le _⟩ hS (fun _ h => h) rfl hl.1 rfl (Nat.le_of_ble_eq_true rfl) dX2_others_125 (fun H locs hP hS => ?_)
        have hP : va_P D xcl (XW ad ca K g3) H := hP
        refine lv_goto (tgt := 302) hx hb dX2_others_128 (by decide) ?_
        exact g_endUv (Pic := (fun u => xB D ad ca u.1 u.2)) (u := (K, g3)) hF hQ hr hP hS dX2_others_302
      · replace hr := hr.trans (if_pos c_102)
        refine lv_aload_n hx hb dX2_others_105 rfl (lv_at hl 0 rfl) ?_
        refine xg_4_4 hx hb hts hown hK hP (hts _ q233) dX2_others_106 ?_
        refine lv_iconst (v := (0 : Int32)) hx hb dX2_others_109 ic_0 ?_
        refine xl_12 hx hb hK hP (show ¬ ((0 : Int32) < 0 ∨ 16 ≤ (0 : Int32).toNatClampNeg) by decide) dX2_others_110 ?_
        refine lv_l2i (v := ((dx_r d) (0 : Int32).toNatClampNeg).toInt32) hx hb dX2_others_111 rfl ?_
        refine lv_i2s (v := (((dx_r d) (0 : Int32).toNatClampNeg).toInt32).toInt16.toInt32) hx hb dX2_others_112 rfl ?_
        refine lv_i2l (v := ((((dx_r d) (0 : Int32).toNatClampNeg).toInt32).toInt16.toInt32).toInt64) hx hb dX2_others_113 rfl ?_
        refine lv_goto (tgt := 125) hx hb dX2_others_114 (by decide) ?_
        obtain ⟨g4, eg4⟩ : ∃ z, z = x_setRegister (0 : Int32) sz (((((dx_r d) (0 : Int32).toNatClampNeg).toInt32).toInt16.toInt32).toInt64) d := ⟨_, rfl⟩
        replace hr := hr.trans (bnd_eq eg4)
        refine g_UV0 (As := [.int (0 : Int32), .int sz, .long (((((dx_r d) (0 : Int32).toNatClampNeg).toInt32).toInt16.toInt32).toInt64)]) (rest := []) hC (m_X2_setRegister hI (K := K) (d := d) (0 : Int32) sz (((((dx_r d) (0 : Int32).toNatClampNeg).toInt32).toInt16.toInt32).toInt64) g4 eg4 (show ¬ ((0 : Int32) < 0 ∨ 16 ≤ (0 : Int32).toNatClampNeg) by decide)) (cwV 3 hts cw_X2_118 rfl rfl rfl hd_X2_setRegister ⟨Nat.le_of_ble_eq_true rfl, Nat.le_of_ble_eq_true rfl⟩) xKst (va_recv hK hP (ci := 2) (q0 := 4) rfl rfl) hP hKp ⟨Nat.zero_le _, Nat.zero_le _⟩ hS (fun _ h => h) rfl hl.1 rfl (Nat.le_of_ble_eq_true rfl) dX2_others_125 (fun H locs hP hS => ?_)
        have hP : va_P D xcl (XW ad ca K g4) H := hP
        refine lv_goto (tgt := 302) hx hb dX2_others_128 (by decide) ?_
        exact g_endUv (Pic := (fun u => xB D ad ca u.1 u.2)) (u := (K, g4)) hF hQ hr hP hS dX2_others_302
    · replace hr := hr.trans (if_neg c_1_38)
      by_cases c_1_39 : o = (39 : Int32)
      · replace hr := hr.trans (if_pos c_1_39)
        refine lv_tableIn (off := 301) (tgt := 302) hx hb dX2_others_1 (by rw [c_1_39]; decide) (by rw [c_1_39]; decide) (by rw [c_1_39]; rfl) (by decide) ?_
        exact g_endUv (Pic := (fun u => xB D ad ca u.1 u.2)) (u := (K, d)) hF hQ hr hP hS dX2_others_302
      · replace hr := hr.trans (if_neg c_1_39)
        by_cases c_1_40 : o = (40 : Int32)
        · replace hr := hr.trans (if_pos c_1_40)
          refine lv_tableIn (off := 130) (tgt := 131) hx hb dX2_others_1 (by rw [c_1_40]; decide) (by rw [c_1_40]; decide) (by rw [c_1_40]; rfl) (by decide) ?_
          refine lv_aload_n hx hb dX2_others_131 rfl (lv_at hl 0 rfl) ?_
          refine lv_bipush (v := (6 : Int32)) hx hb dX2_others_132 bp_6 ?_
          refine lv_lconst (v := (0 : Int64)) hx hb dX2_others_134 lc_0 ?_
          obtain ⟨g5, eg5⟩ : ∃ z, z = x_fail (6 : Int32) (0 : Int64) d := ⟨_, rfl⟩
          replace hr := hr.trans (bnd_eq eg5)
          refine g_UV0 (As := [.int (6 : Int32), .long (0 : Int64)]) (rest := []) hC (m_X2_fail hI (K := K) (d := d) (6 : Int32) (0 : Int64) g5 eg5) (cwV 2 hts cw_X2_85 rfl rfl rfl hd_X2_fail ⟨Nat.le_of_ble_eq_true rfl, Nat.le_of_ble_eq_true rfl⟩) xKst (va_recv hK hP (ci := 2) (q0 := 4) rfl rfl) hP hKp ⟨Nat.zero_le _, Nat.zero_le _⟩ hS (fun _ h => h) rfl hl.1 rfl (Nat.le_of_ble_eq_true rfl) dX2_others_135 (fun H locs hP hS => ?_)
          have hP : va_P D xcl (XW ad ca K g5) H := hP
          refine lv_goto (tgt := 302) hx hb dX2_others_138 (by decide) ?_
          exact g_endUv (Pic := (fun u => xB D ad ca u.1 u.2)) (u := (K, g5)) hF hQ hr hP hS dX2_others_302
        · replace hr := hr.trans (if_neg c_1_40)
          by_cases c_1_41 : o = (41 : Int32)
          · replace hr := hr.trans (if_pos c_1_41)
            refine lv_tableIn (off := 140) (tgt := 141) hx hb dX2_others_1 (by rw [c_1_41]; decide) (by rw [c_1_41]; decide) (by rw [c_1_41]; rfl) (by decide) ?_
            refine lv_aload_n hx hb dX2_others_141 rfl (lv_at hl 0 rfl) ?_
            refine lv_iconst (v := (2 : Int32)) hx hb dX2_others_142 ic_2 ?_
            refine lv_lconst (v := (0 : Int64)) hx hb dX2_others_143 lc_0 ?_
            obtain ⟨g6, eg6⟩ : ∃ z, z = x_fail (2 : Int32) (0 : Int64) d := ⟨_, rfl⟩
            replace hr := hr.trans (bnd_eq eg6)
            refine g_UV0 (As := [.int (2 : Int32), .long (0 : Int64)]) (rest := []) hC (m_X2_fail hI (K := K) (d := d) (2 : Int32) (0 : Int64) g6 eg6) (cwV 2 hts cw_X2_85 rfl rfl rfl hd_X2_fail ⟨Nat.le_of_ble_eq_true rfl, Nat.le_of_ble_eq_true rfl⟩) xKst (va_recv hK hP (ci := 2) (q0 := 4) rfl rfl) hP hKp ⟨Nat.zero_le _, Nat.zero_le _⟩ hS (fun _ h => h) rfl hl.1 rfl (Nat.le_of_ble_eq_true rfl) dX2_others_144 (fun H locs hP hS => ?_)
            have hP : va_P D xcl (XW ad ca K g6) H := hP
            refine lv_goto (tgt := 302) hx hb dX2_others_147 (by decide) ?_
            exact g_endUv (Pic := (fun u => xB D ad ca u.1 u.2)) (u := (K, g6)) hF hQ hr hP hS dX2_others_302
          · replace hr := hr.trans (if_neg c_1_41)
            by_cases c_1_42 : o = (42 : Int32)
            · replace hr := hr.trans (if_pos c_1_42)
              refine lv_tableIn (off := 149) (tgt := 150) hx hb dX2_others_1 (by rw [c_1_42]; decide) (by rw [c_1_42]; decide) (by rw [c_1_42]; rfl) (by decide) ?_
              refine lv_aload_n hx hb dX2_others_150 rfl (lv_at hl 0 rfl) ?_
              obtain ⟨g7, eg7⟩ : ∃ z, z = x_serve K d := ⟨_, rfl⟩
              replace hr := hr.trans (bnd_eq eg7)
              refine g_UV0 (As := []) (rest := []) hC (m_X2_serve hI (K := K) (d := d)  g7 eg7 hgd hio) (cwV 0 hts cw_X2_250 rfl rfl rfl hd_X2_serve ⟨Nat.le_of_ble_eq_true rfl, Nat.le_of_ble_eq_true rfl⟩) xKst (va_recv hK hP (ci := 2) (q0 := 4) rfl rfl) hP hKp ⟨Nat.zero_le _, Nat.zero_le _⟩ hS (fun _ h => h) rfl hl.1 rfl (Nat.le_of_ble_eq_true rfl) dX2_others_151 (fun H locs hP hS => ?_)
              have hP : va_P D xcl (XW ad ca g7.1 g7.2) H := hP
              refine lv_goto (tgt := 302) hx hb dX2_others_154 (by decide) ?_
              exact g_endUv (Pic := (fun u => xB D ad ca u.1 u.2)) (u := (g7.1, g7.2)) hF hQ hr hP hS dX2_others_302
            · replace hr := hr.trans (if_neg c_1_42)
              by_cases c_1_43 : o = (43 : Int32)
              · replace hr := hr.trans (if_pos c_1_43)
                refine lv_tableIn (off := 156) (tgt := 157) hx hb dX2_others_1 (by rw [c_1_43]; decide) (by rw [c_1_43]; decide) (by rw [c_1_43]; rfl) (by decide) ?_
                refine lv_aload_n hx hb dX2_others_157 rfl (lv_at hl 0 rfl) ?_
                refine lv_aload_n hx hb dX2_others_158 rfl (lv_at hl 0 rfl) ?_
                refine xg_4_4 hx hb hts hown hK hP (hts _ q233) dX2_others_159 ?_
                refine lv_iconst (v := (5 : Int32)) hx hb dX2_others_162 ic_5 ?_
                refine xl_12 hx hb hK hP (show ¬ ((5 : Int32) < 0 ∨ 16 ≤ (5 : Int32).toNatClampNeg) by decide) dX2_others_163 ?_
                refine lv_bipush (v := (8 : Int32)) hx hb dX2_others_164 bp_8 ?_
                obtain ⟨g8, eg8⟩ : ∃ z, z = x_fetch K ((dx_r d) (5 : Int32).toNatClampNeg) (8 : Int32) d := ⟨_, rfl⟩
                replace hr := hr.trans (bnd_eq eg8)
                refine g_UV1 (As := [.long ((dx_r d) (5 : Int32).toNatClampNeg), .int (8 : Int32)]) (rest := []) hC (m_X2_fetch hI (K := K) (d := d) ((dx_r d) (5 : Int32).toNatClampNeg) (8 : Int32) g8 eg8 hgd.1) (cwV 2 hts cw_X2_101 rfl rfl rfl hd_X2_fetch ⟨Nat.le_of_ble_eq_true rfl, Nat.le_of_ble_eq_true rfl⟩) xKst (va_recv hK hP (ci := 2) (q0 := 4) rfl rfl) hP hKp ⟨Nat.zero_le _, Nat.zero_le _⟩ hS (fun _ h => h) rfl hl.1 rfl (Nat.le_of_ble_eq_true rfl) dX2_others_166 (fun H locs hP hS => ?_)
                have hP : va_P D xcl (XW ad ca K g8.2) H := hP
                refine lv_lstore_n (lv' := [(3, .long g8.1), (0, .ref (ad 4)), (1, .int o), (2, .int sz)]) hx hb dX2_others_169 rfl hl (by decide) rfl (fun ls hl => ?_)
                refine lv_aload_n hx hb dX2_others_170 rfl (lv_at hl 1 rfl) ?_
                refine xg_4_9 hx hb hts hown hK hP (hts _ q242) dX2_others_171 ?_
                refine lv_if_eq (tgt := 178) hx hb dX2_others_174 (by decide) (fun c_174 => ?_) (fun c_174 => ?_)
                · replace hr := hr.trans (if_pos c_174)
                  refine lv_aload_n hx hb dX2_others_178 rfl (lv_at hl 1 rfl) ?_
                  refine xg_4_4 hx hb hts hown hK hP (hts _ q233) dX2_others_179 ?_
                  refine lv_iconst (v := (4 : Int32)) hx hb dX2_others_182 ic_4 ?_
                  refine lv_aload_n hx hb dX2_others_183 rfl (lv_at hl 1 rfl) ?_
                  refine xg_4_4 hx hb hts hown hK hP (hts _ q233) dX2_others_184 ?_
                  refine lv_iconst (v := (5 : Int32)) hx hb dX2_others_187 ic_5 ?_
                  refine xl_12 hx hb hK hP (show ¬ ((5 : Int32) < 0 ∨ 16 ≤ (5 : Int32).toNatClampNeg) by decide) dX2_others_188 ?_
                  refine lv_ldc2 hx hb hown (hts _ q531) dX2_others_189 ?_
                  refine lv_ladd hx hb dX2_others_192 ?_
                  refine xs_12 hx hb hK hI hP hS (show ¬ ((4 : Int32) < 0 ∨ 16 ≤ (4 : Int32).toNatClampNeg) by decide) dX2_others_193 (fun d9 ed9 H locs hP hS => ?_)
                  replace hr := hr.trans (bnd_eq ed9)
                  refine lv_aload_n hx hb dX2_others_194 rfl (lv_at hl 1 rfl) ?_
                  refine xg_4_4 hx hb hts hown hK hP (hts _ q233) dX2_others_195 ?_
                  refine lv_iconst (v := (5 : Int32)) hx hb dX2_others_198 ic_5 ?_
                  refine lv_lload_n hx hb dX2_others_199 rfl (lv_at hl 0 rfl) ?_
                  refine xs_12 hx hb hK hI hP hS (show ¬ ((5 : Int32) < 0 ∨ 16 ≤ (5 : Int32).toNatClampNeg) by decide) dX2_others_200 (fun d10 ed10 H locs hP hS => ?_)
                  replace hr := hr.trans (bnd_eq ed10)
                  refine lv_goto (tgt := 302) hx hb dX2_others_201 (by decide) ?_
                  exact g_endUv (Pic := (fun u => xB D ad ca u.1 u.2)) (u := (K, d10)) hF hQ hr hP hS dX2_others_302
                · replace hr := hr.trans (if_neg c_174)
                  exact g_endUv (Pic := (fun u => xB D ad ca u.1 u.2)) (u := (K, g8.2)) hF hQ hr hP hS dX2_others_177
              · replace hr := hr.trans (if_neg c_1_43)
                by_cases c_1_44 : o = (44 : Int32)
                · replace hr := hr.trans (if_pos c_1_44)
                  refine lv_tableIn (off := 203) (tgt := 204) hx hb dX2_others_1 (by rw [c_1_44]; decide) (by rw [c_1_44]; decide) (by rw [c_1_44]; rfl) (by decide) ?_
                  refine lv_aload_n hx hb dX2_others_204 rfl (lv_at hl 0 rfl) ?_
                  refine lv_iload_n hx hb dX2_others_205 rfl (lv_at hl 1 rfl) ?_
                  refine lv_bipush (v := (45 : Int32)) hx hb dX2_others_206 bp_45 ?_
                  obtain ⟨p11, ep11⟩ : ∃ z : Bool, z = (if o = (45 : Int32) then true else false) := ⟨_, rfl⟩
                  replace hr := hr.trans (bnd_eq ep11)
                  have kp11 : ∀ (H : Heap) (locs : List Loc) (ls : Array Slot), va_P D xcl (XW ad ca K d) H → va_S (xA ad) s.heap H locs → lv_has ls 5 [(0, .ref (ad 4)), (1, .int o), (2, .int sz)] → W p l e rm_X2_others s m args below meth c H locs 0 0 Q (F0 m 216 ls [.int (b2i p11), .ref (ad 4)]) := by
                    intro H locs ls hP hS hl
                    refine lv_iload_n hx hb dX2_others_216 rfl (lv_at hl 2 rfl) ?_
                    refine lv_aload_n hx hb dX2_others_217 rfl (lv_at hl 0 rfl) ?_
                    refine lv_iconst (v := (1 : Int32)) hx hb dX2_others_218 ic_1 ?_
                    refine lv_iload_n hx hb dX2_others_219 rfl (lv_at hl 2 rfl) ?_
                    obtain ⟨g12, eg12⟩ : ∃ z, z = x_get K (1 : Int32) sz d := ⟨_, rfl⟩
                    replace hr := hr.trans (bnd_eq eg12)
                    refine g_UV1 (As := [.int (1 : Int32), .int sz]) (rest := [.int sz, .int (b2i p11), .ref (ad 4)]) hC (m_X2_get hI (K := K) (d := d) (1 : Int32) sz g12 eg12 (show ¬ ((1 : Int32) < 0 ∨ 3 ≤ (1 : Int32).toNatClampNeg) by decide) hgd) (cwV 2 hts cw_X2_160 rfl rfl rfl hd_X2_get ⟨Nat.le_of_ble_eq_true rfl, Nat.le_of_ble_eq_true rfl⟩) xKst (va_recv hK hP (ci := 2) (q0 := 4) rfl rfl) hP hKp ⟨Nat.zero_le _, Nat.zero_le _⟩ hS (fun _ h => h) rfl hl.1 rfl (Nat.le_of_ble_eq_true rfl) dX2_others_220 (fun H locs hP hS => ?_)
                    have hP : va_P D xcl (XW ad ca K g12.2) H := hP
                    obtain ⟨g13, eg13⟩ : ∃ z, z = x_scan K p11 sz g12.1 g12.2 := ⟨_, rfl⟩
                    replace hr := hr.trans (bnd_eq eg13)
                    refine g_UV0 (As := [.int (b2i p11), .int sz, .long g12.1]) (rest := []) hC (m_X2_scan hI (K := K) (d := g12.2) p11 sz g12.1 g13 eg13 hgd) (cwV 3 hts cw_X2_253 rfl rfl rfl hd_X2_scan ⟨Nat.le_of_ble_eq_true rfl, Nat.le_of_ble_eq_true rfl⟩) xKst (va_recv hK hP (ci := 2) (q0 := 4) rfl rfl) hP hKp ⟨Nat.zero_le _, Nat.zero_le _⟩ hS (fun _ h => h) rfl hl.1 rfl (Nat.le_of_ble_eq_true rfl) dX2_others_223 (fun H locs hP hS => ?_)
                    have hP : va_P D xcl (XW ad ca K g13) H := hP
                    refine lv_goto (tgt := 302) hx hb dX2_others_226 (by decide) ?_
                    exact g_endUv (Pic := (fun u => xB D ad ca u.1 u.2)) (u := (K, g13)) hF hQ hr hP hS dX2_others_302
                  replace hr := ep11
                  refine lv_icmp_ne (tgt := 215) hx hb dX2_others_208 (by decide) (fun c_208 => ?_) (fun c_208 => ?_)
                  · replace hr := hr.trans (if_neg c_208)
                    refine lv_iconst (v := (0 : Int32)) hx hb dX2_others_215 ic_0 ?_
                    subst hr
                    exact kp11 _ _ ls hP hS (lv_sub hl [0, 1, 2] rfl)
                  · replace hr := hr.trans (if_pos c_208)
                    refine lv_iconst (v := (1 : Int32)) hx hb dX2_others_211 ic_1 ?_
                    refine lv_goto (tgt := 216) hx hb dX2_others_212 (by decide) ?_
                    subst hr
                    exact kp11 _ _ ls hP hS (lv_sub hl [0, 1, 2] rfl)
                · replace hr := hr.trans (if_neg c_1_44)
                  by_cases c_1_45 : o = (45 : Int32)
                  · replace hr := hr.trans (if_pos c_1_45)
                    refine lv_tableIn (off := 203) (tgt := 204) hx hb dX2_others_1 (by rw [c_1_45]; decide) (by rw [c_1_45]; decide) (by rw [c_1_45]; rfl) (by decide) ?_
                    refine lv_aload_n hx hb dX2_others_204 rfl (lv_at hl 0 rfl) ?_
                    refine lv_iload_n hx hb dX2_others_205 rfl (lv_at hl 1 rfl) ?_
                    refine lv_bipush (v := (45 : Int32)) hx hb dX2_others_206 bp_45 ?_
                    obtain ⟨p14, ep14⟩ : ∃ z : Bool, z = (if o = (45 : Int32) then true else false) := ⟨_, rfl⟩
                    replace hr := hr.trans (bnd_eq ep14)
                    have kp14 : ∀ (H : Heap) (locs : List Loc) (ls : Array Slot), va_P D xcl (XW ad ca K d) H → va_S (xA ad) s.heap H locs → lv_has ls 5 [(0, .ref (ad 4)), (1, .int o), (2, .int sz)] → W p l e rm_X2_others s m args below meth c H locs 0 0 Q (F0 m 216 ls [.int (b2i p14), .ref (ad 4)]) := by
                      intro H locs ls hP hS hl
                      refine lv_iload_n hx hb dX2_others_216 rfl (lv_at hl 2 rfl) ?_
                      refine lv_aload_n hx hb dX2_others_217 rfl (lv_at hl 0 rfl) ?_
                      refine lv_iconst (v := (1 : Int32)) hx hb dX2_others_218 ic_1 ?_
                      refine lv_iload_n hx hb dX2_others_219 rfl (lv_at hl 2 rfl) ?_
                      obtain ⟨g15, eg15⟩ : ∃ z, z = x_get K (1 : Int32) sz d := ⟨_, rfl⟩
                      replace hr := hr.trans (bnd_eq eg15)
                      refine g_UV1 (As := [.int (1 : Int32), .int sz]) (rest := [.int sz, .int (b2i p14), .ref (ad 4)]) hC (m_X2_get hI (K := K) (d := d) (1 : Int32) sz g15 eg15 (show ¬ ((1 : Int32) < 0 ∨ 3 ≤ (1 : Int32).toNatClampNeg) by decide) hgd) (cwV 2 hts cw_X2_160 rfl rfl rfl hd_X2_get ⟨Nat.le_of_ble_eq_true rfl, Nat.le_of_ble_eq_true rfl⟩) xKst (va_recv hK hP (ci := 2) (q0 := 4) rfl rfl) hP hKp ⟨Nat.zero_le _, Nat.zero_le _⟩ hS (fun _ h => h) rfl hl.1 rfl (Nat.le_of_ble_eq_true rfl) dX2_others_220 (fun H locs hP hS => ?_)
                      have hP : va_P D xcl (XW ad ca K g15.2) H := hP
                      obtain ⟨g16, eg16⟩ : ∃ z, z = x_scan K p14 sz g15.1 g15.2 := ⟨_, rfl⟩
                      replace hr := hr.trans (bnd_eq eg16)
                      refine g_UV0 (As := [.int (b2i p14), .int sz, .long g15.1]) (rest := []) hC (m_X2_scan hI (K := K) (d := g15.2) p14 sz g15.1 g16 eg16 hgd) (cwV 3 hts cw_X2_253 rfl rfl rfl hd_X2_scan ⟨Nat.le_of_ble_eq_true rfl, Nat.le_of_ble_eq_true rfl⟩) xKst (va_recv hK hP (ci := 2) (q0 := 4) rfl rfl) hP hKp ⟨Nat.zero_le _, Nat.zero_le _⟩ hS (fun _ h => h) rfl hl.1 rfl (Nat.le_of_ble_eq_true rfl) dX2_others_223 (fun H locs hP hS => ?_)
                      have hP : va_P D xcl (XW ad ca K g16) H := hP
                      refine lv_goto (tgt := 302) hx hb dX2_others_226 (by decide) ?_
                      exact g_endUv (Pic := (fun u => xB D ad ca u.1 u.2)) (u := (K, g16)) hF hQ hr hP hS dX2_others_302
                    replace hr := ep14
                    refine lv_icmp_ne (tgt := 215) hx hb dX2_others_208 (by decide) (fun c_208 => ?_) (fun c_208 => ?_)
                    · replace hr := hr.trans (if_neg c_208)
                      refine lv_iconst (v := (0 : Int32)) hx hb dX2_others_215 ic_0 ?_
                      subst hr
                      exact kp14 _ _ ls hP hS (lv_sub hl [0, 1, 2] rfl)
                    · replace hr := hr.trans (if_pos c_208)
                      refine lv_iconst (v := (1 : Int32)) hx hb dX2_others_211 ic_1 ?_
                      refine lv_goto (tgt := 216) hx hb dX2_others_212 (by decide) ?_
                      subst hr
                      exact kp14 _ _ ls hP hS (lv_sub hl [0, 1, 2] rfl)
                  · replace hr := hr.trans (if_neg c_1_45)
                    by_cases c_1_46 : o = (46 : Int32)
                    · replace hr := hr.trans (if_pos c_1_46)
                      refine lv_tableIn (off := 228) (tgt := 229) hx hb dX2_others_1 (by rw [c_1_46]; decide) (by rw [c_1_46]; decide) (by rw [c_1_46]; rfl) (by decide) ?_
                      refine lv_aload_n hx hb dX2_others_229 rfl (lv_at hl 0 rfl) ?_
                      refine lv_iconst (v := (0 : Int32)) hx hb dX2_others_230 ic_0 ?_
                      refine lv_iload_n hx hb dX2_others_231 rfl (lv_at hl 2 rfl) ?_
                      refine lv_aload_n hx hb dX2_others_232 rfl (lv_at hl 0 rfl) ?_
                      refine lv_iconst (v := (0 : Int32)) hx hb dX2_others_233 ic_0 ?_
                      refine lv_iload_n hx hb dX2_others_234 rfl (lv_at hl 2 rfl) ?_
                      obtain ⟨g17, eg17⟩ : ∃ z, z = x_get K (0 : Int32) sz d := ⟨_, rfl⟩
                      replace hr := hr.trans (bnd_eq eg17)
                      refine g_UV1 (As := [.int (0 : Int32), .int sz]) (rest := [.int sz, .int (0 : Int32), .ref (ad 4)]) hC (m_X2_get hI (K := K) (d := d) (0 : Int32) sz g17 eg17 (show ¬ ((0 : Int32) < 0 ∨ 3 ≤ (0 : Int32).toNatClampNeg) by decide) hgd) (cwV 2 hts cw_X2_160 rfl rfl rfl hd_X2_get ⟨Nat.le_of_ble_eq_true rfl, Nat.le_of_ble_eq_true rfl⟩) xKst (va_recv hK hP (ci := 2) (q0 := 4) rfl rfl) hP hKp ⟨Nat.zero_le _, Nat.zero_le _⟩ hS (fun _ h => h) rfl hl.1 rfl (Nat.le_of_ble_eq_true rfl) dX2_others_235 (fun H locs hP hS => ?_)
                      have hP : va_P D xcl (XW ad ca K g17.2) H := hP
                      refine g_RS (As := [.long g17.1]) (rest := [.int sz, .int (0 : Int32), .ref (ad 4)]) hC (m_J0_reverseBytes g17.1 _ rfl) (va_cwS 1 hts cw_X2_256 rfl rfl rfl hd_J0_reverseBytes ⟨Nat.le_of_ble_eq_true rfl, Nat.le_of_ble_eq_true rfl⟩) g_Kst0 trivial trivial ⟨Nat.zero_le _, Nat.zero_le _⟩ rfl hl.1 rfl (Nat.le_of_ble_eq_true rfl) dX2_others_238 ?_
                      refine lv_bipush (v := (64 : Int32)) hx hb dX2_others_241 bp_64 ?_
                      refine lv_bipush (v := (8 : Int32)) hx hb dX2_others_243 bp_8 ?_
                      refine lv_iload_n hx hb dX2_others_245 rfl (lv_at hl 2 rfl) ?_
                      refine lv_imul hx hb dX2_others_246 ?_
                      refine lv_isub hx hb dX2_others_247 ?_
                      refine lv_lushr (v := (lushr_ (j_reverseBytes g17.1) ((64 : Int32) - ((8 : Int32) * sz)))) hx hb dX2_others_248 rfl ?_
                      obtain ⟨g18, eg18⟩ : ∃ z, z = x_put K (0 : Int32) sz (lushr_ (j_reverseBytes g17.1) ((64 : Int32) - ((8 : Int32) * sz))) g17.2 := ⟨_, rfl⟩
                      replace hr := hr.trans (bnd_eq eg18)
                      refine g_UV0 (As := [.int (0 : Int32), .int sz, .long (lushr_ (j_reverseBytes g17.1) ((64 : Int32) - ((8 : Int32) * sz)))]) (rest := []) hC (m_X2_put hI (K := K) (d := g17.2) (0 : Int32) sz (lushr_ (j_reverseBytes g17.1) ((64 : Int32) - ((8 : Int32) * sz))) g18 eg18 (show ¬ ((0 : Int32) < 0 ∨ 3 ≤ (0 : Int32).toNatClampNeg) by decide) hgd) (cwV 3 hts cw_X2_188 rfl rfl rfl hd_X2_put ⟨Nat.le_of_ble_eq_true rfl, Nat.le_of_ble_eq_true rfl⟩) xKst (va_recv hK hP (ci := 2) (q0 := 4) rfl rfl) hP hKp ⟨Nat.zero_le _, Nat.zero_le _⟩ hS (fun _ h => h) rfl hl.1 rfl (Nat.le_of_ble_eq_true rfl) dX2_others_249 (fun H locs hP hS => ?_)
                      have hP : va_P D xcl (XW ad ca K g18) H := hP
                      refine lv_goto (tgt := 302) hx hb dX2_others_252 (by decide) ?_
                      exact g_endUv (Pic := (fun u => xB D ad ca u.1 u.2)) (u := (K, g18)) hF hQ hr hP hS dX2_others_302
                    · replace hr := hr.trans (if_neg c_1_46)
                      by_cases c_1_47 : o = (47 : Int32)
                      · replace hr := hr.trans (if_pos c_1_47)
                        refine lv_tableIn (off := 254) (tgt := 255) hx hb dX2_others_1 (by rw [c_1_47]; decide) (by rw [c_1_47]; decide) (by rw [c_1_47]; rfl) (by decide) ?_
                        refine lv_aload_n hx hb dX2_others_255 rfl (lv_at hl 0 rfl) ?_
                        refine lv_iconst (v := (1 : Int32)) hx hb dX2_others_256 ic_1 ?_
                        refine lv_aload_n hx hb dX2_others_257 rfl (lv_at hl 0 rfl) ?_
                        refine lv_iconst (v := (0 : Int32)) hx hb dX2_others_258 ic_0 ?_
                        refine lv_iload_n hx hb dX2_others_259 rfl (lv_at hl 2 rfl) ?_
                        obtain ⟨g19, eg19⟩ : ∃ z, z = x_get K (0 : Int32) sz d := ⟨_, rfl⟩
                        replace hr := hr.trans (bnd_eq eg19)
                        refine g_UV1 (As := [.int (0 : Int32), .int sz]) (rest := [.int (1 : Int32), .ref (ad 4)]) hC (m_X2_get hI (K := K) (d := d) (0 : Int32) sz g19 eg19 (show ¬ ((0 : Int32) < 0 ∨ 3 ≤ (0 : Int32).toNatClampNeg) by decide) hgd) (cwV 2 hts cw_X2_160 rfl rfl rfl hd_X2_get ⟨Nat.le_of_ble_eq_true rfl, Nat.le_of_ble_eq_true rfl⟩) xKst (va_recv hK hP (ci := 2) (q0 := 4) rfl rfl) hP hKp ⟨Nat.zero_le _, Nat.zero_le _⟩ hS (fun _ h => h) rfl hl.1 rfl (Nat.le_of_ble_eq_true rfl) dX2_others_260 (fun H locs hP hS => ?_)
                        have hP : va_P D xcl (XW ad ca K g19.2) H := hP
                        refine lv_aload_n hx hb dX2_others_263 rfl (lv_at hl 0 rfl) ?_
                        refine lv_iconst (v := (1 : Int32)) hx hb dX2_others_264 ic_1 ?_
                        refine lv_iload_n hx hb dX2_others_265 rfl (lv_at hl 2 rfl) ?_
                        obtain ⟨g20, eg20⟩ : ∃ z, z = x_get K (1 : Int32) sz g19.2 := ⟨_, rfl⟩
                        replace hr := hr.trans (bnd_eq eg20)
                        refine g_UV1 (As := [.int (1 : Int32), .int sz]) (rest := [.long g19.1, .int (1 : Int32), .ref (ad 4)]) hC (m_X2_get hI (K := K) (d := g19.2) (1 : Int32) sz g20 eg20 (show ¬ ((1 : Int32) < 0 ∨ 3 ≤ (1 : Int32).toNatClampNeg) by decide) hgd) (cwV 2 hts cw_X2_160 rfl rfl rfl hd_X2_get ⟨Nat.le_of_ble_eq_true rfl, Nat.le_of_ble_eq_true rfl⟩) xKst (va_recv hK hP (ci := 2) (q0 := 4) rfl rfl) hP hKp ⟨Nat.zero_le _, Nat.zero_le _⟩ hS (fun _ h => h) rfl hl.1 rfl (Nat.le_of_ble_eq_true rfl) dX2_others_266 (fun H locs hP hS => ?_)
                        have hP : va_P D xcl (XW ad ca K g20.2) H := hP
                        refine lv_l2i (v := g20.1.toInt32) hx hb dX2_others_269 rfl ?_
                        refine lv_bipush (v := (8 : Int32)) hx hb dX2_others_270 bp_8 ?_
                        refine lv_iload_n hx hb dX2_others_272 rfl (lv_at hl 2 rfl) ?_
                        refine lv_imul hx hb dX2_others_273 ?_
                        refine lv_iconst (v := (1 : Int32)) hx hb dX2_others_274 ic_1 ?_
                        refine lv_isub hx hb dX2_others_275 ?_
                        refine lv_iand hx hb dX2_others_276 ?_
                        refine g_RS (As := [.long g19.1, .int ((g20.1.toInt32) &&& (((8 : Int32) * sz) - (1 : Int32)))]) (rest := [.int (1 : Int32), .ref (ad 4)]) hC (m_X2_bit g19.1 ((g20.1.toInt32) &&& (((8 : Int32) * sz) - (1 : Int32))) _ rfl) (va_cwS 2 hts cw_X2_135 rfl rfl rfl hd_X2_bit ⟨Nat.le_of_ble_eq_true rfl, Nat.le_of_ble_eq_true rfl⟩) g_Kst0 trivial trivial ⟨Nat.zero_le _, Nat.zero_le _⟩ rfl hl.1 rfl (Nat.le_of_ble_eq_true rfl) dX2_others_277 ?_
                        obtain ⟨g21, eg21⟩ : ∃ z, z = x_mark (1 : Int32) (x_bit g19.1 ((g20.1.toInt32) &&& (((8 : Int32) * sz) - (1 : Int32)))) g20.2 := ⟨_, rfl⟩
                        replace hr := hr.trans (bnd_eq eg21)
                        refine g_UV0 (As := [.int (1 : Int32), .int (b2i (x_bit g19.1 ((g20.1.toInt32) &&& (((8 : Int32) * sz) - (1 : Int32)))))]) (rest := []) hC (m_X2_mark hI (K := K) (d := g20.2) (1 : Int32) (x_bit g19.1 ((g20.1.toInt32) &&& (((8 : Int32) * sz) - (1 : Int32)))) g21 eg21) (cwV 2 hts cw_X2_125 rfl rfl rfl hd_X2_mark ⟨Nat.le_of_ble_eq_true rfl, Nat.le_of_ble_eq_true rfl⟩) xKst (va_recv hK hP (ci := 2) (q0 := 4) rfl rfl) hP hKp ⟨Nat.zero_le _, Nat.zero_le _⟩ hS (fun _ h => h) rfl hl.1 rfl (Nat.le_of_ble_eq_true rfl) dX2_others_280 (fun H locs hP hS => ?_)
                        have hP : va_P D xcl (XW ad ca K g21) H := hP
                        refine lv_goto (tgt := 302) hx hb dX2_others_283 (by decide) ?_
                        exact g_endUv (Pic := (fun u => xB D ad ca u.1 u.2)) (u := (K, g21)) hF hQ hr hP hS dX2_others_302
                      · replace hr := hr.trans (if_neg c_1_47)
                        by_cases c_1_48 : o = (48 : Int32)
                        · replace hr := hr.trans (if_pos c_1_48)
                          refine lv_tableIn (off := 285) (tgt := 286) hx hb dX2_others_1 (by rw [c_1_48]; decide) (by rw [c_1_48]; decide) (by rw [c_1_48]; rfl) (by decide) ?_
                          refine lv_aload_n hx hb dX2_others_286 rfl (lv_at hl 0 rfl) ?_
                          refine lv_iload_n hx hb dX2_others_287 rfl (lv_at hl 2 rfl) ?_
                          obtain ⟨g22, eg22⟩ : ∃ z, z = x_exchangeAdd K sz d := ⟨_, rfl⟩
                          replace hr := hr.trans (bnd_eq eg22)
                          refine g_UV0 (As := [.int sz]) (rest := []) hC (m_X2_exchangeAdd hI (K := K) (d := d) sz g22 eg22 hgd) (cwV 1 hts cw_X2_260 rfl rfl rfl hd_X2_exchangeAdd ⟨Nat.le_of_ble_eq_true rfl, Nat.le_of_ble_eq_true rfl⟩) xKst (va_recv hK hP (ci := 2) (q0 := 4) rfl rfl) hP hKp ⟨Nat.zero_le _, Nat.zero_le _⟩ hS (fun _ h => h) rfl hl.1 rfl (Nat.le_of_ble_eq_true rfl) dX2_others_288 (fun H locs hP hS => ?_)
                          have hP : va_P D xcl (XW ad ca K g22) H := hP
                          refine lv_goto (tgt := 302) hx hb dX2_others_291 (by decide) ?_
                          exact g_endUv (Pic := (fun u => xB D ad ca u.1 u.2)) (u := (K, g22)) hF hQ hr hP hS dX2_others_302
                        · replace hr := hr.trans (if_neg c_1_48)
                          by_cases c_1_49 : o = (49 : Int32)
                          · replace hr := hr.trans (if_pos c_1_49)
                            refine lv_tableIn (off := 293) (tgt := 294) hx hb dX2_others_1 (by rw [c_1_49]; decide) (by rw [c_1_49]; decide) (by rw [c_1_49]; rfl) (by decide) ?_
                            refine lv_aload_n hx hb dX2_others_294 rfl (lv_at hl 0 rfl) ?_
                            refine lv_iload_n hx hb dX2_others_295 rfl (lv_at hl 2 rfl) ?_
                            obtain ⟨g23, eg23⟩ : ∃ z, z = x_compareExchange K sz d := ⟨_, rfl⟩
                            replace hr := hr.trans (bnd_eq eg23)
                            refine g_UV0 (As := [.int sz]) (rest := []) hC (m_X2_compareExchange hI (K := K) (d := d) sz g23 eg23 hgd) (cwV 1 hts cw_X2_263 rfl rfl rfl hd_X2_compareExchange ⟨Nat.le_of_ble_eq_true rfl, Nat.le_of_ble_eq_true rfl⟩) xKst (va_recv hK hP (ci := 2) (q0 := 4) rfl rfl) hP hKp ⟨Nat.zero_le _, Nat.zero_le _⟩ hS (fun _ h => h) rfl hl.1 rfl (Nat.le_of_ble_eq_true rfl) dX2_others_296 (fun H locs hP hS => ?_)
                            have hP : va_P D xcl (XW ad ca K g23) H := hP
                            refine lv_goto (tgt := 302) hx hb dX2_others_299 (by decide) ?_
                            exact g_endUv (Pic := (fun u => xB D ad ca u.1 u.2)) (u := (K, g23)) hF hQ hr hP hS dX2_others_302
                          · replace hr := hr.trans (if_neg c_1_49)
                            refine lv_tableOut (tgt := 302) hx hb dX2_others_1 (by have z37 := lv_neT c_1_37 (a := 37) (by decide); have z38 := lv_neT c_1_38 (a := 38) (by decide); have z39 := lv_neT c_1_39 (a := 39) (by decide); have z40 := lv_neT c_1_40 (a := 40) (by decide); have z41 := lv_neT c_1_41 (a := 41) (by decide); have z42 := lv_neT c_1_42 (a := 42) (by decide); have z43 := lv_neT c_1_43 (a := 43) (by decide); have z44 := lv_neT c_1_44 (a := 44) (by decide); have z45 := lv_neT c_1_45 (a := 45) (by decide); have z46 := lv_neT c_1_46 (a := 46) (by decide); have z47 := lv_neT c_1_47 (a := 47) (by decide); have z48 := lv_neT c_1_48 (a := 48) (by decide); have z49 := lv_neT c_1_49 (a := 49) (by decide); omega) (by decide) ?_
                            exact g_endUv (Pic := (fun u => xB D ad ca u.1 u.2)) (u := (K, d)) hF hQ hr hP hS dX2_others_302
def x_middle (K : XK) (o : Int32) (sz : Int32) (d : XD) : XD := if o = (8 : Int32) then (bnd (x_get K (1 : Int32) sz d) fun g1 => bnd (x_put K (0 : Int32) sz g1.1 g1.2) fun g2 => g2) else if o = (9 : Int32) then (bnd (x_get K (0 : Int32) sz d) fun g3 => bnd (x_get K (1 : Int32) sz g3.2) fun g4 => bnd (x_logic (4 : Int32) g3.1 g4.1 sz g4.2) fun g5 => g5.2) else if o = (10 : Int32) then (bnd (x_get K (0 : Int32) sz d) fun g6 => bnd (x_get K (1 : Int32) sz g6.2) fun g7 => bnd (x_put K (0 : Int32) sz g7.1 g7.2) fun g8 => bnd (x_put K (1 : Int32) sz g6.1 g8) fun g9 => g9) else if o = (11 : Int32) then (bnd (x_put K (0 : Int32) sz (x_address K d) d) fun g10 => g10) else if o = (12 : Int32) then (bnd (x_get K (1 : Int32) (1 : Int32) d) fun g11 => bnd (x_put K (0 : Int32) sz g11.1 g11.2) fun g12 => g12) else if o = (13 : Int32) then (bnd (x_get K (1 : Int32) (1 : Int32) d) fun g13 => bnd (x_put K (0 : Int32) sz (x_signed g13.1 (1 : Int32)) g13.2) fun g14 => g14) else if o = (14 : Int32) then (bnd (x_get K (1 : Int32) (4 : Int32) d) fun g15 => bnd (x_put K (0 : Int32) sz (x_signed g15.1 (4 : Int32)) g15.2) fun g16 => g16) else if o = (15 : Int32) then (bnd (x_get K (0 : Int32) sz d) fun g17 => bnd (x_put K (0 : Int32) sz (g17.1 ^^^ (-1 : Int64)) g17.2) fun g18 => g18) else if o = (16 : Int32) then (bnd (x_get K (0 : Int32) sz d) fun g19 => bnd (x_difference (0 : Int64) g19.1 false sz g19.2) fun g20 => bnd (x_put K (0 : Int32) sz g20.1 g20.2) fun g21 => g21) else if o = (17 : Int32) then (bnd (α := Bool) (if o = (18 : Int32) then true else false) fun p22 => bnd (x_get K (0 : Int32) sz d) fun g23 => bnd (x_product p22 sz g23.1 g23.2) fun g24 => g24) else if o = (18 : Int32) then (bnd (α := Bool) (if o = (18 : Int32) then true else false) fun p25 => bnd (x_get K (0 : Int32) sz d) fun g26 => bnd (x_product p25 sz g26.1 g26.2) fun g27 => g27) else if o = (19 : Int32) then (bnd (α := Bool) (if o = (20 : Int32) then true else false) fun p28 => bnd (x_get K (0 : Int32) sz d) fun g29 => bnd (x_quotient p28 sz g29.1 g29.2) fun g30 => g30) else if o = (20 : Int32) then (bnd (α := Bool) (if o = (20 : Int32) then true else false) fun p31 => bnd (x_get K (0 : Int32) sz d) fun g32 => bnd (x_quotient p31 sz g32.1 g32.2) fun g33 => g33) else if o = (21 : Int32) then (bnd (α := Bool) ((x_is (1 : Int32) d)) fun b34 => bnd (α := Int64 × XD) (if o = (21 : Int32) then (bnd (x_get K (0 : Int32) sz d) fun g38 => bnd (x_sum g38.1 (1 : Int64) false sz g38.2) fun g39 => (g39.1, g39.2)) else (bnd (x_get K (0 : Int32) sz d) fun g36 => bnd (x_difference g36.1 (1 : Int64) false sz g36.2) fun g37 => (g37.1, g37.2))) fun p35 => bnd (x_mark (1 : Int32) b34 p35.2) fun g40 => bnd (x_put K (0 : Int32) sz p35.1 g40) fun g41 => g41) else if o = (22 : Int32) then (bnd (α := Bool) ((x_is (1 : Int32) d)) fun b42 => bnd (α := Int64 × XD) (if o = (21 : Int32) then (bnd (x_get K (0 : Int32) sz d) fun g46 => bnd (x_sum g46.1 (1 : Int64) false sz g46.2) fun g47 => (g47.1, g47.2)) else (bnd (x_get K (0 : Int32) sz d) fun g44 => bnd (x_difference g44.1 (1 : Int64) false sz g44.2) fun g45 => (g45.1, g45.2))) fun p43 => bnd (x_mark (1 : Int32) b42 p43.2) fun g48 => bnd (x_put K (0 : Int32) sz p43.1 g48) fun g49 => g49) else (bnd (x_times K sz d) fun g50 => g50)
abbrev rm_X2_middle : Room := { frames := 6, cells := 0, slots := 0, locals := 153 }
set_option maxHeartbeats 4000000 in
set_option maxRecDepth 100000 in
theorem m_X2_middle {l : Launch} {D : va_G} {ad : Nat → Nat} {ca : Nat → ClassId} (hI : xInj ad) {K : XK} {d : XD} (o : Int32) (sz : Int32) (RES : XD) (hr : RES = x_middle K o sz d) (hgd : XGd K) (h11 : o = 11 → XAdr K) (hsg : XSg K sz) : g_U l yX2_middle (ws_ yX2_middle cX2_middle 10 none) rm_X2_middle [.ref (ad 4), .int o, .int sz] (xKp D ca) (xB D ad ca K d) none (xB D ad ca K RES) (xA ad) := by
  refine g_ofU (by decide) (Nat.le_of_ble_eq_true rfl) ?_
  intro p e s m args below meth c ls Q hF hB hKp hl hQ
  obtain ⟨hx, hb, -, -, hml, hown, hts⟩ := id hF
  have hown : s.vm.findClass RX2 = some m.cls := hown
  have hC : CallFix p m c cX2_middle 10 s args lw_all RX2 := ⟨hx, hb, hml, hown, hts⟩
  obtain ⟨hK, hN⟩ := id hKp
  have hP : va_P D xcl (XW ad ca K d) s.heap := hB
  have hS : va_S (xA ad) s.heap s.heap [] := va_S.rf
  have hl : lv_has ls 10 [(0, .ref (ad 4)), (1, .int o), (2, .int sz)] := hl
  unfold x_middle at hr
  refine lv_iload_n hx hb dX2_middle_0 rfl (lv_at hl 1 rfl) ?_
  by_cases c_1_8 : o = (8 : Int32)
  · replace hr := hr.trans (if_pos c_1_8)
    refine lv_tableIn (off := 75) (tgt := 76) hx hb dX2_middle_1 (by rw [c_1_8]; decide) (by rw [c_1_8]; decide) (by rw [c_1_8]; rfl) (by decide) ?_
    refine lv_aload_n hx hb dX2_middle_76 rfl (lv_at hl 0 rfl) ?_
    refine lv_iconst (v := (0 : Int32)) hx hb dX2_middle_77 ic_0 ?_
    refine lv_iload_n hx hb dX2_middle_78 rfl (lv_at hl 2 rfl) ?_
    refine lv_aload_n hx hb dX2_middle_79 rfl (lv_at hl 0 rfl) ?_
    refine lv_iconst (v := (1 : Int32)) hx hb dX2_middle_80 ic_1 ?_
    refine lv_iload_n hx hb dX2_middle_81 rfl (lv_at hl 2 rfl) ?_
    obtain ⟨g1, eg1⟩ : ∃ z, z = x_get K (1 : Int32) sz d := ⟨_, rfl⟩
    replace hr := hr.trans (bnd_eq eg1)
    refine g_UV1 (As := [.int (1 : Int32), .int sz]) (rest := [.int sz, .int (0 : Int32), .ref (ad 4)]) hC (m_X2_get hI (K := K) (d := d) (1 : Int32) sz g1 eg1 (show ¬ ((1 : Int32) < 0 ∨ 3 ≤ (1 : Int32).toNatClampNeg) by decide) hgd) (cwV 2 hts cw_X2_160 rfl rfl rfl hd_X2_get ⟨Nat.le_of_ble_eq_true rfl, Nat.le_of_ble_eq_true rfl⟩) xKst (va_recv hK hP (ci := 2) (q0 := 4) rfl rfl) hP hKp ⟨Nat.zero_le _, Nat.zero_le _⟩ hS (fun _ h => h) rfl hl.1 rfl (Nat.le_of_ble_eq_true rfl) dX2_middle_82 (fun H locs hP hS => ?_)
    have hP : va_P D xcl (XW ad ca K g1.2) H := hP
    obtain ⟨g2, eg2⟩ : ∃ z, z = x_put K (0 : Int32) sz g1.1 g1.2 := ⟨_, rfl⟩
    replace hr := hr.trans (bnd_eq eg2)
    refine g_UV0 (As := [.int (0 : Int32), .int sz, .long g1.1]) (rest := []) hC (m_X2_put hI (K := K) (d := g1.2) (0 : Int32) sz g1.1 g2 eg2 (show ¬ ((0 : Int32) < 0 ∨ 3 ≤ (0 : Int32).toNatClampNeg) by decide) hgd) (cwV 3 hts cw_X2_188 rfl rfl rfl hd_X2_put ⟨Nat.le_of_ble_eq_true rfl, Nat.le_of_ble_eq_true rfl⟩) xKst (va_recv hK hP (ci := 2) (q0 := 4) rfl rfl) hP hKp ⟨Nat.zero_le _, Nat.zero_le _⟩ hS (fun _ h => h) rfl hl.1 rfl (Nat.le_of_ble_eq_true rfl) dX2_middle_85 (fun H locs hP hS => ?_)
    have hP : va_P D xcl (XW ad ca K g2) H := hP
    refine lv_goto (tgt := 370) hx hb dX2_middle_88 (by decide) ?_
    exact g_endUv (Pic := (fun u => xB D ad ca K u)) (u := g2) hF hQ hr hP hS dX2_middle_370
  · replace hr := hr.trans (if_neg c_1_8)
    by_cases c_1_9 : o = (9 : Int32)
    · replace hr := hr.trans (if_pos c_1_9)
      refine lv_tableIn (off := 90) (tgt := 91) hx hb dX2_middle_1 (by rw [c_1_9]; decide) (by rw [c_1_9]; decide) (by rw [c_1_9]; rfl) (by decide) ?_
      refine lv_aload_n hx hb dX2_middle_91 rfl (lv_at hl 0 rfl) ?_
      refine lv_iconst (v := (4 : Int32)) hx hb dX2_middle_92 ic_4 ?_
      refine lv_aload_n hx hb dX2_middle_93 rfl (lv_at hl 0 rfl) ?_
      refine lv_iconst (v := (0 : Int32)) hx hb dX2_middle_94 ic_0 ?_
      refine lv_iload_n hx hb dX2_middle_95 rfl (lv_at hl 2 rfl) ?_
      obtain ⟨g3, eg3⟩ : ∃ z, z = x_get K (0 : Int32) sz d := ⟨_, rfl⟩
      replace hr := hr.trans (bnd_eq eg3)
      refine g_UV1 (As := [.int (0 : Int32), .int sz]) (rest := [.int (4 : Int32), .ref (ad 4)]) hC (m_X2_get hI (K := K) (d := d) (0 : Int32) sz g3 eg3 (show ¬ ((0 : Int32) < 0 ∨ 3 ≤ (0 : Int32).toNatClampNeg) by decide) hgd) (cwV 2 hts cw_X2_160 rfl rfl rfl hd_X2_get ⟨Nat.le_of_ble_eq_true rfl, Nat.le_of_ble_eq_true rfl⟩) xKst (va_recv hK hP (ci := 2) (q0 := 4) rfl rfl) hP hKp ⟨Nat.zero_le _, Nat.zero_le _⟩ hS (fun _ h => h) rfl hl.1 rfl (Nat.le_of_ble_eq_true rfl) dX2_middle_96 (fun H locs hP hS => ?_)
      have hP : va_P D xcl (XW ad ca K g3.2) H := hP
      refine lv_aload_n hx hb dX2_middle_99 rfl (lv_at hl 0 rfl) ?_
      refine lv_iconst (v := (1 : Int32)) hx hb dX2_middle_100 ic_1 ?_
      refine lv_iload_n hx hb dX2_middle_101 rfl (lv_at hl 2 rfl) ?_
      obtain ⟨g4, eg4⟩ : ∃ z, z = x_get K (1 : Int32) sz g3.2 := ⟨_, rfl⟩
      replace hr := hr.trans (bnd_eq eg4)
      refine g_UV1 (As := [.int (1 : Int32), .int sz]) (rest := [.long g3.1, .int (4 : Int32), .ref (ad 4)]) hC (m_X2_get hI (K := K) (d := g3.2) (1 : Int32) sz g4 eg4 (show ¬ ((1 : Int32) < 0 ∨ 3 ≤ (1 : Int32).toNatClampNeg) by decide) hgd) (cwV 2 hts cw_X2_160 rfl rfl rfl hd_X2_get ⟨Nat.le_of_ble_eq_true rfl, Nat.le_of_ble_eq_true rfl⟩) xKst (va_recv hK hP (ci := 2) (q0 := 4) rfl rfl) hP hKp ⟨Nat.zero_le _, Nat.zero_le _⟩ hS (fun _ h => h) rfl hl.1 rfl (Nat.le_of_ble_eq_true rfl) dX2_middle_102 (fun H locs hP hS => ?_)
      have hP : va_P D xcl (XW ad ca K g4.2) H := hP
      refine lv_iload_n hx hb dX2_middle_105 rfl (lv_at hl 2 rfl) ?_
      obtain ⟨g5, eg5⟩ : ∃ z, z = x_logic (4 : Int32) g3.1 g4.1 sz g4.2 := ⟨_, rfl⟩
      replace hr := hr.trans (bnd_eq eg5)
      refine g_UV1 (As := [.int (4 : Int32), .long g3.1, .long g4.1, .int sz]) (rest := []) hC (m_X2_logic hI (K := K) (d := g4.2) (4 : Int32) g3.1 g4.1 sz g5 eg5) (cwV 4 hts cw_X2_184 rfl rfl rfl hd_X2_logic ⟨Nat.le_of_ble_eq_true rfl, Nat.le_of_ble_eq_true rfl⟩) xKst (va_recv hK hP (ci := 2) (q0 := 4) rfl rfl) hP hKp ⟨Nat.zero_le _, Nat.zero_le _⟩ hS (fun _ h => h) rfl hl.1 rfl (Nat.le_of_ble_eq_true rfl) dX2_middle_106 (fun H locs hP hS => ?_)
      have hP : va_P D xcl (XW ad ca K g5.2) H := hP
      refine lv_pop2_2 hx hb dX2_middle_109 rfl ?_
      refine lv_goto (tgt := 370) hx hb dX2_middle_110 (by decide) ?_
      exact g_endUv (Pic := (fun u => xB D ad ca K u)) (u := g5.2) hF hQ hr hP hS dX2_middle_370
    · replace hr := hr.trans (if_neg c_1_9)
      by_cases c_1_10 : o = (10 : Int32)
      · replace hr := hr.trans (if_pos c_1_10)
        refine lv_tableIn (off := 112) (tgt := 113) hx hb dX2_middle_1 (by rw [c_1_10]; decide) (by rw [c_1_10]; decide) (by rw [c_1_10]; rfl) (by decide) ?_
        refine lv_aload_n hx hb dX2_middle_113 rfl (lv_at hl 0 rfl) ?_
        refine lv_iconst (v := (0 : Int32)) hx hb dX2_middle_114 ic_0 ?_
        refine lv_iload_n hx hb dX2_middle_115 rfl (lv_at hl 2 rfl) ?_
        obtain ⟨g6, eg6⟩ : ∃ z, z = x_get K (0 : Int32) sz d := ⟨_, rfl⟩
        replace hr := hr.trans (bnd_eq eg6)
        refine g_UV1 (As := [.int (0 : Int32), .int sz]) (rest := []) hC (m_X2_get hI (K := K) (d := d) (0 : Int32) sz g6 eg6 (show ¬ ((0 : Int32) < 0 ∨ 3 ≤ (0 : Int32).toNatClampNeg) by decide) hgd) (cwV 2 hts cw_X2_160 rfl rfl rfl hd_X2_get ⟨Nat.le_of_ble_eq_true rfl, Nat.le_of_ble_eq_true rfl⟩) xKst (va_recv hK hP (ci := 2) (q0 := 4) rfl rfl) hP hKp ⟨Nat.zero_le _, Nat.zero_le _⟩ hS (fun _ h => h) rfl hl.1 rfl (Nat.le_of_ble_eq_true rfl) dX2_middle_116 (fun H locs hP hS => ?_)
        have hP : va_P D xcl (XW ad ca K g6.2) H := hP
        refine lv_lstore_n (lv' := [(3, .long g6.1), (0, .ref (ad 4)), (1, .int o), (2, .int sz)]) hx hb dX2_middle_119 rfl hl (by decide) rfl (fun ls hl => ?_)
        refine lv_aload_n hx hb dX2_middle_120 rfl (lv_at hl 1 rfl) ?_
        refine lv_iconst (v := (1 : Int32)) hx hb dX2_middle_121 ic_1 ?_
        refine lv_iload_n hx hb dX2_middle_122 rfl (lv_at hl 3 rfl) ?_
        obtain ⟨g7, eg7⟩ : ∃ z, z = x_get K (1 : Int32) sz g6.2 := ⟨_, rfl⟩
        replace hr := hr.trans (bnd_eq eg7)
        refine g_UV1 (As := [.int (1 : Int32), .int sz]) (rest := []) hC (m_X2_get hI (K := K) (d := g6.2) (1 : Int32) sz g7 eg7 (show ¬ ((1 : Int32) < 0 ∨ 3 ≤ (1 : Int32).toNatClampNeg) by decide) hgd) (cwV 2 hts cw_X2_160 rfl rfl rfl hd_X2_get ⟨Nat.le_of_ble_eq_true rfl, Nat.le_of_ble_eq_true rfl⟩) xKst (va_recv hK hP (ci := 2) (q0 := 4) rfl rfl) hP hKp ⟨Nat.zero_le _, Nat.zero_le _⟩ hS (fun _ h => h) rfl hl.1 rfl (Nat.le_of_ble_eq_true rfl) dX2_middle_123 (fun H locs hP hS => ?_)
        have hP : va_P D xcl (XW ad ca K g7.2) H := hP
        refine lv_lstore (lv' := [(5, .long g7.1), (3, .long g6.1), (0, .ref (ad 4)), (1, .int o), (2, .int sz)]) hx hb dX2_middle_126 hl (by decide) rfl (fun ls hl => ?_)
        refine lv_aload_n hx hb dX2_middle_128 rfl (lv_at hl 2 rfl) ?_
        refine lv_iconst (v := (0 : Int32)) hx hb dX2_middle_129 ic_0 ?_
        refine lv_iload_n hx hb dX2_middle_130 rfl (lv_at hl 4 rfl) ?_
        refine lv_lload hx hb dX2_middle_131 (lv_at hl 0 rfl) ?_
        obtain ⟨g8, eg8⟩ : ∃ z, z = x_put K (0 : Int32) sz g7.1 g7.2 := ⟨_, rfl⟩
        replace hr := hr.trans (bnd_eq eg8)
        refine g_UV0 (As := [.int (0 : Int32), .int sz, .long g7.1]) (rest := []) hC (m_X2_put hI (K := K) (d := g7.2) (0 : Int32) sz g7.1 g8 eg8 (show ¬ ((0 : Int32) < 0 ∨ 3 ≤ (0 : Int32).toNatClampNeg) by decide) hgd) (cwV 3 hts cw_X2_188 rfl rfl rfl hd_X2_put ⟨Nat.le_of_ble_eq_true rfl, Nat.le_of_ble_eq_true rfl⟩) xKst (va_recv hK hP (ci := 2) (q0 := 4) rfl rfl) hP hKp ⟨Nat.zero_le _, Nat.zero_le _⟩ hS (fun _ h => h) rfl hl.1 rfl (Nat.le_of_ble_eq_true rfl) dX2_middle_133 (fun H locs hP hS => ?_)
        have hP : va_P D xcl (XW ad ca K g8) H := hP
        refine lv_aload_n hx hb dX2_middle_136 rfl (lv_at hl 2 rfl) ?_
        refine lv_iconst (v := (1 : Int32)) hx hb dX2_middle_137 ic_1 ?_
        refine lv_iload_n hx hb dX2_middle_138 rfl (lv_at hl 4 rfl) ?_
        refine lv_lload_n hx hb dX2_middle_139 rfl (lv_at hl 1 rfl) ?_
        obtain ⟨g9, eg9⟩ : ∃ z, z = x_put K (1 : Int32) sz g6.1 g8 := ⟨_, rfl⟩
        replace hr := hr.trans (bnd_eq eg9)
        refine g_UV0 (As := [.int (1 : Int32), .int sz, .long g6.1]) (rest := []) hC (m_X2_put hI (K := K) (d := g8) (1 : Int32) sz g6.1 g9 eg9 (show ¬ ((1 : Int32) < 0 ∨ 3 ≤ (1 : Int32).toNatClampNeg) by decide) hgd) (cwV 3 hts cw_X2_188 rfl rfl rfl hd_X2_put ⟨Nat.le_of_ble_eq_true rfl, Nat.le_of_ble_eq_true rfl⟩) xKst (va_recv hK hP (ci := 2) (q0 := 4) rfl rfl) hP hKp ⟨Nat.zero_le _, Nat.zero_le _⟩ hS (fun _ h => h) rfl hl.1 rfl (Nat.le_of_ble_eq_true rfl) dX2_middle_140 (fun H locs hP hS => ?_)
        have hP : va_P D xcl (XW ad ca K g9) H := hP
        refine lv_goto (tgt := 370) hx hb dX2_middle_143 (by decide) ?_
        exact g_endUv (Pic := (fun u => xB D ad ca K u)) (u := g9) hF hQ hr hP hS dX2_middle_370
      · replace hr := hr.trans (if_neg c_1_10)
        by_cases c_1_11 : o = (11 : Int32)
        · replace hr := hr.trans (if_pos c_1_11)
          refine lv_tableIn (off := 145) (tgt := 146) hx hb dX2_middle_1 (by rw [c_1_11]; decide) (by rw [c_1_11]; decide) (by rw [c_1_11]; rfl) (by decide) ?_
          refine lv_aload_n hx hb dX2_middle_146 rfl (lv_at hl 0 rfl) ?_
          refine lv_iconst (v := (0 : Int32)) hx hb dX2_middle_147 ic_0 ?_
          refine lv_iload_n hx hb dX2_middle_148 rfl (lv_at hl 2 rfl) ?_
          refine lv_aload_n hx hb dX2_middle_149 rfl (lv_at hl 0 rfl) ?_
          refine g_RV (As := []) (rest := [.int sz, .int (0 : Int32), .ref (ad 4)]) hC (m_X2_address (K := K) (d := d)  _ rfl (h11 c_1_11)) (cwV 0 hts cw_X2_97 rfl rfl rfl hd_X2_address ⟨Nat.le_of_ble_eq_true rfl, Nat.le_of_ble_eq_true rfl⟩) xKst (va_recv hK hP (ci := 2) (q0 := 4) rfl rfl) hP hKp ⟨Nat.zero_le _, Nat.zero_le _⟩ rfl hl.1 rfl (Nat.le_of_ble_eq_true rfl) dX2_middle_150 ?_
          obtain ⟨g10, eg10⟩ : ∃ z, z = x_put K (0 : Int32) sz (x_address K d) d := ⟨_, rfl⟩
          replace hr := hr.trans (bnd_eq eg10)
          refine g_UV0 (As := [.int (0 : Int32), .int sz, .long (x_address K d)]) (rest := []) hC (m_X2_put hI (K := K) (d := d) (0 : Int32) sz (x_address K d) g10 eg10 (show ¬ ((0 : Int32) < 0 ∨ 3 ≤ (0 : Int32).toNatClampNeg) by decide) hgd) (cwV 3 hts cw_X2_188 rfl rfl rfl hd_X2_put ⟨Nat.le_of_ble_eq_true rfl, Nat.le_of_ble_eq_true rfl⟩) xKst (va_recv hK hP (ci := 2) (q0 := 4) rfl rfl) hP hKp ⟨Nat.zero_le _, Nat.zero_le _⟩ hS (fun _ h => h) rfl hl.1 rfl (Nat.le_of_ble_eq_true rfl) dX2_middle_153 (fun H locs hP hS => ?_)
          have hP : va_P D xcl (XW ad ca K g10) H := hP
          refine lv_goto (tgt := 370) hx hb dX2_middle_156 (by decide) ?_
          exact g_endUv (Pic := (fun u => xB D ad ca K u)) (u := g10) hF hQ hr hP hS dX2_middle_370
        · replace hr := hr.trans (if_neg c_1_11)
          by_cases c_1_12 : o = (12 : Int32)
          · replace hr := hr.trans (if_pos c_1_12)
            refine lv_tableIn (off := 158) (tgt := 159) hx hb dX2_middle_1 (by rw [c_1_12]; decide) (by rw [c_1_12]; decide) (by rw [c_1_12]; rfl) (by decide) ?_
            refine lv_aload_n hx hb dX2_middle_159 rfl (lv_at hl 0 rfl) ?_
            refine lv_iconst (v := (0 : Int32)) hx hb dX2_middle_160 ic_0 ?_
            refine lv_iload_n hx hb dX2_middle_161 rfl (lv_at hl 2 rfl) ?_
            refine lv_aload_n hx hb dX2_middle_162 rfl (lv_at hl 0 rfl) ?_
            refine lv_iconst (v := (1 : Int32)) hx hb dX2_middle_163 ic_1 ?_
            refine lv_iconst (v := (1 : Int32)) hx hb dX2_middle_164 ic_1 ?_
            obtain ⟨g11, eg11⟩ : ∃ z, z = x_get K (1 : Int32) (1 : Int32) d := ⟨_, rfl⟩
            replace hr := hr.trans (bnd_eq eg11)
            refine g_UV1 (As := [.int (1 : Int32), .int (1 : Int32)]) (rest := [.int sz, .int (0 : Int32), .ref (ad 4)]) hC (m_X2_get hI (K := K) (d := d) (1 : Int32) (1 : Int32) g11 eg11 (show ¬ ((1 : Int32) < 0 ∨ 3 ≤ (1 : Int32).toNatClampNeg) by decide) hgd) (cwV 2 hts cw_X2_160 rfl rfl rfl hd_X2_get ⟨Nat.le_of_ble_eq_true rfl, Nat.le_of_ble_eq_true rfl⟩) xKst (va_recv hK hP (ci := 2) (q0 := 4) rfl rfl) hP hKp ⟨Nat.zero_le _, Nat.zero_le _⟩ hS (fun _ h => h) rfl hl.1 rfl (Nat.le_of_ble_eq_true rfl) dX2_middle_165 (fun H locs hP hS => ?_)
            have hP : va_P D xcl (XW ad ca K g11.2) H := hP
            obtain ⟨g12, eg12⟩ : ∃ z, z = x_put K (0 : Int32) sz g11.1 g11.2 := ⟨_, rfl⟩
            replace hr := hr.trans (bnd_eq eg12)
            refine g_UV0 (As := [.int (0 : Int32), .int sz, .long g11.1]) (rest := []) hC (m_X2_put hI (K := K) (d := g11.2) (0 : Int32) sz g11.1 g12 eg12 (show ¬ ((0 : Int32) < 0 ∨ 3 ≤ (0 : Int32).toNatClampNeg) by decide) hgd) (cwV 3 hts cw_X2_188 rfl rfl rfl hd_X2_put ⟨Nat.le_of_ble_eq_true rfl, Nat.le_of_ble_eq_true rfl⟩) xKst (va_recv hK hP (ci := 2) (q0 := 4) rfl rfl) hP hKp ⟨Nat.zero_le _, Nat.zero_le _⟩ hS (fun _ h => h) rfl hl.1 rfl (Nat.le_of_ble_eq_true rfl) dX2_middle_168 (fun H locs hP hS => ?_)
            have hP : va_P D xcl (XW ad ca K g12) H := hP
            refine lv_goto (tgt := 370) hx hb dX2_middle_171 (by decide) ?_
            exact g_endUv (Pic := (fun u => xB D ad ca K u)) (u := g12) hF hQ hr hP hS dX2_middle_370
          · replace hr := hr.trans (if_neg c_1_12)
            by_cases c_1_13 : o = (13 : Int32)
            · replace hr := hr.trans (if_pos c_1_13)
              refine lv_tableIn (off := 173) (tgt := 174) hx hb dX2_middle_1 (by rw [c_1_13]; decide) (by rw [c_1_13]; decide) (by rw [c_1_13]; rfl) (by decide) ?_
              refine lv_aload_n hx hb dX2_middle_174 rfl (lv_at hl 0 rfl) ?_
              refine lv_iconst (v := (0 : Int32)) hx hb dX2_middle_175 ic_0 ?_
              refine lv_iload_n hx hb dX2_middle_176 rfl (lv_at hl 2 rfl) ?_
              refine lv_aload_n hx hb dX2_middle_177 rfl (lv_at hl 0 rfl) ?_
              refine lv_iconst (v := (1 : Int32)) hx hb dX2_middle_178 ic_1 ?_
              refine lv_iconst (v := (1 : Int32)) hx hb dX2_middle_179 ic_1 ?_
              obtain ⟨g13, eg13⟩ : ∃ z, z = x_get K (1 : Int32) (1 : Int32) d := ⟨_, rfl⟩
              replace hr := hr.trans (bnd_eq eg13)
              refine g_UV1 (As := [.int (1 : Int32), .int (1 : Int32)]) (rest := [.int sz, .int (0 : Int32), .ref (ad 4)]) hC (m_X2_get hI (K := K) (d := d) (1 : Int32) (1 : Int32) g13 eg13 (show ¬ ((1 : Int32) < 0 ∨ 3 ≤ (1 : Int32).toNatClampNeg) by decide) hgd) (cwV 2 hts cw_X2_160 rfl rfl rfl hd_X2_get ⟨Nat.le_of_ble_eq_true rfl, Nat.le_of_ble_eq_true rfl⟩) xKst (va_recv hK hP (ci := 2) (q0 := 4) rfl rfl) hP hKp ⟨Nat.zero_le _, Nat.zero_le _⟩ hS (fun _ h => h) rfl hl.1 rfl (Nat.le_of_ble_eq_true rfl) dX2_middle_180 (fun H locs hP hS => ?_)
              have hP : va_P D xcl (XW ad ca K g13.2) H := hP
              refine lv_iconst (v := (1 : Int32)) hx hb dX2_middle_183 ic_1 ?_
              refine g_RS (As := [.long g13.1, .int (1 : Int32)]) (rest := [.int sz, .int (0 : Int32), .ref (ad 4)]) hC (m_X2_signed g13.1 (1 : Int32) _ rfl) (va_cwS 2 hts cw_X2_122 rfl rfl rfl hd_X2_signed ⟨Nat.le_of_ble_eq_true rfl, Nat.le_of_ble_eq_true rfl⟩) g_Kst0 trivial trivial ⟨Nat.zero_le _, Nat.zero_le _⟩ rfl hl.1 rfl (Nat.le_of_ble_eq_true rfl) dX2_middle_184 ?_
              obtain ⟨g14, eg14⟩ : ∃ z, z = x_put K (0 : Int32) sz (x_signed g13.1 (1 : Int32)) g13.2 := ⟨_, rfl⟩
              replace hr := hr.trans (bnd_eq eg14)
              refine g_UV0 (As := [.int (0 : Int32), .int sz, .long (x_signed g13.1 (1 : Int32))]) (rest := []) hC (m_X2_put hI (K := K) (d := g13.2) (0 : Int32) sz (x_signed g13.1 (1 : Int32)) g14 eg14 (show ¬ ((0 : Int32) < 0 ∨ 3 ≤ (0 : Int32).toNatClampNeg) by decide) hgd) (cwV 3 hts cw_X2_188 rfl rfl rfl hd_X2_put ⟨Nat.le_of_ble_eq_true rfl, Nat.le_of_ble_eq_true rfl⟩) xKst (va_recv hK hP (ci := 2) (q0 := 4) rfl rfl) hP hKp ⟨Nat.zero_le _, Nat.zero_le _⟩ hS (fun _ h => h) rfl hl.1 rfl (Nat.le_of_ble_eq_true rfl) dX2_middle_187 (fun H locs hP hS => ?_)
              have hP : va_P D xcl (XW ad ca K g14) H := hP
              refine lv_goto (tgt := 370) hx hb dX2_middle_190 (by decide) ?_
              exact g_endUv (Pic := (fun u => xB D ad ca K u)) (u := g14) hF hQ hr hP hS dX2_middle_370
            · replace hr := hr.trans (if_neg c_1_13)
              by_cases c_1_14 : o = (14 : Int32)
              · replace hr := hr.trans (if_pos c_1_14)
                refine lv_tableIn (off := 192) (tgt := 193) hx hb dX2_middle_1 (by rw [c_1_14]; decide) (by rw [c_1_14]; decide) (by rw [c_1_14]; rfl) (by decide) ?_
                refine lv_aload_n hx hb dX2_middle_193 rfl (lv_at hl 0 rfl) ?_
                refine lv_iconst (v := (0 : Int32)) hx hb dX2_middle_194 ic_0 ?_
                refine lv_iload_n hx hb dX2_middle_195 rfl (lv_at hl 2 rfl) ?_
                refine lv_aload_n hx hb dX2_middle_196 rfl (lv_at hl 0 rfl) ?_
                refine lv_iconst (v := (1 : Int32)) hx hb dX2_middle_197 ic_1 ?_
                refine lv_iconst (v := (4 : Int32)) hx hb dX2_middle_198 ic_4 ?_
                obtain ⟨g15, eg15⟩ : ∃ z, z = x_get K (1 : Int32) (4 : Int32) d := ⟨_, rfl⟩
                replace hr := hr.trans (bnd_eq eg15)
                refine g_UV1 (As := [.int (1 : Int32), .int (4 : Int32)]) (rest := [.int sz, .int (0 : Int32), .ref (ad 4)]) hC (m_X2_get hI (K := K) (d := d) (1 : Int32) (4 : Int32) g15 eg15 (show ¬ ((1 : Int32) < 0 ∨ 3 ≤ (1 : Int32).toNatClampNeg) by decide) hgd) (cwV 2 hts cw_X2_160 rfl rfl rfl hd_X2_get ⟨Nat.le_of_ble_eq_true rfl, Nat.le_of_ble_eq_true rfl⟩) xKst (va_recv hK hP (ci := 2) (q0 := 4) rfl rfl) hP hKp ⟨Nat.zero_le _, Nat.zero_le _⟩ hS (fun _ h => h) rfl hl.1 rfl (Nat.le_of_ble_eq_true rfl) dX2_middle_199 (fun H locs hP hS => ?_)
                have hP : va_P D xcl (XW ad ca K g15.2) H := hP
                refine lv_iconst (v := (4 : Int32)) hx hb dX2_middle_202 ic_4 ?_
                refine g_RS (As := [.long g15.1, .int (4 : Int32)]) (rest := [.int sz, .int (0 : Int32), .ref (ad 4)]) hC (m_X2_signed g15.1 (4 : Int32) _ rfl) (va_cwS 2 hts cw_X2_122 rfl rfl rfl hd_X2_signed ⟨Nat.le_of_ble_eq_true rfl, Nat.le_of_ble_eq_true rfl⟩) g_Kst0 trivial trivial ⟨Nat.zero_le _, Nat.zero_le _⟩ rfl hl.1 rfl (Nat.le_of_ble_eq_true rfl) dX2_middle_203 ?_
                obtain ⟨g16, eg16⟩ : ∃ z, z = x_put K (0 : Int32) sz (x_signed g15.1 (4 : Int32)) g15.2 := ⟨_, rfl⟩
                replace hr := hr.trans (bnd_eq eg16)
                refine g_UV0 (As := [.int (0 : Int32), .int sz, .long (x_signed g15.1 (4 : Int32))]) (rest := []) hC (m_X2_put hI (K := K) (d := g15.2) (0 : Int32) sz (x_signed g15.1 (4 : Int32)) g16 eg16 (show ¬ ((0 : Int32) < 0 ∨ 3 ≤ (0 : Int32).toNatClampNeg) by decide) hgd) (cwV 3 hts cw_X2_188 rfl rfl rfl hd_X2_put ⟨Nat.le_of_ble_eq_true rfl, Nat.le_of_ble_eq_true rfl⟩) xKst (va_recv hK hP (ci := 2) (q0 := 4) rfl rfl) hP hKp ⟨Nat.zero_le _, Nat.zero_le _⟩ hS (fun _ h => h) rfl hl.1 rfl (Nat.le_of_ble_eq_true rfl) dX2_middle_206 (fun H locs hP hS => ?_)
                have hP : va_P D xcl (XW ad ca K g16) H := hP
                refine lv_goto (tgt := 370) hx hb dX2_middle_209 (by decide) ?_
                exact g_endUv (Pic := (fun u => xB D ad ca K u)) (u := g16) hF hQ hr hP hS dX2_middle_370
              · replace hr := hr.trans (if_neg c_1_14)
                by_cases c_1_15 : o = (15 : Int32)
                · replace hr := hr.trans (if_pos c_1_15)
                  refine lv_tableIn (off := 211) (tgt := 212) hx hb dX2_middle_1 (by rw [c_1_15]; decide) (by rw [c_1_15]; decide) (by rw [c_1_15]; rfl) (by decide) ?_
                  refine lv_aload_n hx hb dX2_middle_212 rfl (lv_at hl 0 rfl) ?_
                  refine lv_iconst (v := (0 : Int32)) hx hb dX2_middle_213 ic_0 ?_
                  refine lv_iload_n hx hb dX2_middle_214 rfl (lv_at hl 2 rfl) ?_
                  refine lv_aload_n hx hb dX2_middle_215 rfl (lv_at hl 0 rfl) ?_
                  refine lv_iconst (v := (0 : Int32)) hx hb dX2_middle_216 ic_0 ?_
                  refine lv_iload_n hx hb dX2_middle_217 rfl (lv_at hl 2 rfl) ?_
                  obtain ⟨g17, eg17⟩ : ∃ z, z = x_get K (0 : Int32) sz d := ⟨_, rfl⟩
                  replace hr := hr.trans (bnd_eq eg17)
                  refine g_UV1 (As := [.int (0 : Int32), .int sz]) (rest := [.int sz, .int (0 : Int32), .ref (ad 4)]) hC (m_X2_get hI (K := K) (d := d) (0 : Int32) sz g17 eg17 (show ¬ ((0 : Int32) < 0 ∨ 3 ≤ (0 : Int32).toNatClampNeg) by decide) hgd) (cwV 2 hts cw_X2_160 rfl rfl rfl hd_X2_get ⟨Nat.le_of_ble_eq_true rfl, Nat.le_of_ble_eq_true rfl⟩) xKst (va_recv hK hP (ci := 2) (q0 := 4) rfl rfl) hP hKp ⟨Nat.zero_le _, Nat.zero_le _⟩ hS (fun _ h => h) rfl hl.1 rfl (Nat.le_of_ble_eq_true rfl) dX2_middle_218 (fun H locs hP hS => ?_)
                  have hP : va_P D xcl (XW ad ca K g17.2) H := hP
                  refine lv_ldc2 hx hb hown (hts _ q432) dX2_middle_221 ?_
                  refine lv_lxor hx hb dX2_middle_224 ?_
                  obtain ⟨g18, eg18⟩ : ∃ z, z = x_put K (0 : Int32) sz (g17.1 ^^^ (-1 : Int64)) g17.2 := ⟨_, rfl⟩
                  replace hr := hr.trans (bnd_eq eg18)
                  refine g_UV0 (As := [.int (0 : Int32), .int sz, .long (g17.1 ^^^ (-1 : Int64))]) (rest := []) hC (m_X2_put hI (K := K) (d := g17.2) (0 : Int32) sz (g17.1 ^^^ (-1 : Int64)) g18 eg18 (show ¬ ((0 : Int32) < 0 ∨ 3 ≤ (0 : Int32).toNatClampNeg) by decide) hgd) (cwV 3 hts cw_X2_188 rfl rfl rfl hd_X2_put ⟨Nat.le_of_ble_eq_true rfl, Nat.le_of_ble_eq_true rfl⟩) xKst (va_recv hK hP (ci := 2) (q0 := 4) rfl rfl) hP hKp ⟨Nat.zero_le _, Nat.zero_le _⟩ hS (fun _ h => h) rfl hl.1 rfl (Nat.le_of_ble_eq_true rfl) dX2_middle_225 (fun H locs hP hS => ?_)
                  have hP : va_P D xcl (XW ad ca K g18) H := hP
                  refine lv_goto (tgt := 370) hx hb dX2_middle_228 (by decide) ?_
                  exact g_endUv (Pic := (fun u => xB D ad ca K u)) (u := g18) hF hQ hr hP hS dX2_middle_370
                · replace hr := hr.trans (if_neg c_1_15)
                  by_cases c_1_16 : o = (16 : Int32)
                  · replace hr := hr.trans (if_pos c_1_16)
                    refine lv_tableIn (off := 230) (tgt := 231) hx hb dX2_middle_1 (by rw [c_1_16]; decide) (by rw [c_1_16]; decide) (by rw [c_1_16]; rfl) (by decide) ?_
                    refine lv_aload_n hx hb dX2_middle_231 rfl (lv_at hl 0 rfl) ?_
                    refine lv_iconst (v := (0 : Int32)) hx hb dX2_middle_232 ic_0 ?_
                    refine lv_iload_n hx hb dX2_middle_233 rfl (lv_at hl 2 rfl) ?_
                    refine lv_aload_n hx hb dX2_middle_234 rfl (lv_at hl 0 rfl) ?_
                    refine lv_lconst (v := (0 : Int64)) hx hb dX2_middle_235 lc_0 ?_
                    refine lv_aload_n hx hb dX2_middle_236 rfl (lv_at hl 0 rfl) ?_
                    refine lv_iconst (v := (0 : Int32)) hx hb dX2_middle_237 ic_0 ?_
                    refine lv_iload_n hx hb dX2_middle_238 rfl (lv_at hl 2 rfl) ?_
                    obtain ⟨g19, eg19⟩ : ∃ z, z = x_get K (0 : Int32) sz d := ⟨_, rfl⟩
                    replace hr := hr.trans (bnd_eq eg19)
                    refine g_UV1 (As := [.int (0 : Int32), .int sz]) (rest := [.long (0 : Int64), .ref (ad 4), .int sz, .int (0 : Int32), .ref (ad 4)]) hC (m_X2_get hI (K := K) (d := d) (0 : Int32) sz g19 eg19 (show ¬ ((0 : Int32) < 0 ∨ 3 ≤ (0 : Int32).toNatClampNeg) by decide) hgd) (cwV 2 hts cw_X2_160 rfl rfl rfl hd_X2_get ⟨Nat.le_of_ble_eq_true rfl, Nat.le_of_ble_eq_true rfl⟩) xKst (va_recv hK hP (ci := 2) (q0 := 4) rfl rfl) hP hKp ⟨Nat.zero_le _, Nat.zero_le _⟩ hS (fun _ h => h) rfl hl.1 rfl (Nat.le_of_ble_eq_true rfl) dX2_middle_239 (fun H locs hP hS => ?_)
                    have hP : va_P D xcl (XW ad ca K g19.2) H := hP
                    refine lv_iconst (v := (0 : Int32)) hx hb dX2_middle_242 ic_0 ?_
                    refine lv_iload_n hx hb dX2_middle_243 rfl (lv_at hl 2 rfl) ?_
                    obtain ⟨g20, eg20⟩ : ∃ z, z = x_difference (0 : Int64) g19.1 false sz g19.2 := ⟨_, rfl⟩
                    replace hr := hr.trans (bnd_eq eg20)
                    refine g_UV1 (As := [.long (0 : Int64), .long g19.1, .int (b2i false), .int sz]) (rest := [.int sz, .int (0 : Int32), .ref (ad 4)]) hC (m_X2_difference hI (K := K) (d := g19.2) (0 : Int64) g19.1 false sz g20 eg20) (cwV 4 hts cw_X2_181 rfl rfl rfl hd_X2_difference ⟨Nat.le_of_ble_eq_true rfl, Nat.le_of_ble_eq_true rfl⟩) xKst (va_recv hK hP (ci := 2) (q0 := 4) rfl rfl) hP hKp ⟨Nat.zero_le _, Nat.zero_le _⟩ hS (fun _ h => h) rfl hl.1 rfl (Nat.le_of_ble_eq_true rfl) dX2_middle_244 (fun H locs hP hS => ?_)
                    have hP : va_P D xcl (XW ad ca K g20.2) H := hP
                    obtain ⟨g21, eg21⟩ : ∃ z, z = x_put K (0 : Int32) sz g20.1 g20.2 := ⟨_, rfl⟩
                    replace hr := hr.trans (bnd_eq eg21)
                    refine g_UV0 (As := [.int (0 : Int32), .int sz, .long g20.1]) (rest := []) hC (m_X2_put hI (K := K) (d := g20.2) (0 : Int32) sz g20.1 g21 eg21 (show ¬ ((0 : Int32) < 0 ∨ 3 ≤ (0 : Int32).toNatClampNeg) by decide) hgd) (cwV 3 hts cw_X2_188 rfl rfl rfl hd_X2_put ⟨Nat.le_of_ble_eq_true rfl, Nat.le_of_ble_eq_true rfl⟩) xKst (va_recv hK hP (ci := 2) (q0 := 4) rfl rfl) hP hKp ⟨Nat.zero_le _, Nat.zero_le _⟩ hS (fun _ h => h) rfl hl.1 rfl (Nat.le_of_ble_eq_true rfl) dX2_middle_247 (fun H locs hP hS => ?_)
                    have hP : va_P D xcl (XW ad ca K g21) H := hP
                    refine lv_goto (tgt := 370) hx hb dX2_middle_250 (by decide) ?_
                    exact g_endUv (Pic := (fun u => xB D ad ca K u)) (u := g21) hF hQ hr hP hS dX2_middle_370
                  · replace hr := hr.trans (if_neg c_1_16)
                    by_cases c_1_17 : o = (17 : Int32)
                    · replace hr := hr.trans (if_pos c_1_17)
                      refine lv_tableIn (off := 252) (tgt := 253) hx hb dX2_middle_1 (by rw [c_1_17]; decide) (by rw [c_1_17]; decide) (by rw [c_1_17]; rfl) (by decide) ?_
                      refine lv_aload_n hx hb dX2_middle_253 rfl (lv_at hl 0 rfl) ?_
                      refine lv_iload_n hx hb dX2_middle_254 rfl (lv_at hl 1 rfl) ?_
                      refine lv_bipush (v := (18 : Int32)) hx hb dX2_middle_255 bp_18 ?_
                      obtain ⟨p22, ep22⟩ : ∃ z : Bool, z = (if o = (18 : Int32) then true else false) := ⟨_, rfl⟩
                      replace hr := hr.trans (bnd_eq ep22)
                      have kp22 : ∀ (H : Heap) (locs : List Loc) (ls : Array Slot), va_P D xcl (XW ad ca K d) H → va_S (xA ad) s.heap H locs → lv_has ls 10 [(0, .ref (ad 4)), (1, .int o), (2, .int sz)] → W p l e rm_X2_middle s m args below meth c H locs 0 0 Q (F0 m 265 ls [.int (b2i p22), .ref (ad 4)]) := by
                        intro H locs ls hP hS hl
                        refine lv_iload_n hx hb dX2_middle_265 rfl (lv_at hl 2 rfl) ?_
                        refine lv_aload_n hx hb dX2_middle_266 rfl (lv_at hl 0 rfl) ?_
                        refine lv_iconst (v := (0 : Int32)) hx hb dX2_middle_267 ic_0 ?_
                        refine lv_iload_n hx hb dX2_middle_268 rfl (lv_at hl 2 rfl) ?_
                        obtain ⟨g23, eg23⟩ : ∃ z, z = x_get K (0 : Int32) sz d := ⟨_, rfl⟩
                        replace hr := hr.trans (bnd_eq eg23)
                        refine g_UV1 (As := [.int (0 : Int32), .int sz]) (rest := [.int sz, .int (b2i p22), .ref (ad 4)]) hC (m_X2_get hI (K := K) (d := d) (0 : Int32) sz g23 eg23 (show ¬ ((0 : Int32) < 0 ∨ 3 ≤ (0 : Int32).toNatClampNeg) by decide) hgd) (cwV 2 hts cw_X2_160 rfl rfl rfl hd_X2_get ⟨Nat.le_of_ble_eq_true rfl, Nat.le_of_ble_eq_true rfl⟩) xKst (va_recv hK hP (ci := 2) (q0 := 4) rfl rfl) hP hKp ⟨Nat.zero_le _, Nat.zero_le _⟩ hS (fun _ h => h) rfl hl.1 rfl (Nat.le_of_ble_eq_true rfl) dX2_middle_269 (fun H locs hP hS => ?_)
                        have hP : va_P D xcl (XW ad ca K g23.2) H := hP
                        obtain ⟨g24, eg24⟩ : ∃ z, z = x_product p22 sz g23.1 g23.2 := ⟨_, rfl⟩
                        replace hr := hr.trans (bnd_eq eg24)
                        refine g_UV0 (As := [.int (b2i p22), .int sz, .long g23.1]) (rest := []) hC (m_X2_product hI (K := K) (d := g23.2) p22 sz g23.1 g24 eg24) (cwV 3 hts cw_X2_191 rfl rfl rfl hd_X2_product ⟨Nat.le_of_ble_eq_true rfl, Nat.le_of_ble_eq_true rfl⟩) xKst (va_recv hK hP (ci := 2) (q0 := 4) rfl rfl) hP hKp ⟨Nat.zero_le _, Nat.zero_le _⟩ hS (fun _ h => h) rfl hl.1 rfl (Nat.le_of_ble_eq_true rfl) dX2_middle_272 (fun H locs hP hS => ?_)
                        have hP : va_P D xcl (XW ad ca K g24) H := hP
                        refine lv_goto (tgt := 370) hx hb dX2_middle_275 (by decide) ?_
                        exact g_endUv (Pic := (fun u => xB D ad ca K u)) (u := g24) hF hQ hr hP hS dX2_middle_370
                      replace hr := ep22
                      refine lv_icmp_ne (tgt := 264) hx hb dX2_middle_257 (by decide) (fun c_257 => ?_) (fun c_257 => ?_)
                      · replace hr := hr.trans (if_neg c_257)
                        refine lv_iconst (v := (0 : Int32)) hx hb dX2_middle_264 ic_0 ?_
                        subst hr
                        exact kp22 _ _ ls hP hS (lv_sub hl [0, 1, 2] rfl)
                      · replace hr := hr.trans (if_pos c_257)
                        refine lv_iconst (v := (1 : Int32)) hx hb dX2_middle_260 ic_1 ?_
                        refine lv_goto (tgt := 265) hx hb dX2_middle_261 (by decide) ?_
                        subst hr
                        exact kp22 _ _ ls hP hS (lv_sub hl [0, 1, 2] rfl)
                    · replace hr := hr.trans (if_neg c_1_17)
                      by_cases c_1_18 : o = (18 : Int32)
                      · replace hr := hr.trans (if_pos c_1_18)
                        refine lv_tableIn (off := 252) (tgt := 253) hx hb dX2_middle_1 (by rw [c_1_18]; decide) (by rw [c_1_18]; decide) (by rw [c_1_18]; rfl) (by decide) ?_
                        refine lv_aload_n hx hb dX2_middle_253 rfl (lv_at hl 0 rfl) ?_
                        refine lv_iload_n hx hb dX2_middle_254 rfl (lv_at hl 1 rfl) ?_
                        refine lv_bipush (v := (18 : Int32)) hx hb dX2_middle_255 bp_18 ?_
                        obtain ⟨p25, ep25⟩ : ∃ z : Bool, z = (if o = (18 : Int32) then true else false) := ⟨_, rfl⟩
                        replace hr := hr.trans (bnd_eq ep25)
                        have kp25 : ∀ (H : Heap) (locs : List Loc) (ls : Array Slot), va_P D xcl (XW ad ca K d) H → va_S (xA ad) s.heap H locs → lv_has ls 10 [(0, .ref (ad 4)), (1, .int o), (2, .int sz)] → W p l e rm_X2_middle s m args below meth c H locs 0 0 Q (F0 m 265 ls [.int (b2i p25), .ref (ad 4)]) := by
                          intro H locs ls hP hS hl
                          refine lv_iload_n hx hb dX2_middle_265 rfl (lv_at hl 2 rfl) ?_
                          refine lv_aload_n hx hb dX2_middle_266 rfl (lv_at hl 0 rfl) ?_
                          refine lv_iconst (v := (0 : Int32)) hx hb dX2_middle_267 ic_0 ?_
                          refine lv_iload_n hx hb dX2_middle_268 rfl (lv_at hl 2 rfl) ?_
                          obtain ⟨g26, eg26⟩ : ∃ z, z = x_get K (0 : Int32) sz d := ⟨_, rfl⟩
                          replace hr := hr.trans (bnd_eq eg26)
                          refine g_UV1 (As := [.int (0 : Int32), .int sz]) (rest := [.int sz, .int (b2i p25), .ref (ad 4)]) hC (m_X2_get hI (K := K) (d := d) (0 : Int32) sz g26 eg26 (show ¬ ((0 : Int32) < 0 ∨ 3 ≤ (0 : Int32).toNatClampNeg) by decide) hgd) (cwV 2 hts cw_X2_160 rfl rfl rfl hd_X2_get ⟨Nat.le_of_ble_eq_true rfl, Nat.le_of_ble_eq_true rfl⟩) xKst (va_recv hK hP (ci := 2) (q0 := 4) rfl rfl) hP hKp ⟨Nat.zero_le _, Nat.zero_le _⟩ hS (fun _ h => h) rfl hl.1 rfl (Nat.le_of_ble_eq_true rfl) dX2_middle_269 (fun H locs hP hS => ?_)
                          have hP : va_P D xcl (XW ad ca K g26.2) H := hP
                          obtain ⟨g27, eg27⟩ : ∃ z, z = x_product p25 sz g26.1 g26.2 := ⟨_, rfl⟩
                          replace hr := hr.trans (bnd_eq eg27)
                          refine g_UV0 (As := [.int (b2i p25), .int sz, .long g26.1]) (rest := []) hC (m_X2_product hI (K := K) (d := g26.2) p25 sz g26.1 g27 eg27) (cwV 3 hts cw_X2_191 rfl rfl rfl hd_X2_product ⟨Nat.le_of_ble_eq_true rfl, Nat.le_of_ble_eq_true rfl⟩) xKst (va_recv hK hP (ci := 2) (q0 := 4) rfl rfl) hP hKp ⟨Nat.zero_le _, Nat.zero_le _⟩ hS (fun _ h => h) rfl hl.1 rfl (Nat.le_of_ble_eq_true rfl) dX2_middle_272 (fun H locs hP hS => ?_)
                          have hP : va_P D xcl (XW ad ca K g27) H := hP
                          refine lv_goto (tgt := 370) hx hb dX2_middle_275 (by decide) ?_
                          exact g_endUv (Pic := (fun u => xB D ad ca K u)) (u := g27) hF hQ hr hP hS dX2_middle_370
                        replace hr := ep25
                        refine lv_icmp_ne (tgt := 264) hx hb dX2_middle_257 (by decide) (fun c_257 => ?_) (fun c_257 => ?_)
                        · replace hr := hr.trans (if_neg c_257)
                          refine lv_iconst (v := (0 : Int32)) hx hb dX2_middle_264 ic_0 ?_
                          subst hr
                          exact kp25 _ _ ls hP hS (lv_sub hl [0, 1, 2] rfl)
                        · replace hr := hr.trans (if_pos c_257)
                          refine lv_iconst (v := (1 : Int32)) hx hb dX2_middle_260 ic_1 ?_
                          refine lv_goto (tgt := 265) hx hb dX2_middle_261 (by decide) ?_
                          subst hr
                          exact kp25 _ _ ls hP hS (lv_sub hl [0, 1, 2] rfl)
                      · replace hr := hr.trans (if_neg c_1_18)
                        by_cases c_1_19 : o = (19 : Int32)
                        · replace hr := hr.trans (if_pos c_1_19)
                          refine lv_tableIn (off := 277) (tgt := 278) hx hb dX2_middle_1 (by rw [c_1_19]; decide) (by rw [c_1_19]; decide) (by rw [c_1_19]; rfl) (by decide) ?_
                          refine lv_aload_n hx hb dX2_middle_278 rfl (lv_at hl 0 rfl) ?_
                          refine lv_iload_n hx hb dX2_middle_279 rfl (lv_at hl 1 rfl) ?_
                          refine lv_bipush (v := (20 : Int32)) hx hb dX2_middle_280 bp_20 ?_
                          obtain ⟨p28, ep28⟩ : ∃ z : Bool, z = (if o = (20 : Int32) then true else false) := ⟨_, rfl⟩
                          replace hr := hr.trans (bnd_eq ep28)
                          have kp28 : ∀ (H : Heap) (locs : List Loc) (ls : Array Slot), va_P D xcl (XW ad ca K d) H → va_S (xA ad) s.heap H locs → lv_has ls 10 [(0, .ref (ad 4)), (1, .int o), (2, .int sz)] → W p l e rm_X2_middle s m args below meth c H locs 0 0 Q (F0 m 290 ls [.int (b2i p28), .ref (ad 4)]) := by
                            intro H locs ls hP hS hl
                            refine lv_iload_n hx hb dX2_middle_290 rfl (lv_at hl 2 rfl) ?_
                            refine lv_aload_n hx hb dX2_middle_291 rfl (lv_at hl 0 rfl) ?_
                            refine lv_iconst (v := (0 : Int32)) hx hb dX2_middle_292 ic_0 ?_
                            refine lv_iload_n hx hb dX2_middle_293 rfl (lv_at hl 2 rfl) ?_
                            obtain ⟨g29, eg29⟩ : ∃ z, z = x_get K (0 : Int32) sz d := ⟨_, rfl⟩
                            replace hr := hr.trans (bnd_eq eg29)
                            refine g_UV1 (As := [.int (0 : Int32), .int sz]) (rest := [.int sz, .int (b2i p28), .ref (ad 4)]) hC (m_X2_get hI (K := K) (d := d) (0 : Int32) sz g29 eg29 (show ¬ ((0 : Int32) < 0 ∨ 3 ≤ (0 : Int32).toNatClampNeg) by decide) hgd) (cwV 2 hts cw_X2_160 rfl rfl rfl hd_X2_get ⟨Nat.le_of_ble_eq_true rfl, Nat.le_of_ble_eq_true rfl⟩) xKst (va_recv hK hP (ci := 2) (q0 := 4) rfl rfl) hP hKp ⟨Nat.zero_le _, Nat.zero_le _⟩ hS (fun _ h => h) rfl hl.1 rfl (Nat.le_of_ble_eq_true rfl) dX2_middle_294 (fun H locs hP hS => ?_)
                            have hP : va_P D xcl (XW ad ca K g29.2) H := hP
                            obtain ⟨g30, eg30⟩ : ∃ z, z = x_quotient p28 sz g29.1 g29.2 := ⟨_, rfl⟩
                            replace hr := hr.trans (bnd_eq eg30)
                            refine g_UV0 (As := [.int (b2i p28), .int sz, .long g29.1]) (rest := []) hC (m_X2_quotient hI (K := K) (d := g29.2) p28 sz g29.1 g30 eg30 (xsg_of hsg eg29)) (cwV 3 hts cw_X2_195 rfl rfl rfl hd_X2_quotient ⟨Nat.le_of_ble_eq_true rfl, Nat.le_of_ble_eq_true rfl⟩) xKst (va_recv hK hP (ci := 2) (q0 := 4) rfl rfl) hP hKp ⟨Nat.zero_le _, Nat.zero_le _⟩ hS (fun _ h => h) rfl hl.1 rfl (Nat.le_of_ble_eq_true rfl) dX2_middle_297 (fun H locs hP hS => ?_)
                            have hP : va_P D xcl (XW ad ca K g30) H := hP
                            refine lv_goto (tgt := 370) hx hb dX2_middle_300 (by decide) ?_
                            exact g_endUv (Pic := (fun u => xB D ad ca K u)) (u := g30) hF hQ hr hP hS dX2_middle_370
                          replace hr := ep28
                          refine lv_icmp_ne (tgt := 289) hx hb dX2_middle_282 (by decide) (fun c_282 => ?_) (fun c_282 => ?_)
                          · replace hr := hr.trans (if_neg c_282)
                            refine lv_iconst (v := (0 : Int32)) hx hb dX2_middle_289 ic_0 ?_
                            subst hr
                            exact kp28 _ _ ls hP hS (lv_sub hl [0, 1, 2] rfl)
                          · replace hr := hr.trans (if_pos c_282)
                            refine lv_iconst (v := (1 : Int32)) hx hb dX2_middle_285 ic_1 ?_
                            refine lv_goto (tgt := 290) hx hb dX2_middle_286 (by decide) ?_
                            subst hr
                            exact kp28 _ _ ls hP hS (lv_sub hl [0, 1, 2] rfl)
                        · replace hr := hr.trans (if_neg c_1_19)
                          by_cases c_1_20 : o = (20 : Int32)
                          · replace hr := hr.trans (if_pos c_1_20)
                            refine lv_tableIn (off := 277) (tgt := 278) hx hb dX2_middle_1 (by rw [c_1_20]; decide) (by rw [c_1_20]; decide) (by rw [c_1_20]; rfl) (by decide) ?_
                            refine lv_aload_n hx hb dX2_middle_278 rfl (lv_at hl 0 rfl) ?_
                            refine lv_iload_n hx hb dX2_middle_279 rfl (lv_at hl 1 rfl) ?_
                            refine lv_bipush (v := (20 : Int32)) hx hb dX2_middle_280 bp_20 ?_
                            obtain ⟨p31, ep31⟩ : ∃ z : Bool, z = (if o = (20 : Int32) then true else false) := ⟨_, rfl⟩
                            replace hr := hr.trans (bnd_eq ep31)
                            have kp31 : ∀ (H : Heap) (locs : List Loc) (ls : Array Slot), va_P D xcl (XW ad ca K d) H → va_S (xA ad) s.heap H locs → lv_has ls 10 [(0, .ref (ad 4)), (1, .int o), (2, .int sz)] → W p l e rm_X2_middle s m args below meth c H locs 0 0 Q (F0 m 290 ls [.int (b2i p31), .ref (ad 4)]) := by
                              intro H locs ls hP hS hl
                              refine lv_iload_n hx hb dX2_middle_290 rfl (lv_at hl 2 rfl) ?_
                              refine lv_aload_n hx hb dX2_middle_291 rfl (lv_at hl 0 rfl) ?_
                              refine lv_iconst (v := (0 : Int32)) hx hb dX2_middle_292 ic_0 ?_
                              refine lv_iload_n hx hb dX2_middle_293 rfl (lv_at hl 2 rfl) ?_
                              obtain ⟨g32, eg32⟩ : ∃ z, z = x_get K (0 : Int32) sz d := ⟨_, rfl⟩
                              replace hr := hr.trans (bnd_eq eg32)
                              refine g_UV1 (As := [.int (0 : Int32), .int sz]) (rest := [.int sz, .int (b2i p31), .ref (ad 4)]) hC (m_X2_get hI (K := K) (d := d) (0 : Int32) sz g32 eg32 (show ¬ ((0 : Int32) < 0 ∨ 3 ≤ (0 : Int32).toNatClampNeg) by decide) hgd) (cwV 2 hts cw_X2_160 rfl rfl rfl hd_X2_get ⟨Nat.le_of_ble_eq_true rfl, Nat.le_of_ble_eq_true rfl⟩) xKst (va_recv hK hP (ci := 2) (q0 := 4) rfl rfl) hP hKp ⟨Nat.zero_le _, Nat.zero_le _⟩ hS (fun _ h => h) rfl hl.1 rfl (Nat.le_of_ble_eq_true rfl) dX2_middle_294 (fun H locs hP hS => ?_)
                              have hP : va_P D xcl (XW ad ca K g32.2) H := hP
                              obtain ⟨g33, eg33⟩ : ∃ z, z = x_quotient p31 sz g32.1 g32.2 := ⟨_, rfl⟩
                              replace hr := hr.trans (bnd_eq eg33)
                              refine g_UV0 (As := [.int (b2i p31), .int sz, .long g32.1]) (rest := []) hC (m_X2_quotient hI (K := K) (d := g32.2) p31 sz g32.1 g33 eg33 (xsg_of hsg eg32)) (cwV 3 hts cw_X2_195 rfl rfl rfl hd_X2_quotient ⟨Nat.le_of_ble_eq_true rfl, Nat.le_of_ble_eq_true rfl⟩) xKst (va_recv hK hP (ci := 2) (q0 := 4) rfl rfl) hP hKp ⟨Nat.zero_le _, Nat.zero_le _⟩ hS (fun _ h => h) rfl hl.1 rfl (Nat.le_of_ble_eq_true rfl) dX2_middle_297 (fun H locs hP hS => ?_)
                              have hP : va_P D xcl (XW ad ca K g33) H := hP
                              refine lv_goto (tgt := 370) hx hb dX2_middle_300 (by decide) ?_
                              exact g_endUv (Pic := (fun u => xB D ad ca K u)) (u := g33) hF hQ hr hP hS dX2_middle_370
                            replace hr := ep31
                            refine lv_icmp_ne (tgt := 289) hx hb dX2_middle_282 (by decide) (fun c_282 => ?_) (fun c_282 => ?_)
                            · replace hr := hr.trans (if_neg c_282)
                              refine lv_iconst (v := (0 : Int32)) hx hb dX2_middle_289 ic_0 ?_
                              subst hr
                              exact kp31 _ _ ls hP hS (lv_sub hl [0, 1, 2] rfl)
                            · replace hr := hr.trans (if_pos c_282)
                              refine lv_iconst (v := (1 : Int32)) hx hb dX2_middle_285 ic_1 ?_
                              refine lv_goto (tgt := 290) hx hb dX2_middle_286 (by decide) ?_
                              subst hr
                              exact kp31 _ _ ls hP hS (lv_sub hl [0, 1, 2] rfl)
                          · replace hr := hr.trans (if_neg c_1_20)
                            by_cases c_1_21 : o = (21 : Int32)
                            · replace hr := hr.trans (if_pos c_1_21)
                              refine lv_tableIn (off := 302) (tgt := 303) hx hb dX2_middle_1 (by rw [c_1_21]; decide) (by rw [c_1_21]; decide) (by rw [c_1_21]; rfl) (by decide) ?_
                              refine lv_aload_n hx hb dX2_middle_303 rfl (lv_at hl 0 rfl) ?_
                              refine lv_iconst (v := (1 : Int32)) hx hb dX2_middle_304 ic_1 ?_
                              refine g_RV (As := [.int (1 : Int32)]) (rest := []) hC (m_X2_is (K := K) (d := d) (1 : Int32) _ rfl) (cwV 1 hts cw_X2_142 rfl rfl rfl hd_X2_is ⟨Nat.le_of_ble_eq_true rfl, Nat.le_of_ble_eq_true rfl⟩) xKst (va_recv hK hP (ci := 2) (q0 := 4) rfl rfl) hP hKp ⟨Nat.zero_le _, Nat.zero_le _⟩ rfl hl.1 rfl (Nat.le_of_ble_eq_true rfl) dX2_middle_305 ?_
                              obtain ⟨b34, eb34⟩ : ∃ z : Bool, z = (x_is (1 : Int32) d) := ⟨_, rfl⟩
                              rw [← eb34]
                              replace hr := hr.trans (bnd_eq eb34)
                              refine lv_istore (lv' := [(7, .int (b2i b34)), (0, .ref (ad 4)), (1, .int o), (2, .int sz)]) hx hb dX2_middle_308 hl (by decide) rfl (fun ls hl => ?_)
                              refine lv_iload_n hx hb dX2_middle_310 rfl (lv_at hl 2 rfl) ?_
                              refine lv_bipush (v := (21 : Int32)) hx hb dX2_middle_311 bp_21 ?_
                              obtain ⟨p35, ep35⟩ : ∃ z : Int64 × XD, z = (if o = (21 : Int32) then (bnd (x_get K (0 : Int32) sz d) fun g38 => bnd (x_sum g38.1 (1 : Int64) false sz g38.2) fun g39 => (g39.1, g39.2)) else (bnd (x_get K (0 : Int32) sz d) fun g36 => bnd (x_difference g36.1 (1 : Int64) false sz g36.2) fun g37 => (g37.1, g37.2))) := ⟨_, rfl⟩
                              replace hr := hr.trans (bnd_eq ep35)
                              have kp35 : ∀ (H : Heap) (locs : List Loc) (ls : Array Slot), va_P D xcl (XW ad ca K p35.2) H → va_S (xA ad) s.heap H locs → lv_has ls 10 [(7, .int (b2i b34)), (0, .ref (ad 4)), (1, .int o), (2, .int sz)] → W p l e rm_X2_middle s m args below meth c H locs 0 0 Q (F0 m 345 ls [.long p35.1]) := by
                                intro H locs ls hP hS hl
                                refine lv_lstore (lv' := [(8, .long p35.1), (7, .int (b2i b34)), (0, .ref (ad 4)), (1, .int o), (2, .int sz)]) hx hb dX2_middle_345 hl (by decide) rfl (fun ls hl => ?_)
                                refine lv_aload_n hx hb dX2_middle_347 rfl (lv_at hl 2 rfl) ?_
                                refine lv_iconst (v := (1 : Int32)) hx hb dX2_middle_348 ic_1 ?_
                                refine lv_iload hx hb dX2_middle_349 (lv_at hl 1 rfl) ?_
                                obtain ⟨g40, eg40⟩ : ∃ z, z = x_mark (1 : Int32) b34 p35.2 := ⟨_, rfl⟩
                                replace hr := hr.trans (bnd_eq eg40)
                                refine g_UV0 (As := [.int (1 : Int32), .int (b2i b34)]) (rest := []) hC (m_X2_mark hI (K := K) (d := p35.2) (1 : Int32) b34 g40 eg40) (cwV 2 hts cw_X2_125 rfl rfl rfl hd_X2_mark ⟨Nat.le_of_ble_eq_true rfl, Nat.le_of_ble_eq_true rfl⟩) xKst (va_recv hK hP (ci := 2) (q0 := 4) rfl rfl) hP hKp ⟨Nat.zero_le _, Nat.zero_le _⟩ hS (fun _ h => h) rfl hl.1 rfl (Nat.le_of_ble_eq_true rfl) dX2_middle_351 (fun H locs hP hS => ?_)
                                have hP : va_P D xcl (XW ad ca K g40) H := hP
                                refine lv_aload_n hx hb dX2_middle_354 rfl (lv_at hl 2 rfl) ?_
                                refine lv_iconst (v := (0 : Int32)) hx hb dX2_middle_355 ic_0 ?_
                                refine lv_iload_n hx hb dX2_middle_356 rfl (lv_at hl 4 rfl) ?_
                                refine lv_lload hx hb dX2_middle_357 (lv_at hl 0 rfl) ?_
                                obtain ⟨g41, eg41⟩ : ∃ z, z = x_put K (0 : Int32) sz p35.1 g40 := ⟨_, rfl⟩
                                replace hr := hr.trans (bnd_eq eg41)
                                refine g_UV0 (As := [.int (0 : Int32), .int sz, .long p35.1]) (rest := []) hC (m_X2_put hI (K := K) (d := g40) (0 : Int32) sz p35.1 g41 eg41 (show ¬ ((0 : Int32) < 0 ∨ 3 ≤ (0 : Int32).toNatClampNeg) by decide) hgd) (cwV 3 hts cw_X2_188 rfl rfl rfl hd_X2_put ⟨Nat.le_of_ble_eq_true rfl, Nat.le_of_ble_eq_true rfl⟩) xKst (va_recv hK hP (ci := 2) (q0 := 4) rfl rfl) hP hKp ⟨Nat.zero_le _, Nat.zero_le _⟩ hS (fun _ h => h) rfl hl.1 rfl (Nat.le_of_ble_eq_true rfl) dX2_middle_359 (fun H locs hP hS => ?_)
                                have hP : va_P D xcl (XW ad ca K g41) H := hP
                                refine lv_goto (tgt := 370) hx hb dX2_middle_362 (by decide) ?_
                                exact g_endUv (Pic := (fun u => xB D ad ca K u)) (u := g41) hF hQ hr hP hS dX2_middle_370
                              replace hr := ep35
                              refine lv_icmp_ne (tgt := 332) hx hb dX2_middle_313 (by decide) (fun c_313 => ?_) (fun c_313 => ?_)
                              · replace hr := hr.trans (if_neg c_313)
                                refine lv_aload_n hx hb dX2_middle_332 rfl (lv_at hl 1 rfl) ?_
                                refine lv_aload_n hx hb dX2_middle_333 rfl (lv_at hl 1 rfl) ?_
                                refine lv_iconst (v := (0 : Int32)) hx hb dX2_middle_334 ic_0 ?_
                                refine lv_iload_n hx hb dX2_middle_335 rfl (lv_at hl 3 rfl) ?_
                                obtain ⟨g36, eg36⟩ : ∃ z, z = x_get K (0 : Int32) sz d := ⟨_, rfl⟩
                                replace hr := hr.trans (bnd_eq eg36)
                                refine g_UV1 (As := [.int (0 : Int32), .int sz]) (rest := [.ref (ad 4)]) hC (m_X2_get hI (K := K) (d := d) (0 : Int32) sz g36 eg36 (show ¬ ((0 : Int32) < 0 ∨ 3 ≤ (0 : Int32).toNatClampNeg) by decide) hgd) (cwV 2 hts cw_X2_160 rfl rfl rfl hd_X2_get ⟨Nat.le_of_ble_eq_true rfl, Nat.le_of_ble_eq_true rfl⟩) xKst (va_recv hK hP (ci := 2) (q0 := 4) rfl rfl) hP hKp ⟨Nat.zero_le _, Nat.zero_le _⟩ hS (fun _ h => h) rfl hl.1 rfl (Nat.le_of_ble_eq_true rfl) dX2_middle_336 (fun H locs hP hS => ?_)
                                have hP : va_P D xcl (XW ad ca K g36.2) H := hP
                                refine lv_lconst (v := (1 : Int64)) hx hb dX2_middle_339 lc_1 ?_
                                refine lv_iconst (v := (0 : Int32)) hx hb dX2_middle_340 ic_0 ?_
                                refine lv_iload_n hx hb dX2_middle_341 rfl (lv_at hl 3 rfl) ?_
                                obtain ⟨g37, eg37⟩ : ∃ z, z = x_difference g36.1 (1 : Int64) false sz g36.2 := ⟨_, rfl⟩
                                replace hr := hr.trans (bnd_eq eg37)
                                refine g_UV1 (As := [.long g36.1, .long (1 : Int64), .int (b2i false), .int sz]) (rest := []) hC (m_X2_difference hI (K := K) (d := g36.2) g36.1 (1 : Int64) false sz g37 eg37) (cwV 4 hts cw_X2_181 rfl rfl rfl hd_X2_difference ⟨Nat.le_of_ble_eq_true rfl, Nat.le_of_ble_eq_true rfl⟩) xKst (va_recv hK hP (ci := 2) (q0 := 4) rfl rfl) hP hKp ⟨Nat.zero_le _, Nat.zero_le _⟩ hS (fun _ h => h) rfl hl.1 rfl (Nat.le_of_ble_eq_true rfl) dX2_middle_342 (fun H locs hP hS => ?_)
                                have hP : va_P D xcl (XW ad ca K g37.2) H := hP
                                subst hr
                                exact kp35 _ _ ls hP hS (lv_sub hl [0, 1, 2, 3] rfl)
                              · replace hr := hr.trans (if_pos c_313)
                                refine lv_aload_n hx hb dX2_middle_316 rfl (lv_at hl 1 rfl) ?_
                                refine lv_aload_n hx hb dX2_middle_317 rfl (lv_at hl 1 rfl) ?_
                                refine lv_iconst (v := (0 : Int32)) hx hb dX2_middle_318 ic_0 ?_
                                refine lv_iload_n hx hb dX2_middle_319 rfl (lv_at hl 3 rfl) ?_
                                obtain ⟨g38, eg38⟩ : ∃ z, z = x_get K (0 : Int32) sz d := ⟨_, rfl⟩
                                replace hr := hr.trans (bnd_eq eg38)
                                refine g_UV1 (As := [.int (0 : Int32), .int sz]) (rest := [.ref (ad 4)]) hC (m_X2_get hI (K := K) (d := d) (0 : Int32) sz g38 eg38 (show ¬ ((0 : Int32) < 0 ∨ 3 ≤ (0 : Int32).toNatClampNeg) by decide) hgd) (cwV 2 hts cw_X2_160 rfl rfl rfl hd_X2_get ⟨Nat.le_of_ble_eq_true rfl, Nat.le_of_ble_eq_true rfl⟩) xKst (va_recv hK hP (ci := 2) (q0 := 4) rfl rfl) hP hKp ⟨Nat.zero_le _, Nat.zero_le _⟩ hS (fun _ h => h) rfl hl.1 rfl (Nat.le_of_ble_eq_true rfl) dX2_middle_320 (fun H locs hP hS => ?_)
                                have hP : va_P D xcl (XW ad ca K g38.2) H := hP
                                refine lv_lconst (v := (1 : Int64)) hx hb dX2_middle_323 lc_1 ?_
                                refine lv_iconst (v := (0 : Int32)) hx hb dX2_middle_324 ic_0 ?_
                                refine lv_iload_n hx hb dX2_middle_325 rfl (lv_at hl 3 rfl) ?_
                                obtain ⟨g39, eg39⟩ : ∃ z, z = x_sum g38.1 (1 : Int64) false sz g38.2 := ⟨_, rfl⟩
                                replace hr := hr.trans (bnd_eq eg39)
                                refine g_UV1 (As := [.long g38.1, .long (1 : Int64), .int (b2i false), .int sz]) (rest := []) hC (m_X2_sum hI (K := K) (d := g38.2) g38.1 (1 : Int64) false sz g39 eg39) (cwV 4 hts cw_X2_177 rfl rfl rfl hd_X2_sum ⟨Nat.le_of_ble_eq_true rfl, Nat.le_of_ble_eq_true rfl⟩) xKst (va_recv hK hP (ci := 2) (q0 := 4) rfl rfl) hP hKp ⟨Nat.zero_le _, Nat.zero_le _⟩ hS (fun _ h => h) rfl hl.1 rfl (Nat.le_of_ble_eq_true rfl) dX2_middle_326 (fun H locs hP hS => ?_)
                                have hP : va_P D xcl (XW ad ca K g39.2) H := hP
                                refine lv_goto (tgt := 345) hx hb dX2_middle_329 (by decide) ?_
                                subst hr
                                exact kp35 _ _ ls hP hS (lv_sub hl [0, 1, 2, 3] rfl)
                            · replace hr := hr.trans (if_neg c_1_21)
                              by_cases c_1_22 : o = (22 : Int32)
                              · replace hr := hr.trans (if_pos c_1_22)
                                refine lv_tableIn (off := 302) (tgt := 303) hx hb dX2_middle_1 (by rw [c_1_22]; decide) (by rw [c_1_22]; decide) (by rw [c_1_22]; rfl) (by decide) ?_
                                refine lv_aload_n hx hb dX2_middle_303 rfl (lv_at hl 0 rfl) ?_
                                refine lv_iconst (v := (1 : Int32)) hx hb dX2_middle_304 ic_1 ?_
                                refine g_RV (As := [.int (1 : Int32)]) (rest := []) hC (m_X2_is (K := K) (d := d) (1 : Int32) _ rfl) (cwV 1 hts cw_X2_142 rfl rfl rfl hd_X2_is ⟨Nat.le_of_ble_eq_true rfl, Nat.le_of_ble_eq_true rfl⟩) xKst (va_recv hK hP (ci := 2) (q0 := 4) rfl rfl) hP hKp ⟨Nat.zero_le _, Nat.zero_le _⟩ rfl hl.1 rfl (Nat.le_of_ble_eq_true rfl) dX2_middle_305 ?_
                                obtain ⟨b42, eb42⟩ : ∃ z : Bool, z = (x_is (1 : Int32) d) := ⟨_, rfl⟩
                                rw [← eb42]
                                replace hr := hr.trans (bnd_eq eb42)
                                refine lv_istore (lv' := [(7, .int (b2i b42)), (0, .ref (ad 4)), (1, .int o), (2, .int sz)]) hx hb dX2_middle_308 hl (by decide) rfl (fun ls hl => ?_)
                                refine lv_iload_n hx hb dX2_middle_310 rfl (lv_at hl 2 rfl) ?_
                                refine lv_bipush (v := (21 : Int32)) hx hb dX2_middle_311 bp_21 ?_
                                obtain ⟨p43, ep43⟩ : ∃ z : Int64 × XD, z = (if o = (21 : Int32) then (bnd (x_get K (0 : Int32) sz d) fun g46 => bnd (x_sum g46.1 (1 : Int64) false sz g46.2) fun g47 => (g47.1, g47.2)) else (bnd (x_get K (0 : Int32) sz d) fun g44 => bnd (x_difference g44.1 (1 : Int64) false sz g44.2) fun g45 => (g45.1, g45.2))) := ⟨_, rfl⟩
                                replace hr := hr.trans (bnd_eq ep43)
                                have kp43 : ∀ (H : Heap) (locs : List Loc) (ls : Array Slot), va_P D xcl (XW ad ca K p43.2) H → va_S (xA ad) s.heap H locs → lv_has ls 10 [(7, .int (b2i b42)), (0, .ref (ad 4)), (1, .int o), (2, .int sz)] → W p l e rm_X2_middle s m args below meth c H locs 0 0 Q (F0 m 345 ls [.long p43.1]) := by
                                  intro H locs ls hP hS hl
                                  refine lv_lstore (lv' := [(8, .long p43.1), (7, .int (b2i b42)), (0, .ref (ad 4)), (1, .int o), (2, .int sz)]) hx hb dX2_middle_345 hl (by decide) rfl (fun ls hl => ?_)
                                  refine lv_aload_n hx hb dX2_middle_347 rfl (lv_at hl 2 rfl) ?_
                                  refine lv_iconst (v := (1 : Int32)) hx hb dX2_middle_348 ic_1 ?_
                                  refine lv_iload hx hb dX2_middle_349 (lv_at hl 1 rfl) ?_
                                  obtain ⟨g48, eg48⟩ : ∃ z, z = x_mark (1 : Int32) b42 p43.2 := ⟨_, rfl⟩
                                  replace hr := hr.trans (bnd_eq eg48)
                                  refine g_UV0 (As := [.int (1 : Int32), .int (b2i b42)]) (rest := []) hC (m_X2_mark hI (K := K) (d := p43.2) (1 : Int32) b42 g48 eg48) (cwV 2 hts cw_X2_125 rfl rfl rfl hd_X2_mark ⟨Nat.le_of_ble_eq_true rfl, Nat.le_of_ble_eq_true rfl⟩) xKst (va_recv hK hP (ci := 2) (q0 := 4) rfl rfl) hP hKp ⟨Nat.zero_le _, Nat.zero_le _⟩ hS (fun _ h => h) rfl hl.1 rfl (Nat.le_of_ble_eq_true rfl) dX2_middle_351 (fun H locs hP hS => ?_)
                                  have hP : va_P D xcl (XW ad ca K g48) H := hP
                                  refine lv_aload_n hx hb dX2_middle_354 rfl (lv_at hl 2 rfl) ?_
                                  refine lv_iconst (v := (0 : Int32)) hx hb dX2_middle_355 ic_0 ?_
                                  refine lv_iload_n hx hb dX2_middle_356 rfl (lv_at hl 4 rfl) ?_
                                  refine lv_lload hx hb dX2_middle_357 (lv_at hl 0 rfl) ?_
                                  obtain ⟨g49, eg49⟩ : ∃ z, z = x_put K (0 : Int32) sz p43.1 g48 := ⟨_, rfl⟩
                                  replace hr := hr.trans (bnd_eq eg49)
                                  refine g_UV0 (As := [.int (0 : Int32), .int sz, .long p43.1]) (rest := []) hC (m_X2_put hI (K := K) (d := g48) (0 : Int32) sz p43.1 g49 eg49 (show ¬ ((0 : Int32) < 0 ∨ 3 ≤ (0 : Int32).toNatClampNeg) by decide) hgd) (cwV 3 hts cw_X2_188 rfl rfl rfl hd_X2_put ⟨Nat.le_of_ble_eq_true rfl, Nat.le_of_ble_eq_true rfl⟩) xKst (va_recv hK hP (ci := 2) (q0 := 4) rfl rfl) hP hKp ⟨Nat.zero_le _, Nat.zero_le _⟩ hS (fun _ h => h) rfl hl.1 rfl (Nat.le_of_ble_eq_true rfl) dX2_middle_359 (fun H locs hP hS => ?_)
                                  have hP : va_P D xcl (XW ad ca K g49) H := hP
                                  refine lv_goto (tgt := 370) hx hb dX2_middle_362 (by decide) ?_
                                  exact g_endUv (Pic := (fun u => xB D ad ca K u)) (u := g49) hF hQ hr hP hS dX2_middle_370
                                replace hr := ep43
                                refine lv_icmp_ne (tgt := 332) hx hb dX2_middle_313 (by decide) (fun c_313 => ?_) (fun c_313 => ?_)
                                · replace hr := hr.trans (if_neg c_313)
                                  refine lv_aload_n hx hb dX2_middle_332 rfl (lv_at hl 1 rfl) ?_
                                  refine lv_aload_n hx hb dX2_middle_333 rfl (lv_at hl 1 rfl) ?_
                                  refine lv_iconst (v := (0 : Int32)) hx hb dX2_middle_334 ic_0 ?_
                                  refine lv_iload_n hx hb dX2_middle_335 rfl (lv_at hl 3 rfl) ?_
                                  obtain ⟨g44, eg44⟩ : ∃ z, z = x_get K (0 : Int32) sz d := ⟨_, rfl⟩
                                  replace hr := hr.trans (bnd_eq eg44)
                                  refine g_UV1 (As := [.int (0 : Int32), .int sz]) (rest := [.ref (ad 4)]) hC (m_X2_get hI (K := K) (d := d) (0 : Int32) sz g44 eg44 (show ¬ ((0 : Int32) < 0 ∨ 3 ≤ (0 : Int32).toNatClampNeg) by decide) hgd) (cwV 2 hts cw_X2_160 rfl rfl rfl hd_X2_get ⟨Nat.le_of_ble_eq_true rfl, Nat.le_of_ble_eq_true rfl⟩) xKst (va_recv hK hP (ci := 2) (q0 := 4) rfl rfl) hP hKp ⟨Nat.zero_le _, Nat.zero_le _⟩ hS (fun _ h => h) rfl hl.1 rfl (Nat.le_of_ble_eq_true rfl) dX2_middle_336 (fun H locs hP hS => ?_)
                                  have hP : va_P D xcl (XW ad ca K g44.2) H := hP
                                  refine lv_lconst (v := (1 : Int64)) hx hb dX2_middle_339 lc_1 ?_
                                  refine lv_iconst (v := (0 : Int32)) hx hb dX2_middle_340 ic_0 ?_
                                  refine lv_iload_n hx hb dX2_middle_341 rfl (lv_at hl 3 rfl) ?_
                                  obtain ⟨g45, eg45⟩ : ∃ z, z = x_difference g44.1 (1 : Int64) false sz g44.2 := ⟨_, rfl⟩
                                  replace hr := hr.trans (bnd_eq eg45)
                                  refine g_UV1 (As := [.long g44.1, .long (1 : Int64), .int (b2i false), .int sz]) (rest := []) hC (m_X2_difference hI (K := K) (d := g44.2) g44.1 (1 : Int64) false sz g45 eg45) (cwV 4 hts cw_X2_181 rfl rfl rfl hd_X2_difference ⟨Nat.le_of_ble_eq_true rfl, Nat.le_of_ble_eq_true rfl⟩) xKst (va_recv hK hP (ci := 2) (q0 := 4) rfl rfl) hP hKp ⟨Nat.zero_le _, Nat.zero_le _⟩ hS (fun _ h => h) rfl hl.1 rfl (Nat.le_of_ble_eq_true rfl) dX2_middle_342 (fun H locs hP hS => ?_)
                                  have hP : va_P D xcl (XW ad ca K g45.2) H := hP
                                  subst hr
                                  exact kp43 _ _ ls hP hS (lv_sub hl [0, 1, 2, 3] rfl)
                                · replace hr := hr.trans (if_pos c_313)
                                  refine lv_aload_n hx hb dX2_middle_316 rfl (lv_at hl 1 rfl) ?_
                                  refine lv_aload_n hx hb dX2_middle_317 rfl (lv_at hl 1 rfl) ?_
                                  refine lv_iconst (v := (0 : Int32)) hx hb dX2_middle_318 ic_0 ?_
                                  refine lv_iload_n hx hb dX2_middle_319 rfl (lv_at hl 3 rfl) ?_
                                  obtain ⟨g46, eg46⟩ : ∃ z, z = x_get K (0 : Int32) sz d := ⟨_, rfl⟩
                                  replace hr := hr.trans (bnd_eq eg46)
                                  refine g_UV1 (As := [.int (0 : Int32), .int sz]) (rest := [.ref (ad 4)]) hC (m_X2_get hI (K := K) (d := d) (0 : Int32) sz g46 eg46 (show ¬ ((0 : Int32) < 0 ∨ 3 ≤ (0 : Int32).toNatClampNeg) by decide) hgd) (cwV 2 hts cw_X2_160 rfl rfl rfl hd_X2_get ⟨Nat.le_of_ble_eq_true rfl, Nat.le_of_ble_eq_true rfl⟩) xKst (va_recv hK hP (ci := 2) (q0 := 4) rfl rfl) hP hKp ⟨Nat.zero_le _, Nat.zero_le _⟩ hS (fun _ h => h) rfl hl.1 rfl (Nat.le_of_ble_eq_true rfl) dX2_middle_320 (fun H locs hP hS => ?_)
                                  have hP : va_P D xcl (XW ad ca K g46.2) H := hP
                                  refine lv_lconst (v := (1 : Int64)) hx hb dX2_middle_323 lc_1 ?_
                                  refine lv_iconst (v := (0 : Int32)) hx hb dX2_middle_324 ic_0 ?_
                                  refine lv_iload_n hx hb dX2_middle_325 rfl (lv_at hl 3 rfl) ?_
                                  obtain ⟨g47, eg47⟩ : ∃ z, z = x_sum g46.1 (1 : Int64) false sz g46.2 := ⟨_, rfl⟩
                                  replace hr := hr.trans (bnd_eq eg47)
                                  refine g_UV1 (As := [.long g46.1, .long (1 : Int64), .int (b2i false), .int sz]) (rest := []) hC (m_X2_sum hI (K := K) (d := g46.2) g46.1 (1 : Int64) false sz g47 eg47) (cwV 4 hts cw_X2_177 rfl rfl rfl hd_X2_sum ⟨Nat.le_of_ble_eq_true rfl, Nat.le_of_ble_eq_true rfl⟩) xKst (va_recv hK hP (ci := 2) (q0 := 4) rfl rfl) hP hKp ⟨Nat.zero_le _, Nat.zero_le _⟩ hS (fun _ h => h) rfl hl.1 rfl (Nat.le_of_ble_eq_true rfl) dX2_middle_326 (fun H locs hP hS => ?_)
                                  have hP : va_P D xcl (XW ad ca K g47.2) H := hP
                                  refine lv_goto (tgt := 345) hx hb dX2_middle_329 (by decide) ?_
                                  subst hr
                                  exact kp43 _ _ ls hP hS (lv_sub hl [0, 1, 2, 3] rfl)
                              · replace hr := hr.trans (if_neg c_1_22)
                                refine lv_tableOut (tgt := 365) hx hb dX2_middle_1 (by have z8 := lv_neT c_1_8 (a := 8) (by decide); have z9 := lv_neT c_1_9 (a := 9) (by decide); have z10 := lv_neT c_1_10 (a := 10) (by decide); have z11 := lv_neT c_1_11 (a := 11) (by decide); have z12 := lv_neT c_1_12 (a := 12) (by decide); have z13 := lv_neT c_1_13 (a := 13) (by decide); have z14 := lv_neT c_1_14 (a := 14) (by decide); have z15 := lv_neT c_1_15 (a := 15) (by decide); have z16 := lv_neT c_1_16 (a := 16) (by decide); have z17 := lv_neT c_1_17 (a := 17) (by decide); have z18 := lv_neT c_1_18 (a := 18) (by decide); have z19 := lv_neT c_1_19 (a := 19) (by decide); have z20 := lv_neT c_1_20 (a := 20) (by decide); have z21 := lv_neT c_1_21 (a := 21) (by decide); have z22 := lv_neT c_1_22 (a := 22) (by decide); omega) (by decide) ?_
                                refine lv_aload_n hx hb dX2_middle_365 rfl (lv_at hl 0 rfl) ?_
                                refine lv_iload_n hx hb dX2_middle_366 rfl (lv_at hl 2 rfl) ?_
                                obtain ⟨g50, eg50⟩ : ∃ z, z = x_times K sz d := ⟨_, rfl⟩
                                replace hr := hr.trans (bnd_eq eg50)
                                refine g_UV0 (As := [.int sz]) (rest := []) hC (m_X2_times hI (K := K) (d := d) sz g50 eg50 hgd) (cwV 1 hts cw_X2_198 rfl rfl rfl hd_X2_times ⟨Nat.le_of_ble_eq_true rfl, Nat.le_of_ble_eq_true rfl⟩) xKst (va_recv hK hP (ci := 2) (q0 := 4) rfl rfl) hP hKp ⟨Nat.zero_le _, Nat.zero_le _⟩ hS (fun _ h => h) rfl hl.1 rfl (Nat.le_of_ble_eq_true rfl) dX2_middle_367 (fun H locs hP hS => ?_)
                                have hP : va_P D xcl (XW ad ca K g50) H := hP
                                exact g_endUv (Pic := (fun u => xB D ad ca K u)) (u := g50) hF hQ hr hP hS dX2_middle_370
def x_perform (K : XK) (d : XD) : (XK × XD) := if (8 : Int32) ≤ (kx_op K) then (if (24 : Int32) ≤ (kx_op K) then (if (29 : Int32) ≤ (kx_op K) then (if (37 : Int32) ≤ (kx_op K) then (if (50 : Int32) ≤ (kx_op K) then (bnd (x_string K (kx_op K) (kx_size K) d) fun g1 => (K, g1)) else (bnd (x_others K (kx_op K) (kx_size K) d) fun g2 => (g2.1, g2.2))) else (bnd (x_flow K (kx_op K) (kx_size K) d) fun g3 => (K, g3))) else (bnd (x_get K (0 : Int32) (kx_size K) d) fun g4 => bnd (x_get K (1 : Int32) (1 : Int32) g4.2) fun g5 => bnd (x_shift K (kx_op K) (kx_size K) g4.1 (g5.1.toInt32) g5.2) fun g6 => (K, g6))) else (bnd (x_middle K (kx_op K) (kx_size K) d) fun g7 => (K, g7))) else (bnd (x_arithmetic K (kx_op K) (kx_size K) d) fun g8 => (K, g8))
abbrev rm_X2_perform : Room := { frames := 7, cells := 0, slots := 0, locals := 182 }
set_option maxHeartbeats 4000000 in
set_option maxRecDepth 100000 in
theorem m_X2_perform {l : Launch} {D : va_G} {ad : Nat → Nat} {ca : Nat → ClassId} (hI : xInj ad) {K : XK} {d : XD} (RES : (XK × XD)) (hr : RES = x_perform K d) (hok : XOk K) (hio : XIO d) : g_U l yX2_perform (ws_ yX2_perform cX2_perform 3 none) rm_X2_perform [.ref (ad 4)] (xKp D ca) (xB D ad ca K d) none (xB D ad ca RES.1 RES.2) (xA ad) := by
  refine g_ofU (by decide) (Nat.le_of_ble_eq_true rfl) ?_
  intro p e s m args below meth c ls Q hF hB hKp hl hQ
  obtain ⟨hx, hb, -, -, hml, hown, hts⟩ := id hF
  have hown : s.vm.findClass RX2 = some m.cls := hown
  have hC : CallFix p m c cX2_perform 3 s args lw_all RX2 := ⟨hx, hb, hml, hown, hts⟩
  obtain ⟨hK, hN⟩ := id hKp
  have hP : va_P D xcl (XW ad ca K d) s.heap := hB
  have hS : va_S (xA ad) s.heap s.heap [] := va_S.rf
  have hl : lv_has ls 3 [(0, .ref (ad 4))] := hl
  unfold x_perform at hr
  refine lv_aload_n hx hb dX2_perform_0 rfl (lv_at hl 0 rfl) ?_
  refine xg_4_3 hx hb hts hown hK hP (hts _ q231) dX2_perform_1 ?_
  refine xgn_9_0 hx hb hts hown hK hP (xq_q177 hN) dX2_perform_4 ?_
  refine lv_istore_n (lv' := [(1, .int (kx_op K)), (0, .ref (ad 4))]) hx hb dX2_perform_7 rfl hl (by decide) rfl (fun ls hl => ?_)
  refine lv_aload_n hx hb dX2_perform_8 rfl (lv_at hl 1 rfl) ?_
  refine xg_4_3 hx hb hts hown hK hP (hts _ q231) dX2_perform_9 ?_
  refine xgn_9_1 hx hb hts hown hK hP (xq_q180 hN) dX2_perform_12 ?_
  refine lv_istore_n (lv' := [(2, .int (kx_size K)), (1, .int (kx_op K)), (0, .ref (ad 4))]) hx hb dX2_perform_15 rfl hl (by decide) rfl (fun ls hl => ?_)
  refine lv_iload_n hx hb dX2_perform_16 rfl (lv_at hl 1 rfl) ?_
  refine lv_bipush (v := (8 : Int32)) hx hb dX2_perform_17 bp_8 ?_
  refine lv_icmp_ge (tgt := 31) hx hb dX2_perform_19 (by decide) (fun c_19 => ?_) (fun c_19 => ?_)
  · replace hr := hr.trans (if_pos c_19)
    refine lv_iload_n hx hb dX2_perform_31 rfl (lv_at hl 1 rfl) ?_
    refine lv_bipush (v := (24 : Int32)) hx hb dX2_perform_32 bp_24 ?_
    refine lv_icmp_ge (tgt := 46) hx hb dX2_perform_34 (by decide) (fun c_34 => ?_) (fun c_34 => ?_)
    · replace hr := hr.trans (if_pos c_34)
      refine lv_iload_n hx hb dX2_perform_46 rfl (lv_at hl 1 rfl) ?_
      refine lv_bipush (v := (29 : Int32)) hx hb dX2_perform_47 bp_29 ?_
      refine lv_icmp_ge (tgt := 74) hx hb dX2_perform_49 (by decide) (fun c_49 => ?_) (fun c_49 => ?_)
      · replace hr := hr.trans (if_pos c_49)
        refine lv_iload_n hx hb dX2_perform_74 rfl (lv_at hl 1 rfl) ?_
        refine lv_bipush (v := (37 : Int32)) hx hb dX2_perform_75 bp_37 ?_
        refine lv_icmp_ge (tgt := 89) hx hb dX2_perform_77 (by decide) (fun c_77 => ?_) (fun c_77 => ?_)
        · replace hr := hr.trans (if_pos c_77)
          refine lv_iload_n hx hb dX2_perform_89 rfl (lv_at hl 1 rfl) ?_
          refine lv_bipush (v := (50 : Int32)) hx hb dX2_perform_90 bp_50 ?_
          refine lv_icmp_ge (tgt := 104) hx hb dX2_perform_92 (by decide) (fun c_92 => ?_) (fun c_92 => ?_)
          · replace hr := hr.trans (if_pos c_92)
            refine lv_aload_n hx hb dX2_perform_104 rfl (lv_at hl 2 rfl) ?_
            refine lv_iload_n hx hb dX2_perform_105 rfl (lv_at hl 1 rfl) ?_
            refine lv_iload_n hx hb dX2_perform_106 rfl (lv_at hl 0 rfl) ?_
            obtain ⟨g1, eg1⟩ : ∃ z, z = x_string K (kx_op K) (kx_size K) d := ⟨_, rfl⟩
            replace hr := hr.trans (bnd_eq eg1)
            refine g_UV0 (As := [.int (kx_op K), .int (kx_size K)]) (rest := []) hC (m_X2_string hI (K := K) (d := d) (kx_op K) (kx_size K) g1 eg1 hok.1) (cwV 2 hts cw_X2_174 rfl rfl rfl hd_X2_string ⟨Nat.le_of_ble_eq_true rfl, Nat.le_of_ble_eq_true rfl⟩) xKst (va_recv hK hP (ci := 2) (q0 := 4) rfl rfl) hP hKp ⟨Nat.zero_le _, Nat.zero_le _⟩ hS (fun _ h => h) rfl hl.1 rfl (Nat.le_of_ble_eq_true rfl) dX2_perform_107 (fun H locs hP hS => ?_)
            have hP : va_P D xcl (XW ad ca K g1) H := hP
            exact g_endUv (Pic := (fun u => xB D ad ca u.1 u.2)) (u := (K, g1)) hF hQ hr hP hS dX2_perform_110
          · replace hr := hr.trans (if_neg c_92)
            refine lv_aload_n hx hb dX2_perform_95 rfl (lv_at hl 2 rfl) ?_
            refine lv_iload_n hx hb dX2_perform_96 rfl (lv_at hl 1 rfl) ?_
            refine lv_iload_n hx hb dX2_perform_97 rfl (lv_at hl 0 rfl) ?_
            obtain ⟨g2, eg2⟩ : ∃ z, z = x_others K (kx_op K) (kx_size K) d := ⟨_, rfl⟩
            replace hr := hr.trans (bnd_eq eg2)
            refine g_UV0 (As := [.int (kx_op K), .int (kx_size K)]) (rest := []) hC (m_X2_others hI (K := K) (d := d) (kx_op K) (kx_size K) g2 eg2 hok.1 hio) (cwV 2 hts cw_X2_171 rfl rfl rfl hd_X2_others ⟨Nat.le_of_ble_eq_true rfl, Nat.le_of_ble_eq_true rfl⟩) xKst (va_recv hK hP (ci := 2) (q0 := 4) rfl rfl) hP hKp ⟨Nat.zero_le _, Nat.zero_le _⟩ hS (fun _ h => h) rfl hl.1 rfl (Nat.le_of_ble_eq_true rfl) dX2_perform_98 (fun H locs hP hS => ?_)
            have hP : va_P D xcl (XW ad ca g2.1 g2.2) H := hP
            refine lv_goto (tgt := 110) hx hb dX2_perform_101 (by decide) ?_
            exact g_endUv (Pic := (fun u => xB D ad ca u.1 u.2)) (u := (g2.1, g2.2)) hF hQ hr hP hS dX2_perform_110
        · replace hr := hr.trans (if_neg c_77)
          refine lv_aload_n hx hb dX2_perform_80 rfl (lv_at hl 2 rfl) ?_
          refine lv_iload_n hx hb dX2_perform_81 rfl (lv_at hl 1 rfl) ?_
          refine lv_iload_n hx hb dX2_perform_82 rfl (lv_at hl 0 rfl) ?_
          obtain ⟨g3, eg3⟩ : ∃ z, z = x_flow K (kx_op K) (kx_size K) d := ⟨_, rfl⟩
          replace hr := hr.trans (bnd_eq eg3)
          refine g_UV0 (As := [.int (kx_op K), .int (kx_size K)]) (rest := []) hC (m_X2_flow hI (K := K) (d := d) (kx_op K) (kx_size K) g3 eg3 hok.1) (cwV 2 hts cw_X2_168 rfl rfl rfl hd_X2_flow ⟨Nat.le_of_ble_eq_true rfl, Nat.le_of_ble_eq_true rfl⟩) xKst (va_recv hK hP (ci := 2) (q0 := 4) rfl rfl) hP hKp ⟨Nat.zero_le _, Nat.zero_le _⟩ hS (fun _ h => h) rfl hl.1 rfl (Nat.le_of_ble_eq_true rfl) dX2_perform_83 (fun H locs hP hS => ?_)
          have hP : va_P D xcl (XW ad ca K g3) H := hP
          refine lv_goto (tgt := 110) hx hb dX2_perform_86 (by decide) ?_
          exact g_endUv (Pic := (fun u => xB D ad ca u.1 u.2)) (u := (K, g3)) hF hQ hr hP hS dX2_perform_110
      · replace hr := hr.trans (if_neg c_49)
        refine lv_aload_n hx hb dX2_perform_52 rfl (lv_at hl 2 rfl) ?_
        refine lv_iload_n hx hb dX2_perform_53 rfl (lv_at hl 1 rfl) ?_
        refine lv_iload_n hx hb dX2_perform_54 rfl (lv_at hl 0 rfl) ?_
        refine lv_aload_n hx hb dX2_perform_55 rfl (lv_at hl 2 rfl) ?_
        refine lv_iconst (v := (0 : Int32)) hx hb dX2_perform_56 ic_0 ?_
        refine lv_iload_n hx hb dX2_perform_57 rfl (lv_at hl 0 rfl) ?_
        obtain ⟨g4, eg4⟩ : ∃ z, z = x_get K (0 : Int32) (kx_size K) d := ⟨_, rfl⟩
        replace hr := hr.trans (bnd_eq eg4)
        refine g_UV1 (As := [.int (0 : Int32), .int (kx_size K)]) (rest := [.int (kx_size K), .int (kx_op K), .ref (ad 4)]) hC (m_X2_get hI (K := K) (d := d) (0 : Int32) (kx_size K) g4 eg4 (show ¬ ((0 : Int32) < 0 ∨ 3 ≤ (0 : Int32).toNatClampNeg) by decide) hok.1) (cwV 2 hts cw_X2_160 rfl rfl rfl hd_X2_get ⟨Nat.le_of_ble_eq_true rfl, Nat.le_of_ble_eq_true rfl⟩) xKst (va_recv hK hP (ci := 2) (q0 := 4) rfl rfl) hP hKp ⟨Nat.zero_le _, Nat.zero_le _⟩ hS (fun _ h => h) rfl hl.1 rfl (Nat.le_of_ble_eq_true rfl) dX2_perform_58 (fun H locs hP hS => ?_)
        have hP : va_P D xcl (XW ad ca K g4.2) H := hP
        refine lv_aload_n hx hb dX2_perform_61 rfl (lv_at hl 2 rfl) ?_
        refine lv_iconst (v := (1 : Int32)) hx hb dX2_perform_62 ic_1 ?_
        refine lv_iconst (v := (1 : Int32)) hx hb dX2_perform_63 ic_1 ?_
        obtain ⟨g5, eg5⟩ : ∃ z, z = x_get K (1 : Int32) (1 : Int32) g4.2 := ⟨_, rfl⟩
        replace hr := hr.trans (bnd_eq eg5)
        refine g_UV1 (As := [.int (1 : Int32), .int (1 : Int32)]) (rest := [.long g4.1, .int (kx_size K), .int (kx_op K), .ref (ad 4)]) hC (m_X2_get hI (K := K) (d := g4.2) (1 : Int32) (1 : Int32) g5 eg5 (show ¬ ((1 : Int32) < 0 ∨ 3 ≤ (1 : Int32).toNatClampNeg) by decide) hok.1) (cwV 2 hts cw_X2_160 rfl rfl rfl hd_X2_get ⟨Nat.le_of_ble_eq_true rfl, Nat.le_of_ble_eq_true rfl⟩) xKst (va_recv hK hP (ci := 2) (q0 := 4) rfl rfl) hP hKp ⟨Nat.zero_le _, Nat.zero_le _⟩ hS (fun _ h => h) rfl hl.1 rfl (Nat.le_of_ble_eq_true rfl) dX2_perform_64 (fun H locs hP hS => ?_)
        have hP : va_P D xcl (XW ad ca K g5.2) H := hP
        refine lv_l2i (v := g5.1.toInt32) hx hb dX2_perform_67 rfl ?_
        obtain ⟨g6, eg6⟩ : ∃ z, z = x_shift K (kx_op K) (kx_size K) g4.1 (g5.1.toInt32) g5.2 := ⟨_, rfl⟩
        replace hr := hr.trans (bnd_eq eg6)
        refine g_UV0 (As := [.int (kx_op K), .int (kx_size K), .long g4.1, .int (g5.1.toInt32)]) (rest := []) hC (m_X2_shift hI (K := K) (d := g5.2) (kx_op K) (kx_size K) g4.1 (g5.1.toInt32) g6 eg6 hok.1) (cwV 4 hts cw_X2_164 rfl rfl rfl hd_X2_shift ⟨Nat.le_of_ble_eq_true rfl, Nat.le_of_ble_eq_true rfl⟩) xKst (va_recv hK hP (ci := 2) (q0 := 4) rfl rfl) hP hKp ⟨Nat.zero_le _, Nat.zero_le _⟩ hS (fun _ h => h) rfl hl.1 rfl (Nat.le_of_ble_eq_true rfl) dX2_perform_68 (fun H locs hP hS => ?_)
        have hP : va_P D xcl (XW ad ca K g6) H := hP
        refine lv_goto (tgt := 110) hx hb dX2_perform_71 (by decide) ?_
        exact g_endUv (Pic := (fun u => xB D ad ca u.1 u.2)) (u := (K, g6)) hF hQ hr hP hS dX2_perform_110
    · replace hr := hr.trans (if_neg c_34)
      refine lv_aload_n hx hb dX2_perform_37 rfl (lv_at hl 2 rfl) ?_
      refine lv_iload_n hx hb dX2_perform_38 rfl (lv_at hl 1 rfl) ?_
      refine lv_iload_n hx hb dX2_perform_39 rfl (lv_at hl 0 rfl) ?_
      obtain ⟨g7, eg7⟩ : ∃ z, z = x_middle K (kx_op K) (kx_size K) d := ⟨_, rfl⟩
      replace hr := hr.trans (bnd_eq eg7)
      refine g_UV0 (As := [.int (kx_op K), .int (kx_size K)]) (rest := []) hC (m_X2_middle hI (K := K) (d := d) (kx_op K) (kx_size K) g7 eg7 hok.1 hok.2.1 (hok.2.2 c_34)) (cwV 2 hts cw_X2_157 rfl rfl rfl hd_X2_middle ⟨Nat.le_of_ble_eq_true rfl, Nat.le_of_ble_eq_true rfl⟩) xKst (va_recv hK hP (ci := 2) (q0 := 4) rfl rfl) hP hKp ⟨Nat.zero_le _, Nat.zero_le _⟩ hS (fun _ h => h) rfl hl.1 rfl (Nat.le_of_ble_eq_true rfl) dX2_perform_40 (fun H locs hP hS => ?_)
      have hP : va_P D xcl (XW ad ca K g7) H := hP
      refine lv_goto (tgt := 110) hx hb dX2_perform_43 (by decide) ?_
      exact g_endUv (Pic := (fun u => xB D ad ca u.1 u.2)) (u := (K, g7)) hF hQ hr hP hS dX2_perform_110
  · replace hr := hr.trans (if_neg c_19)
    refine lv_aload_n hx hb dX2_perform_22 rfl (lv_at hl 2 rfl) ?_
    refine lv_iload_n hx hb dX2_perform_23 rfl (lv_at hl 1 rfl) ?_
    refine lv_iload_n hx hb dX2_perform_24 rfl (lv_at hl 0 rfl) ?_
    obtain ⟨g8, eg8⟩ : ∃ z, z = x_arithmetic K (kx_op K) (kx_size K) d := ⟨_, rfl⟩
    replace hr := hr.trans (bnd_eq eg8)
    refine g_UV0 (As := [.int (kx_op K), .int (kx_size K)]) (rest := []) hC (m_X2_arithmetic hI (K := K) (d := d) (kx_op K) (kx_size K) g8 eg8 hok.1) (cwV 2 hts cw_X2_153 rfl rfl rfl hd_X2_arithmetic ⟨Nat.le_of_ble_eq_true rfl, Nat.le_of_ble_eq_true rfl⟩) xKst (va_recv hK hP (ci := 2) (q0 := 4) rfl rfl) hP hKp ⟨Nat.zero_le _, Nat.zero_le _⟩ hS (fun _ h => h) rfl hl.1 rfl (Nat.le_of_ble_eq_true rfl) dX2_perform_25 (fun H locs hP hS => ?_)
    have hP : va_P D xcl (XW ad ca K g8) H := hP
    refine lv_goto (tgt := 110) hx hb dX2_perform_28 (by decide) ?_
    exact g_endUv (Pic := (fun u => xB D ad ca u.1 u.2)) (u := (K, g8)) hF hQ hr hP hS dX2_perform_110
def x_pstep (K : XK) (len : Int32) (d : XD) : Bool × (XK × XD) := bnd (dx_stop_ (0 : Int32) d) fun d1 => bnd (dx_stopValue_ (0 : Int64) d1) fun d2 => bnd (dx_next_ ((dx_ip d2) + (len.toInt64)) d2) fun d3 => bnd (x_perform K d3) fun g4 => bnd (α := Bool) (if (dx_stop g4.2) = 0 then false else (if (dx_stop g4.2) = (1 : Int32) then false else (if (dx_stop g4.2) = (6 : Int32) then false else true))) fun b5 => if b5 = true then (bnd (dx_flags_ (dx_flags d2) g4.2) fun d6 => (false, (g4.1, d6))) else (bnd (dx_ip_ (dx_next g4.2) g4.2) fun d7 => bnd (dx_done_ ((dx_done d7) + (1 : Int32)) d7) fun d8 => (true, (g4.1, d8)))
abbrev rm_X2_step : Room := { frames := 8, cells := 0, slots := 0, locals := 204 }
set_option maxHeartbeats 4000000 in
set_option maxRecDepth 100000 in
theorem m_X2_step {l : Launch} {D : va_G} {ad : Nat → Nat} {ca : Nat → ClassId} (hI : xInj ad) {K : XK} {d : XD} (len : Int32) (RES : Bool × (XK × XD)) (hr : RES = x_pstep K len d) (hok : XOk K) (hio : XIO d) : g_U l yX2_step (ws_ yX2_step cX2_step 3 (some .boolean)) rm_X2_step [.ref (ad 4), .int len] (xKp D ca) (xB D ad ca K d) (some (.int (b2i RES.1))) (xB D ad ca RES.2.1 RES.2.2) (xA ad) := by
  refine g_ofU (by decide) (Nat.le_of_ble_eq_true rfl) ?_
  intro p e s m args below meth c ls Q hF hB hKp hl hQ
  obtain ⟨hx, hb, -, -, hml, hown, hts⟩ := id hF
  have hown : s.vm.findClass RX2 = some m.cls := hown
  have hC : CallFix p m c cX2_step 3 s args lw_all RX2 := ⟨hx, hb, hml, hown, hts⟩
  obtain ⟨hK, hN⟩ := id hKp
  have hP : va_P D xcl (XW ad ca K d) s.heap := hB
  have hS : va_S (xA ad) s.heap s.heap [] := va_S.rf
  have hl : lv_has ls 3 [(0, .ref (ad 4)), (1, .int len)] := hl
  unfold x_pstep at hr
  refine lv_aload_n hx hb dX2_step_0 rfl (lv_at hl 0 rfl) ?_
  refine lv_iconst (v := (0 : Int32)) hx hb dX2_step_1 ic_0 ?_
  refine xp_4_9 (v := (0 : Int32)) hx hb hts hown hK hI hP hS (hts _ q242) dX2_step_2 (fun d1 ed1 H locs hP hS => ?_)
  replace hr := hr.trans (bnd_eq ed1)
  refine lv_aload_n hx hb dX2_step_5 rfl (lv_at hl 0 rfl) ?_
  refine lv_lconst (v := (0 : Int64)) hx hb dX2_step_6 lc_0 ?_
  refine xp_4_7 (v := (0 : Int64)) hx hb hts hown hK hI hP hS (hts _ q238) dX2_step_7 (fun d2 ed2 H locs hP hS => ?_)
  replace hr := hr.trans (bnd_eq ed2)
  refine lv_aload_n hx hb dX2_step_10 rfl (lv_at hl 0 rfl) ?_
  refine xg_4_8 hx hb hts hown hK hP (hts _ q240) dX2_step_11 ?_
  refine lv_istore_n (lv' := [(2, .int (dx_flags d2)), (0, .ref (ad 4)), (1, .int len)]) hx hb dX2_step_14 rfl hl (by decide) rfl (fun ls hl => ?_)
  refine lv_aload_n hx hb dX2_step_15 rfl (lv_at hl 1 rfl) ?_
  refine lv_aload_n hx hb dX2_step_16 rfl (lv_at hl 1 rfl) ?_
  refine xg_4_5 hx hb hts hown hK hP (hts _ q235) dX2_step_17 ?_
  refine lv_iload_n hx hb dX2_step_20 rfl (lv_at hl 2 rfl) ?_
  refine lv_i2l (v := len.toInt64) hx hb dX2_step_21 rfl ?_
  refine lv_ladd hx hb dX2_step_22 ?_
  refine xp_4_6 (v := ((dx_ip d2) + (len.toInt64))) hx hb hts hown hK hI hP hS (hts _ q237) dX2_step_23 (fun d3 ed3 H locs hP hS => ?_)
  replace hr := hr.trans (bnd_eq ed3)
  refine lv_aload_n hx hb dX2_step_26 rfl (lv_at hl 1 rfl) ?_
  obtain ⟨g4, eg4⟩ : ∃ z, z = x_perform K d3 := ⟨_, rfl⟩
  replace hr := hr.trans (bnd_eq eg4)
  refine g_UV0 (As := []) (rest := []) hC (m_X2_perform hI (K := K) (d := d3)  g4 eg4 hok (by rw [ed3, ed2, ed1]; exact hio)) (cwV 0 hts cw_X2_146 rfl rfl rfl hd_X2_perform ⟨Nat.le_of_ble_eq_true rfl, Nat.le_of_ble_eq_true rfl⟩) xKst (va_recv hK hP (ci := 2) (q0 := 4) rfl rfl) hP hKp ⟨Nat.zero_le _, Nat.zero_le _⟩ hS (fun _ h => h) rfl hl.1 rfl (Nat.le_of_ble_eq_true rfl) dX2_step_27 (fun H locs hP hS => ?_)
  have hP : va_P D xcl (XW ad ca g4.1 g4.2) H := hP
  refine lv_aload_n hx hb dX2_step_30 rfl (lv_at hl 1 rfl) ?_
  refine xg_4_9 hx hb hts hown hK hP (hts _ q242) dX2_step_31 ?_
  obtain ⟨b5, eb5⟩ : ∃ z : Bool, z = (if (dx_stop g4.2) = 0 then false else (if (dx_stop g4.2) = (1 : Int32) then false else (if (dx_stop g4.2) = (6 : Int32) then false else true))) := ⟨_, rfl⟩
  replace hr := hr.trans (bnd_eq eb5)
  have kb5T : b5 = true → W p l e rm_X2_step s m args below meth c H locs 0 0 Q (F0 m 54 ls []) := by
    intro hb5
    replace hr := hr.trans (if_pos hb5)
    have er := eb5
    have c_34 : ¬ ((dx_stop g4.2) = 0) := fun q => absurd (hb5.symm.trans (er.trans (if_pos q))) (by decide)
    have er := er.trans (if_neg c_34)
    have c_42 : ¬ ((dx_stop g4.2) = (1 : Int32)) := fun q => absurd (hb5.symm.trans (er.trans (if_pos q))) (by decide)
    have er := er.trans (if_neg c_42)
    have c_51 : ¬ ((dx_stop g4.2) = (6 : Int32)) := fun q => absurd (hb5.symm.trans (er.trans (if_pos q))) (by decide)
    have er := er.trans (if_neg c_51)
    clear er
    refine lv_aload_n hx hb dX2_step_54 rfl (lv_at hl 1 rfl) ?_
    refine lv_iload_n hx hb dX2_step_55 rfl (lv_at hl 0 rfl) ?_
    refine xp_4_8 (v := (dx_flags d2)) hx hb hts hown hK hI hP hS (hts _ q240) dX2_step_56 (fun d6 ed6 H locs hP hS => ?_)
    replace hr := hr.trans (bnd_eq ed6)
    refine lv_iconst (v := (0 : Int32)) hx hb dX2_step_59 ic_0 ?_
    exact g_endUz (Pic := (fun u => xB D ad ca u.1 u.2)) (u := (g4.1, d6)) hF hQ hr rfl hP hS dX2_step_60
  have kb5F : ¬ b5 = true → W p l e rm_X2_step s m args below meth c H locs 0 0 Q (F0 m 61 ls []) := by
    intro hb5
    replace hr := hr.trans (if_neg hb5)
    refine lv_aload_n hx hb dX2_step_61 rfl (lv_at hl 1 rfl) ?_
    refine lv_aload_n hx hb dX2_step_62 rfl (lv_at hl 1 rfl) ?_
    refine xg_4_6 hx hb hts hown hK hP (hts _ q237) dX2_step_63 ?_
    refine xp_4_5 (v := (dx_next g4.2)) hx hb hts hown hK hI hP hS (hts _ q235) dX2_step_66 (fun d7 ed7 H locs hP hS => ?_)
    replace hr := hr.trans (bnd_eq ed7)
    refine lv_aload_n hx hb dX2_step_69 rfl (lv_at hl 1 rfl) ?_
    refine lv_dup hx hb dX2_step_70 rfl ?_
    refine xg_4_10 hx hb hts hown hK hP (hts _ q244) dX2_step_71 ?_
    refine lv_iconst (v := (1 : Int32)) hx hb dX2_step_74 ic_1 ?_
    refine lv_iadd hx hb dX2_step_75 ?_
    refine xp_4_10 (v := ((dx_done d7) + (1 : Int32))) hx hb hts hown hK hI hP hS (hts _ q244) dX2_step_76 (fun d8 ed8 H locs hP hS => ?_)
    replace hr := hr.trans (bnd_eq ed8)
    refine lv_iconst (v := (1 : Int32)) hx hb dX2_step_79 ic_1 ?_
    exact g_endUz (Pic := (fun u => xB D ad ca u.1 u.2)) (u := (g4.1, d8)) hF hQ hr rfl hP hS dX2_step_80
  replace hr := eb5
  refine lv_if_eq (tgt := 61) hx hb dX2_step_34 (by decide) (fun c_34 => ?_) (fun c_34 => ?_)
  · replace hr := hr.trans (if_pos c_34)
    exact kb5F (by rw [hr]; decide)
  · replace hr := hr.trans (if_neg c_34)
    refine lv_aload_n hx hb dX2_step_37 rfl (lv_at hl 1 rfl) ?_
    refine xg_4_9 hx hb hts hown hK hP (hts _ q242) dX2_step_38 ?_
    refine lv_iconst (v := (1 : Int32)) hx hb dX2_step_41 ic_1 ?_
    refine lv_icmp_eq (tgt := 61) hx hb dX2_step_42 (by decide) (fun c_42 => ?_) (fun c_42 => ?_)
    · replace hr := hr.trans (if_pos c_42)
      exact kb5F (by rw [hr]; decide)
    · replace hr := hr.trans (if_neg c_42)
      refine lv_aload_n hx hb dX2_step_45 rfl (lv_at hl 1 rfl) ?_
      refine xg_4_9 hx hb hts hown hK hP (hts _ q242) dX2_step_46 ?_
      refine lv_bipush (v := (6 : Int32)) hx hb dX2_step_49 bp_6 ?_
      refine lv_icmp_eq (tgt := 61) hx hb dX2_step_51 (by decide) (fun c_51 => ?_) (fun c_51 => ?_)
      · replace hr := hr.trans (if_pos c_51)
        exact kb5F (by rw [hr]; decide)
      · replace hr := hr.trans (if_neg c_51)
        exact kb5T hr
