def m_anew_L108 (K6 : MK) : Nat → Int32 → MD → (MK × MD)
  | 0, w108_7, dl108 => (K6, dl108)
  | n + 1, w108_7, dl108 => if (16 : Int32) ≤ w108_7 then (bnd (dm_regs_ (vp_updL (dm_regs dl108) (4 : Int32).toNatClampNeg (2147479552 : Int64)) dl108) fun d7 => bnd (m_setFlags (0 : Int64) d7) fun g8 => bnd (dm_ip_ (4194304 : Int64) g8) fun d9 => bnd (km_heapSize_ (0 : Int32) K6) fun K10 => bnd (dm_givenSize_ (0 : Int32) d9) fun d11 => bnd (dm_shownSize_ (0 : Int32) d11) fun d12 => bnd (dm_stopKind_ (0 : Int32) d12) fun d13 => bnd (dm_stopValue_ (0 : Int64) d13) fun d14 => bnd (dm_stepsDone_ (0 : Int64) d14) fun d15 => (K10, d15)) else (bnd (dm_regs_ (vp_updL (dm_regs dl108) w108_7.toNatClampNeg (0 : Int64)) dl108) fun d16 => bnd (α := Int32) ((w108_7 + (1 : Int32))) fun v17 => m_anew_L108 K6 n v17 d16)
theorem m_anew_L108_s (K6 : MK) (n : Nat) (w108_7 : Int32) (dl108 : MD) : m_anew_L108 K6 (n + 1) w108_7 dl108 = if (16 : Int32) ≤ w108_7 then (bnd (dm_regs_ (vp_updL (dm_regs dl108) (4 : Int32).toNatClampNeg (2147479552 : Int64)) dl108) fun d7 => bnd (m_setFlags (0 : Int64) d7) fun g8 => bnd (dm_ip_ (4194304 : Int64) g8) fun d9 => bnd (km_heapSize_ (0 : Int32) K6) fun K10 => bnd (dm_givenSize_ (0 : Int32) d9) fun d11 => bnd (dm_shownSize_ (0 : Int32) d11) fun d12 => bnd (dm_stopKind_ (0 : Int32) d12) fun d13 => bnd (dm_stopValue_ (0 : Int64) d13) fun d14 => bnd (dm_stepsDone_ (0 : Int64) d14) fun d15 => (K10, d15)) else (bnd (dm_regs_ (vp_updL (dm_regs dl108) w108_7.toNatClampNeg (0 : Int64)) dl108) fun d16 => bnd (α := Int32) ((w108_7 + (1 : Int32))) fun v17 => m_anew_L108 K6 n v17 d16) := rfl
def m_anew_L76 (K6 : MK) : Nat → Int32 → MD → (MK × MD)
  | 0, w76_7, dl76 => (K6, dl76)
  | n + 1, w76_7, dl76 => if (65536 : Int32) ≤ w76_7 then (m_anew_L108 K6 (mI (0 : Int32) (16 : Int32) + 1) (0 : Int32) dl76) else (bnd (dm_heap_ (upd (dm_heap dl76) w76_7.toNatClampNeg (vp_nar .byte (0 : Int32))) dl76) fun d18 => bnd (dm_stack_ (upd (dm_stack d18) w76_7.toNatClampNeg (vp_nar .byte (0 : Int32))) d18) fun d19 => bnd (α := Int32) ((w76_7 + (1 : Int32))) fun v20 => m_anew_L76 K6 n v20 d19)
theorem m_anew_L76_s (K6 : MK) (n : Nat) (w76_7 : Int32) (dl76 : MD) : m_anew_L76 K6 (n + 1) w76_7 dl76 = if (65536 : Int32) ≤ w76_7 then (m_anew_L108 K6 (mI (0 : Int32) (16 : Int32) + 1) (0 : Int32) dl76) else (bnd (dm_heap_ (upd (dm_heap dl76) w76_7.toNatClampNeg (vp_nar .byte (0 : Int32))) dl76) fun d18 => bnd (dm_stack_ (upd (dm_stack d18) w76_7.toNatClampNeg (vp_nar .byte (0 : Int32))) d18) fun d19 => bnd (α := Int32) ((w76_7 + (1 : Int32))) fun v20 => m_anew_L76 K6 n v20 d19) := rfl
def m_anew_L36 (im : Int32) (K6 : MK) : Nat → Int32 → MD → (MK × MD)
  | 0, w36_7, dl36 => (K6, dl36)
  | n + 1, w36_7, dl36 => if (262144 : Int32) ≤ w36_7 then (m_anew_L76 K6 (mI (0 : Int32) (65536 : Int32) + 1) (0 : Int32) dl36) else (if im ≤ w36_7 then (bnd (dm_memory_ (upd (dm_memory dl36) w36_7.toNatClampNeg (vp_nar .byte (0 : Int32))) dl36) fun d21 => bnd (α := Int32) ((w36_7 + (1 : Int32))) fun v22 => m_anew_L36 im K6 n v22 d21) else (bnd (dm_memory_ (upd (dm_memory dl36) w36_7.toNatClampNeg (vp_nar .byte ((dm_filled dl36) w36_7.toNatClampNeg))) dl36) fun d23 => bnd (α := Int32) ((w36_7 + (1 : Int32))) fun v24 => m_anew_L36 im K6 n v24 d23))
theorem m_anew_L36_s (im : Int32) (K6 : MK) (n : Nat) (w36_7 : Int32) (dl36 : MD) : m_anew_L36 im K6 (n + 1) w36_7 dl36 = if (262144 : Int32) ≤ w36_7 then (m_anew_L76 K6 (mI (0 : Int32) (65536 : Int32) + 1) (0 : Int32) dl36) else (if im ≤ w36_7 then (bnd (dm_memory_ (upd (dm_memory dl36) w36_7.toNatClampNeg (vp_nar .byte (0 : Int32))) dl36) fun d21 => bnd (α := Int32) ((w36_7 + (1 : Int32))) fun v22 => m_anew_L36 im K6 n v22 d21) else (bnd (dm_memory_ (upd (dm_memory dl36) w36_7.toNatClampNeg (vp_nar .byte ((dm_filled dl36) w36_7.toNatClampNeg))) dl36) fun d23 => bnd (α := Int32) ((w36_7 + (1 : Int32))) fun v24 => m_anew_L36 im K6 n v24 d23)) := rfl
def m_anew (K : MK) (im : Int32) (te : Int32) (rb : Int32) (re : Int32) (db : Int32) (de : Int32) (d : MD) : (MK × MD) := bnd (km_fin_ im K) fun K1 => bnd (km_textEnd_ te K1) fun K2 => bnd (km_rodataBegin_ rb K2) fun K3 => bnd (km_rodataEnd_ re K3) fun K4 => bnd (km_dataBegin_ db K4) fun K5 => bnd (km_dataEnd_ de K5) fun K6 => m_anew_L36 im K6 (mI (0 : Int32) (262144 : Int32) + 1) (0 : Int32) d
abbrev rm_X5_anew : Room := { frames := 1, cells := 0, slots := 0, locals := 22 }
set_option maxHeartbeats 4000000 in
set_option maxRecDepth 100000 in
theorem m_X5_anew {l : Launch} {D : va_G} {ad : Nat → Nat} {ca : Nat → ClassId} (hI : mInj ad) {K : MK} {d : MD} (im : Int32) (te : Int32) (rb : Int32) (re : Int32) (db : Int32) (de : Int32) (RES : (MK × MD)) (hr : RES = m_anew K im te rb re db de d) : g_U l yX5_anew (ws_ yX5_anew cX5_anew 8 none) rm_X5_anew [.ref (ad 0), .int im, .int te, .int rb, .int re, .int db, .int de] (mKp D ca) (mB D ad ca K d) none (mB D ad ca RES.1 RES.2) (mA ad) := by
  refine g_ofU (by decide) (Nat.le_of_ble_eq_true rfl) ?_
  intro p e s m args below meth c ls Q hF hB hKp hl hQ
  obtain ⟨hx, hb, -, -, hml, hown, hts⟩ := id hF
  have hown : s.vm.findClass RX5 = some m.cls := hown
  have hC : CallFix p m c cX5_anew 8 s args lw_all RX5 := ⟨hx, hb, hml, hown, hts⟩
  have hK : va_K D xcl (mtys ca) s := hKp
  have hP : va_P D xcl (MW ad ca K d) s.heap := hB
  have hS : va_S (mA ad) s.heap s.heap [] := va_S.rf
  have hl : lv_has ls 8 [(0, .ref (ad 0)), (1, .int im), (2, .int te), (3, .int rb), (4, .int re), (5, .int db), (6, .int de)] := hl
  unfold m_anew at hr
  refine lv_aload_n hx hb dX5_anew_0 rfl (lv_at hl 0 rfl) ?_
  refine lv_iload_n hx hb dX5_anew_1 rfl (lv_at hl 1 rfl) ?_
  refine mp_0_7 (v := im) hx hb hts hown hK hI hP hS (hts _ q678) dX5_anew_2 (fun K1 eK1 H locs hP hS => ?_)
  replace hr := hr.trans (bnd_eq eK1)
  refine lv_aload_n hx hb dX5_anew_5 rfl (lv_at hl 0 rfl) ?_
  refine lv_iload_n hx hb dX5_anew_6 rfl (lv_at hl 2 rfl) ?_
  refine mp_0_8 (v := te) hx hb hts hown hK hI hP hS (hts _ q679) dX5_anew_7 (fun K2 eK2 H locs hP hS => ?_)
  replace hr := hr.trans (bnd_eq eK2)
  refine lv_aload_n hx hb dX5_anew_10 rfl (lv_at hl 0 rfl) ?_
  refine lv_iload_n hx hb dX5_anew_11 rfl (lv_at hl 3 rfl) ?_
  refine mp_0_9 (v := rb) hx hb hts hown hK hI hP hS (hts _ q680) dX5_anew_12 (fun K3 eK3 H locs hP hS => ?_)
  replace hr := hr.trans (bnd_eq eK3)
  refine lv_aload_n hx hb dX5_anew_15 rfl (lv_at hl 0 rfl) ?_
  refine lv_iload hx hb dX5_anew_16 (lv_at hl 4 rfl) ?_
  refine mp_0_10 (v := re) hx hb hts hown hK hI hP hS (hts _ q681) dX5_anew_18 (fun K4 eK4 H locs hP hS => ?_)
  replace hr := hr.trans (bnd_eq eK4)
  refine lv_aload_n hx hb dX5_anew_21 rfl (lv_at hl 0 rfl) ?_
  refine lv_iload hx hb dX5_anew_22 (lv_at hl 5 rfl) ?_
  refine mp_0_11 (v := db) hx hb hts hown hK hI hP hS (hts _ q682) dX5_anew_24 (fun K5 eK5 H locs hP hS => ?_)
  replace hr := hr.trans (bnd_eq eK5)
  refine lv_aload_n hx hb dX5_anew_27 rfl (lv_at hl 0 rfl) ?_
  refine lv_iload hx hb dX5_anew_28 (lv_at hl 6 rfl) ?_
  refine mp_0_12 (v := de) hx hb hts hown hK hI hP hS (hts _ q683) dX5_anew_30 (fun K6 eK6 H locs hP hS => ?_)
  replace hr := hr.trans (bnd_eq eK6)
  refine lv_iconst (v := (0 : Int32)) hx hb dX5_anew_33 ic_0 ?_
  refine lv_istore (lv' := [(7, .int (0 : Int32)), (0, .ref (ad 0)), (1, .int im), (2, .int te), (3, .int rb), (4, .int re), (5, .int db), (6, .int de)]) hx hb dX5_anew_34 hl (by decide) rfl (fun ls hl => ?_)
  have lp36 : ∀ (n : Nat) (w36_7 : Int32) (dl36 : MD) (H : Heap) (locs : List Loc) (ls : Array Slot), mI w36_7 (262144 : Int32) < n → (0 ≤ w36_7) → RES = m_anew_L36 im K6 n w36_7 dl36 → va_P D xcl (MW ad ca K6 dl36) H → va_S (mA ad) s.heap H locs → lv_has ls 8 [(7, .int w36_7), (0, .ref (ad 0)), (1, .int im), (2, .int te), (3, .int rb), (4, .int re), (5, .int db), (6, .int de)] → W p l e rm_X5_anew s m args below meth c H locs 0 0 Q (F0 m 36 ls []) := by
    intro n
    induction n with
    | zero =>
      intro w36_7 dl36 H locs ls hm
      exact absurd hm (Nat.not_lt_zero _)
    | succ n ih =>
      intro w36_7 dl36 H locs ls hm h0 hr hP hS hl
      replace hr := hr.trans (m_anew_L36_s im K6 n w36_7 dl36)
      refine lv_iload hx hb dX5_anew_36 (lv_at hl 0 rfl) ?_
      refine lv_ldc hx hb hown (hts _ q655) dX5_anew_38 ?_
      refine lv_icmp_ge (tgt := 73) hx hb dX5_anew_40 (by decide) (fun c_40 => ?_) (fun c_40 => ?_)
      · replace hr := hr.trans (if_pos c_40)
        refine lv_iconst (v := (0 : Int32)) hx hb dX5_anew_73 ic_0 ?_
        refine lv_istore (lv' := [(7, .int (0 : Int32)), (0, .ref (ad 0)), (1, .int im), (2, .int te), (3, .int rb), (4, .int re), (5, .int db), (6, .int de)]) hx hb dX5_anew_74 hl (by decide) rfl (fun ls hl => ?_)
        have lp76 : ∀ (n : Nat) (w76_7 : Int32) (dl76 : MD) (H : Heap) (locs : List Loc) (ls : Array Slot), mI w76_7 (65536 : Int32) < n → (0 ≤ w76_7) → RES = m_anew_L76 K6 n w76_7 dl76 → va_P D xcl (MW ad ca K6 dl76) H → va_S (mA ad) s.heap H locs → lv_has ls 8 [(7, .int w76_7), (0, .ref (ad 0)), (1, .int im), (2, .int te), (3, .int rb), (4, .int re), (5, .int db), (6, .int de)] → W p l e rm_X5_anew s m args below meth c H locs 0 0 Q (F0 m 76 ls []) := by
          intro n
          induction n with
          | zero =>
            intro w76_7 dl76 H locs ls hm
            exact absurd hm (Nat.not_lt_zero _)
          | succ n ih =>
            intro w76_7 dl76 H locs ls hm h0 hr hP hS hl
            replace hr := hr.trans (m_anew_L76_s K6 n w76_7 dl76)
            refine lv_iload hx hb dX5_anew_76 (lv_at hl 0 rfl) ?_
            refine lv_ldc hx hb hown (hts _ q656) dX5_anew_78 ?_
            refine lv_icmp_ge (tgt := 105) hx hb dX5_anew_80 (by decide) (fun c_80 => ?_) (fun c_80 => ?_)
            · replace hr := hr.trans (if_pos c_80)
              refine lv_iconst (v := (0 : Int32)) hx hb dX5_anew_105 ic_0 ?_
              refine lv_istore (lv' := [(7, .int (0 : Int32)), (0, .ref (ad 0)), (1, .int im), (2, .int te), (3, .int rb), (4, .int re), (5, .int db), (6, .int de)]) hx hb dX5_anew_106 hl (by decide) rfl (fun ls hl => ?_)
              have lp108 : ∀ (n : Nat) (w108_7 : Int32) (dl108 : MD) (H : Heap) (locs : List Loc) (ls : Array Slot), mI w108_7 (16 : Int32) < n → (0 ≤ w108_7) → RES = m_anew_L108 K6 n w108_7 dl108 → va_P D xcl (MW ad ca K6 dl108) H → va_S (mA ad) s.heap H locs → lv_has ls 8 [(7, .int w108_7), (0, .ref (ad 0)), (1, .int im), (2, .int te), (3, .int rb), (4, .int re), (5, .int db), (6, .int de)] → W p l e rm_X5_anew s m args below meth c H locs 0 0 Q (F0 m 108 ls []) := by
                intro n
                induction n with
                | zero =>
                  intro w108_7 dl108 H locs ls hm
                  exact absurd hm (Nat.not_lt_zero _)
                | succ n ih =>
                  intro w108_7 dl108 H locs ls hm h0 hr hP hS hl
                  replace hr := hr.trans (m_anew_L108_s K6 n w108_7 dl108)
                  refine lv_iload hx hb dX5_anew_108 (lv_at hl 0 rfl) ?_
                  refine lv_bipush (v := (16 : Int32)) hx hb dX5_anew_110 bp_16 ?_
                  refine lv_icmp_ge (tgt := 129) hx hb dX5_anew_112 (by decide) (fun c_112 => ?_) (fun c_112 => ?_)
                  · replace hr := hr.trans (if_pos c_112)
                    refine lv_aload_n hx hb dX5_anew_129 rfl (lv_at hl 1 rfl) ?_
                    refine mg_0_16 hx hb hts hown hK hP (hts _ q687) dX5_anew_130 ?_
                    refine lv_iconst (v := (4 : Int32)) hx hb dX5_anew_133 ic_4 ?_
                    refine lv_ldc2 hx hb hown (hts _ q661) dX5_anew_134 ?_
                    refine ms_7 hx hb hK hI hP hS (show ¬ ((4 : Int32) < 0 ∨ 16 ≤ (4 : Int32).toNatClampNeg) by decide) dX5_anew_137 (fun d7 ed7 H locs hP hS => ?_)
                    replace hr := hr.trans (bnd_eq ed7)
                    refine lv_aload_n hx hb dX5_anew_138 rfl (lv_at hl 1 rfl) ?_
                    refine lv_lconst (v := (0 : Int64)) hx hb dX5_anew_139 lc_0 ?_
                    obtain ⟨g8, eg8⟩ : ∃ z, z = m_setFlags (0 : Int64) d7 := ⟨_, rfl⟩
                    replace hr := hr.trans (bnd_eq eg8)
                    refine g_UV0 (As := [.long (0 : Int64)]) (rest := []) hC (m_X5_setFlags hI (K := K6) (d := d7) (0 : Int64) g8 eg8) (cwV 1 hts cw_X5_84 rfl rfl rfl hd_X5_setFlags ⟨Nat.le_of_ble_eq_true rfl, Nat.le_of_ble_eq_true rfl⟩) mKst (va_recv hK hP (ci := 5) (q0 := 0) rfl rfl) hP hKp ⟨Nat.zero_le _, Nat.zero_le _⟩ hS (fun _ h => h) rfl hl.1 rfl (Nat.le_of_ble_eq_true rfl) dX5_anew_140 (fun H locs hP hS => ?_)
                    have hP : va_P D xcl (MW ad ca K6 g8) H := hP
                    refine lv_aload_n hx hb dX5_anew_143 rfl (lv_at hl 1 rfl) ?_
                    refine lv_ldc2 hx hb hown (hts _ q670) dX5_anew_144 ?_
                    refine mp_0_18 (v := (4194304 : Int64)) hx hb hts hown hK hI hP hS (hts _ q689) dX5_anew_147 (fun d9 ed9 H locs hP hS => ?_)
                    replace hr := hr.trans (bnd_eq ed9)
                    refine lv_aload_n hx hb dX5_anew_150 rfl (lv_at hl 1 rfl) ?_
                    refine lv_iconst (v := (0 : Int32)) hx hb dX5_anew_151 ic_0 ?_
                    refine mp_0_13 (v := (0 : Int32)) hx hb hts hown hK hI hP hS (hts _ q684) dX5_anew_152 (fun K10 eK10 H locs hP hS => ?_)
                    replace hr := hr.trans (bnd_eq eK10)
                    refine lv_aload_n hx hb dX5_anew_155 rfl (lv_at hl 1 rfl) ?_
                    refine lv_iconst (v := (0 : Int32)) hx hb dX5_anew_156 ic_0 ?_
                    refine mp_0_14 (v := (0 : Int32)) hx hb hts hown hK hI hP hS (hts _ q685) dX5_anew_157 (fun d11 ed11 H locs hP hS => ?_)
                    replace hr := hr.trans (bnd_eq ed11)
                    refine lv_aload_n hx hb dX5_anew_160 rfl (lv_at hl 1 rfl) ?_
                    refine lv_iconst (v := (0 : Int32)) hx hb dX5_anew_161 ic_0 ?_
                    refine mp_0_15 (v := (0 : Int32)) hx hb hts hown hK hI hP hS (hts _ q686) dX5_anew_162 (fun d12 ed12 H locs hP hS => ?_)
                    replace hr := hr.trans (bnd_eq ed12)
                    refine lv_aload_n hx hb dX5_anew_165 rfl (lv_at hl 1 rfl) ?_
                    refine lv_iconst (v := (0 : Int32)) hx hb dX5_anew_166 ic_0 ?_
                    refine mp_0_26 (v := (0 : Int32)) hx hb hts hown hK hI hP hS (hts _ q697) dX5_anew_167 (fun d13 ed13 H locs hP hS => ?_)
                    replace hr := hr.trans (bnd_eq ed13)
                    refine lv_aload_n hx hb dX5_anew_170 rfl (lv_at hl 1 rfl) ?_
                    refine lv_lconst (v := (0 : Int64)) hx hb dX5_anew_171 lc_0 ?_
                    refine mp_0_19 (v := (0 : Int64)) hx hb hts hown hK hI hP hS (hts _ q690) dX5_anew_172 (fun d14 ed14 H locs hP hS => ?_)
                    replace hr := hr.trans (bnd_eq ed14)
                    refine lv_aload_n hx hb dX5_anew_175 rfl (lv_at hl 1 rfl) ?_
                    refine lv_lconst (v := (0 : Int64)) hx hb dX5_anew_176 lc_0 ?_
                    refine mp_0_20 (v := (0 : Int64)) hx hb hts hown hK hI hP hS (hts _ q691) dX5_anew_177 (fun d15 ed15 H locs hP hS => ?_)
                    replace hr := hr.trans (bnd_eq ed15)
                    exact g_endUv (Pic := (fun u => mB D ad ca u.1 u.2)) (u := (K10, d15)) hF hQ hr hP hS dX5_anew_180
                  · replace hr := hr.trans (if_neg c_112)
                    refine lv_aload_n hx hb dX5_anew_115 rfl (lv_at hl 1 rfl) ?_
                    refine mg_0_16 hx hb hts hown hK hP (hts _ q687) dX5_anew_116 ?_
                    refine lv_iload hx hb dX5_anew_119 (lv_at hl 0 rfl) ?_
                    refine lv_lconst (v := (0 : Int64)) hx hb dX5_anew_121 lc_0 ?_
                    refine ms_7 hx hb hK hI hP hS (i_in h0 c_112 (by decide)) dX5_anew_122 (fun d16 ed16 H locs hP hS => ?_)
                    replace hr := hr.trans (bnd_eq ed16)
                    obtain ⟨v17, ev17⟩ : ∃ z : Int32, z = (w108_7 + (1 : Int32)) := ⟨_, rfl⟩
                    replace hr := hr.trans (bnd_eq ev17)
                    refine lv_iinc (v := v17) (lv' := [(7, .int v17), (0, .ref (ad 0)), (1, .int im), (2, .int te), (3, .int rb), (4, .int re), (5, .int db), (6, .int de)]) hx hb dX5_anew_123 hl (k := 0) rfl (by rw [ev17, ← ic_1]) (by decide) rfl (fun ls hl => ?_)
                    refine lv_goto (tgt := 108) hx hb dX5_anew_126 (by decide) ?_
                    exact ih v17 d16 _ _ ls (mI_dec c_112 hm ev17) (i_nn h0 c_112 ev17) hr hP hS (lv_sub hl [0, 1, 2, 3, 4, 5, 6, 7] rfl)
              exact lp108 (mI (0 : Int32) (16 : Int32) + 1) (0 : Int32) dl76 _ _ ls (Nat.lt_succ_self _) (by decide) hr hP hS (lv_sub hl [0, 1, 2, 3, 4, 5, 6, 7] rfl)
            · replace hr := hr.trans (if_neg c_80)
              refine lv_aload_n hx hb dX5_anew_83 rfl (lv_at hl 1 rfl) ?_
              refine mg_0_3 hx hb hts hown hK hP (hts _ q674) dX5_anew_84 ?_
              refine lv_iload hx hb dX5_anew_87 (lv_at hl 0 rfl) ?_
              refine lv_iconst (v := (0 : Int32)) hx hb dX5_anew_89 ic_0 ?_
              refine ms_3 hx hb hK hI hP hS (i_in h0 c_80 (by decide)) dX5_anew_90 (fun d18 ed18 H locs hP hS => ?_)
              replace hr := hr.trans (bnd_eq ed18)
              refine lv_aload_n hx hb dX5_anew_91 rfl (lv_at hl 1 rfl) ?_
              refine mg_0_4 hx hb hts hown hK hP (hts _ q675) dX5_anew_92 ?_
              refine lv_iload hx hb dX5_anew_95 (lv_at hl 0 rfl) ?_
              refine lv_iconst (v := (0 : Int32)) hx hb dX5_anew_97 ic_0 ?_
              refine ms_4 hx hb hK hI hP hS (i_in h0 c_80 (by decide)) dX5_anew_98 (fun d19 ed19 H locs hP hS => ?_)
              replace hr := hr.trans (bnd_eq ed19)
              obtain ⟨v20, ev20⟩ : ∃ z : Int32, z = (w76_7 + (1 : Int32)) := ⟨_, rfl⟩
              replace hr := hr.trans (bnd_eq ev20)
              refine lv_iinc (v := v20) (lv' := [(7, .int v20), (0, .ref (ad 0)), (1, .int im), (2, .int te), (3, .int rb), (4, .int re), (5, .int db), (6, .int de)]) hx hb dX5_anew_99 hl (k := 0) rfl (by rw [ev20, ← ic_1]) (by decide) rfl (fun ls hl => ?_)
              refine lv_goto (tgt := 76) hx hb dX5_anew_102 (by decide) ?_
              exact ih v20 d19 _ _ ls (mI_dec c_80 hm ev20) (i_nn h0 c_80 ev20) hr hP hS (lv_sub hl [0, 1, 2, 3, 4, 5, 6, 7] rfl)
        exact lp76 (mI (0 : Int32) (65536 : Int32) + 1) (0 : Int32) dl36 _ _ ls (Nat.lt_succ_self _) (by decide) hr hP hS (lv_sub hl [0, 1, 2, 3, 4, 5, 6, 7] rfl)
      · replace hr := hr.trans (if_neg c_40)
        refine lv_aload_n hx hb dX5_anew_43 rfl (lv_at hl 1 rfl) ?_
        refine mg_0_2 hx hb hts hown hK hP (hts _ q673) dX5_anew_44 ?_
        refine lv_iload hx hb dX5_anew_47 (lv_at hl 0 rfl) ?_
        refine lv_iload hx hb dX5_anew_49 (lv_at hl 0 rfl) ?_
        refine lv_iload_n hx hb dX5_anew_51 rfl (lv_at hl 2 rfl) ?_
        refine lv_icmp_ge (tgt := 65) hx hb dX5_anew_52 (by decide) (fun c_52 => ?_) (fun c_52 => ?_)
        · replace hr := hr.trans (if_pos c_52)
          refine lv_iconst (v := (0 : Int32)) hx hb dX5_anew_65 ic_0 ?_
          refine ms_2 hx hb hK hI hP hS (i_in h0 c_40 (by decide)) dX5_anew_66 (fun d21 ed21 H locs hP hS => ?_)
          replace hr := hr.trans (bnd_eq ed21)
          obtain ⟨v22, ev22⟩ : ∃ z : Int32, z = (w36_7 + (1 : Int32)) := ⟨_, rfl⟩
          replace hr := hr.trans (bnd_eq ev22)
          refine lv_iinc (v := v22) (lv' := [(7, .int v22), (0, .ref (ad 0)), (1, .int im), (2, .int te), (3, .int rb), (4, .int re), (5, .int db), (6, .int de)]) hx hb dX5_anew_67 hl (k := 0) rfl (by rw [ev22, ← ic_1]) (by decide) rfl (fun ls hl => ?_)
          refine lv_goto (tgt := 36) hx hb dX5_anew_70 (by decide) ?_
          exact ih v22 d21 _ _ ls (mI_dec c_40 hm ev22) (i_nn h0 c_40 ev22) hr hP hS (lv_sub hl [0, 1, 2, 3, 4, 5, 6, 7] rfl)
        · replace hr := hr.trans (if_neg c_52)
          refine lv_aload_n hx hb dX5_anew_55 rfl (lv_at hl 1 rfl) ?_
          refine mg_0_1 hx hb hts hown hK hP (hts _ q672) dX5_anew_56 ?_
          refine lv_iload hx hb dX5_anew_59 (lv_at hl 0 rfl) ?_
          refine ml_1 hx hb hK hP (i_in h0 c_40 (by decide)) dX5_anew_61 ?_
          refine lv_goto (tgt := 66) hx hb dX5_anew_62 (by decide) ?_
          refine ms_2 hx hb hK hI hP hS (i_in h0 c_40 (by decide)) dX5_anew_66 (fun d23 ed23 H locs hP hS => ?_)
          replace hr := hr.trans (bnd_eq ed23)
          obtain ⟨v24, ev24⟩ : ∃ z : Int32, z = (w36_7 + (1 : Int32)) := ⟨_, rfl⟩
          replace hr := hr.trans (bnd_eq ev24)
          refine lv_iinc (v := v24) (lv' := [(7, .int v24), (0, .ref (ad 0)), (1, .int im), (2, .int te), (3, .int rb), (4, .int re), (5, .int db), (6, .int de)]) hx hb dX5_anew_67 hl (k := 0) rfl (by rw [ev24, ← ic_1]) (by decide) rfl (fun ls hl => ?_)
          refine lv_goto (tgt := 36) hx hb dX5_anew_70 (by decide) ?_
          exact ih v24 d23 _ _ ls (mI_dec c_40 hm ev24) (i_nn h0 c_40 ev24) hr hP hS (lv_sub hl [0, 1, 2, 3, 4, 5, 6, 7] rfl)
  exact lp36 (mI (0 : Int32) (262144 : Int32) + 1) (0 : Int32) d _ _ ls (Nat.lt_succ_self _) (by decide) hr hP hS (lv_sub hl [0, 1, 2, 3, 4, 5, 6, 7] rfl)
def m_begin (K : MK) (im : Int32) (te : Int32) (rb : Int32) (re : Int32) (db : Int32) (de : Int32) (d : MD) : Bool × (MK × MD) := bnd (dm_thrown_ (0 : Int32) d) fun d1 => bnd (α := Bool) (if im < 0 then false else (if (262144 : Int32) < im then false else (if te < 0 then false else (if rb < te then false else (if re < rb then false else (if db < re then false else (if de < db then false else (if im < de then false else true)))))))) fun p2 => if (b2i p2) = 0 then (p2, (K, d1)) else (bnd (m_anew K im te rb re db de d1) fun g3 => (p2, (g3.1, g3.2)))
abbrev rm_X5_begin : Room := { frames := 2, cells := 0, slots := 0, locals := 49 }
set_option maxHeartbeats 4000000 in
set_option maxRecDepth 100000 in
theorem m_X5_begin {l : Launch} {D : va_G} {ad : Nat → Nat} {ca : Nat → ClassId} (hI : mInj ad) {K : MK} {d : MD} (im : Int32) (te : Int32) (rb : Int32) (re : Int32) (db : Int32) (de : Int32) (RES : Bool × (MK × MD)) (hr : RES = m_begin K im te rb re db de d) : g_U l yX5_begin (ws_ yX5_begin cX5_begin 8 (some .boolean)) rm_X5_begin [.ref (ad 0), .int im, .int te, .int rb, .int re, .int db, .int de] (mKp D ca) (mB D ad ca K d) (some (.int (b2i RES.1))) (mB D ad ca RES.2.1 RES.2.2) (mA ad) := by
  refine g_ofU (by decide) (Nat.le_of_ble_eq_true rfl) ?_
  intro p e s m args below meth c ls Q hF hB hKp hl hQ
  obtain ⟨hx, hb, -, -, hml, hown, hts⟩ := id hF
  have hown : s.vm.findClass RX5 = some m.cls := hown
  have hC : CallFix p m c cX5_begin 8 s args lw_all RX5 := ⟨hx, hb, hml, hown, hts⟩
  have hK : va_K D xcl (mtys ca) s := hKp
  have hP : va_P D xcl (MW ad ca K d) s.heap := hB
  have hS : va_S (mA ad) s.heap s.heap [] := va_S.rf
  have hl : lv_has ls 8 [(0, .ref (ad 0)), (1, .int im), (2, .int te), (3, .int rb), (4, .int re), (5, .int db), (6, .int de)] := hl
  unfold m_begin at hr
  refine lv_aload_n hx hb dX5_begin_0 rfl (lv_at hl 0 rfl) ?_
  refine lv_iconst (v := (0 : Int32)) hx hb dX5_begin_1 ic_0 ?_
  refine mp_0_0 (v := (0 : Int32)) hx hb hts hown hK hI hP hS (hts _ q671) dX5_begin_2 (fun d1 ed1 H locs hP hS => ?_)
  replace hr := hr.trans (bnd_eq ed1)
  refine lv_iload_n hx hb dX5_begin_5 rfl (lv_at hl 1 rfl) ?_
  obtain ⟨p2, ep2⟩ : ∃ z : Bool, z = (if im < 0 then false else (if (262144 : Int32) < im then false else (if te < 0 then false else (if rb < te then false else (if re < rb then false else (if db < re then false else (if de < db then false else (if im < de then false else true)))))))) := ⟨_, rfl⟩
  replace hr := hr.trans (bnd_eq ep2)
  have kp2 : ∀ (H : Heap) (locs : List Loc) (ls : Array Slot), va_P D xcl (MW ad ca K d1) H → va_S (mA ad) s.heap H locs → lv_has ls 8 [(0, .ref (ad 0)), (1, .int im), (2, .int te), (3, .int rb), (4, .int re), (5, .int db), (6, .int de)] → W p l e rm_X5_begin s m args below meth c H locs 0 0 Q (F0 m 55 ls [.int (b2i p2)]) := by
    intro H locs ls hP hS hl
    refine lv_istore (lv' := [(7, .int (b2i p2)), (0, .ref (ad 0)), (1, .int im), (2, .int te), (3, .int rb), (4, .int re), (5, .int db), (6, .int de)]) hx hb dX5_begin_55 hl (by decide) rfl (fun ls hl => ?_)
    refine lv_iload hx hb dX5_begin_57 (lv_at hl 0 rfl) ?_
    refine lv_if_eq (tgt := 75) hx hb dX5_begin_59 (by decide) (fun c_59 => ?_) (fun c_59 => ?_)
    · replace hr := hr.trans (if_pos c_59)
      refine lv_iload hx hb dX5_begin_75 (lv_at hl 0 rfl) ?_
      exact g_endUz (Pic := (fun u => mB D ad ca u.1 u.2)) (u := (K, d1)) hF hQ hr rfl hP hS dX5_begin_77
    · replace hr := hr.trans (if_neg c_59)
      refine lv_aload_n hx hb dX5_begin_62 rfl (lv_at hl 1 rfl) ?_
      refine lv_iload_n hx hb dX5_begin_63 rfl (lv_at hl 2 rfl) ?_
      refine lv_iload_n hx hb dX5_begin_64 rfl (lv_at hl 3 rfl) ?_
      refine lv_iload_n hx hb dX5_begin_65 rfl (lv_at hl 4 rfl) ?_
      refine lv_iload hx hb dX5_begin_66 (lv_at hl 5 rfl) ?_
      refine lv_iload hx hb dX5_begin_68 (lv_at hl 6 rfl) ?_
      refine lv_iload hx hb dX5_begin_70 (lv_at hl 7 rfl) ?_
      obtain ⟨g3, eg3⟩ : ∃ z, z = m_anew K im te rb re db de d1 := ⟨_, rfl⟩
      replace hr := hr.trans (bnd_eq eg3)
      refine g_UV0 (As := [.int im, .int te, .int rb, .int re, .int db, .int de]) (rest := []) hC (m_X5_anew hI (K := K) (d := d1) im te rb re db de g3 eg3) (cwV 6 hts cw_X5_57 rfl rfl rfl hd_X5_anew ⟨Nat.le_of_ble_eq_true rfl, Nat.le_of_ble_eq_true rfl⟩) mKst (va_recv hK hP (ci := 5) (q0 := 0) rfl rfl) hP hKp ⟨Nat.zero_le _, Nat.zero_le _⟩ hS (fun _ h => h) rfl hl.1 rfl (Nat.le_of_ble_eq_true rfl) dX5_begin_72 (fun H locs hP hS => ?_)
      have hP : va_P D xcl (MW ad ca g3.1 g3.2) H := hP
      refine lv_iload hx hb dX5_begin_75 (lv_at hl 0 rfl) ?_
      exact g_endUz (Pic := (fun u => mB D ad ca u.1 u.2)) (u := (g3.1, g3.2)) hF hQ hr rfl hP hS dX5_begin_77
  replace hr := ep2
  refine lv_if_lt (tgt := 54) hx hb dX5_begin_6 (by decide) (fun c_6 => ?_) (fun c_6 => ?_)
  · replace hr := hr.trans (if_pos c_6)
    refine lv_iconst (v := (0 : Int32)) hx hb dX5_begin_54 ic_0 ?_
    subst hr
    exact kp2 _ _ ls hP hS (lv_sub hl [0, 1, 2, 3, 4, 5, 6] rfl)
  · replace hr := hr.trans (if_neg c_6)
    refine lv_iload_n hx hb dX5_begin_9 rfl (lv_at hl 1 rfl) ?_
    refine lv_ldc hx hb hown (hts _ q655) dX5_begin_10 ?_
    refine lv_icmp_gt (tgt := 54) hx hb dX5_begin_12 (by decide) (fun c_12 => ?_) (fun c_12 => ?_)
    · replace hr := hr.trans (if_pos c_12)
      refine lv_iconst (v := (0 : Int32)) hx hb dX5_begin_54 ic_0 ?_
      subst hr
      exact kp2 _ _ ls hP hS (lv_sub hl [0, 1, 2, 3, 4, 5, 6] rfl)
    · replace hr := hr.trans (if_neg c_12)
      refine lv_iload_n hx hb dX5_begin_15 rfl (lv_at hl 2 rfl) ?_
      refine lv_if_lt (tgt := 54) hx hb dX5_begin_16 (by decide) (fun c_16 => ?_) (fun c_16 => ?_)
      · replace hr := hr.trans (if_pos c_16)
        refine lv_iconst (v := (0 : Int32)) hx hb dX5_begin_54 ic_0 ?_
        subst hr
        exact kp2 _ _ ls hP hS (lv_sub hl [0, 1, 2, 3, 4, 5, 6] rfl)
      · replace hr := hr.trans (if_neg c_16)
        refine lv_iload_n hx hb dX5_begin_19 rfl (lv_at hl 3 rfl) ?_
        refine lv_iload_n hx hb dX5_begin_20 rfl (lv_at hl 2 rfl) ?_
        refine lv_icmp_lt (tgt := 54) hx hb dX5_begin_21 (by decide) (fun c_21 => ?_) (fun c_21 => ?_)
        · replace hr := hr.trans (if_pos c_21)
          refine lv_iconst (v := (0 : Int32)) hx hb dX5_begin_54 ic_0 ?_
          subst hr
          exact kp2 _ _ ls hP hS (lv_sub hl [0, 1, 2, 3, 4, 5, 6] rfl)
        · replace hr := hr.trans (if_neg c_21)
          refine lv_iload hx hb dX5_begin_24 (lv_at hl 4 rfl) ?_
          refine lv_iload_n hx hb dX5_begin_26 rfl (lv_at hl 3 rfl) ?_
          refine lv_icmp_lt (tgt := 54) hx hb dX5_begin_27 (by decide) (fun c_27 => ?_) (fun c_27 => ?_)
          · replace hr := hr.trans (if_pos c_27)
            refine lv_iconst (v := (0 : Int32)) hx hb dX5_begin_54 ic_0 ?_
            subst hr
            exact kp2 _ _ ls hP hS (lv_sub hl [0, 1, 2, 3, 4, 5, 6] rfl)
          · replace hr := hr.trans (if_neg c_27)
            refine lv_iload hx hb dX5_begin_30 (lv_at hl 5 rfl) ?_
            refine lv_iload hx hb dX5_begin_32 (lv_at hl 4 rfl) ?_
            refine lv_icmp_lt (tgt := 54) hx hb dX5_begin_34 (by decide) (fun c_34 => ?_) (fun c_34 => ?_)
            · replace hr := hr.trans (if_pos c_34)
              refine lv_iconst (v := (0 : Int32)) hx hb dX5_begin_54 ic_0 ?_
              subst hr
              exact kp2 _ _ ls hP hS (lv_sub hl [0, 1, 2, 3, 4, 5, 6] rfl)
            · replace hr := hr.trans (if_neg c_34)
              refine lv_iload hx hb dX5_begin_37 (lv_at hl 6 rfl) ?_
              refine lv_iload hx hb dX5_begin_39 (lv_at hl 5 rfl) ?_
              refine lv_icmp_lt (tgt := 54) hx hb dX5_begin_41 (by decide) (fun c_41 => ?_) (fun c_41 => ?_)
              · replace hr := hr.trans (if_pos c_41)
                refine lv_iconst (v := (0 : Int32)) hx hb dX5_begin_54 ic_0 ?_
                subst hr
                exact kp2 _ _ ls hP hS (lv_sub hl [0, 1, 2, 3, 4, 5, 6] rfl)
              · replace hr := hr.trans (if_neg c_41)
                refine lv_iload hx hb dX5_begin_44 (lv_at hl 6 rfl) ?_
                refine lv_iload_n hx hb dX5_begin_46 rfl (lv_at hl 1 rfl) ?_
                refine lv_icmp_gt (tgt := 54) hx hb dX5_begin_47 (by decide) (fun c_47 => ?_) (fun c_47 => ?_)
                · replace hr := hr.trans (if_pos c_47)
                  refine lv_iconst (v := (0 : Int32)) hx hb dX5_begin_54 ic_0 ?_
                  subst hr
                  exact kp2 _ _ ls hP hS (lv_sub hl [0, 1, 2, 3, 4, 5, 6] rfl)
                · replace hr := hr.trans (if_neg c_47)
                  refine lv_iconst (v := (1 : Int32)) hx hb dX5_begin_50 ic_1 ?_
                  refine lv_goto (tgt := 55) hx hb dX5_begin_51 (by decide) ?_
                  subst hr
                  exact kp2 _ _ ls hP hS (lv_sub hl [0, 1, 2, 3, 4, 5, 6] rfl)
def m_fill_L8 (place : Int32) (v : Int64) : Nat → Int32 → MD → MD
  | 0, w8_4, dl8 => dl8
  | n + 1, w8_4, dl8 => if (8 : Int32) ≤ w8_4 then dl8 else (bnd (α := Int64) (((place.toInt64) + (w8_4.toInt64))) fun v2 => if v2 < (0 : Int64) then (bnd (α := Int32) ((w8_4 + (1 : Int32))) fun v3 => m_fill_L8 place v n v3 dl8) else (if (262144 : Int64) ≤ v2 then (bnd (α := Int32) ((w8_4 + (1 : Int32))) fun v4 => m_fill_L8 place v n v4 dl8) else (bnd (dm_filled_ (upd (dm_filled dl8) (v2.toInt32).toNatClampNeg (vp_nar .byte (((lshr_ v ((8 : Int32) * w8_4)).toInt32).toInt8.toInt32))) dl8) fun d5 => bnd (α := Int32) ((w8_4 + (1 : Int32))) fun v6 => m_fill_L8 place v n v6 d5)))
theorem m_fill_L8_s (place : Int32) (v : Int64) (n : Nat) (w8_4 : Int32) (dl8 : MD) : m_fill_L8 place v (n + 1) w8_4 dl8 = if (8 : Int32) ≤ w8_4 then dl8 else (bnd (α := Int64) (((place.toInt64) + (w8_4.toInt64))) fun v2 => if v2 < (0 : Int64) then (bnd (α := Int32) ((w8_4 + (1 : Int32))) fun v3 => m_fill_L8 place v n v3 dl8) else (if (262144 : Int64) ≤ v2 then (bnd (α := Int32) ((w8_4 + (1 : Int32))) fun v4 => m_fill_L8 place v n v4 dl8) else (bnd (dm_filled_ (upd (dm_filled dl8) (v2.toInt32).toNatClampNeg (vp_nar .byte (((lshr_ v ((8 : Int32) * w8_4)).toInt32).toInt8.toInt32))) dl8) fun d5 => bnd (α := Int32) ((w8_4 + (1 : Int32))) fun v6 => m_fill_L8 place v n v6 d5))) := rfl
def m_fill (place : Int32) (v : Int64) (d : MD) : MD := bnd (dm_thrown_ (0 : Int32) d) fun d1 => m_fill_L8 place v (mI (0 : Int32) (8 : Int32) + 1) (0 : Int32) d1
abbrev rm_X5_fill : Room := { frames := 0, cells := 0, slots := 0, locals := 0 }
set_option maxHeartbeats 4000000 in
set_option maxRecDepth 100000 in
theorem m_X5_fill {l : Launch} {D : va_G} {ad : Nat → Nat} {ca : Nat → ClassId} (hI : mInj ad) {K : MK} {d : MD} (place : Int32) (v : Int64) (RES : MD) (hr : RES = m_fill place v d) : g_U l yX5_fill (ws_ yX5_fill cX5_fill 7 none) rm_X5_fill [.ref (ad 0), .int place, .long v] (mKp D ca) (mB D ad ca K d) none (mB D ad ca K RES) (mA ad) := by
  refine g_ofU (by decide) (Nat.le_of_ble_eq_true rfl) ?_
  intro p e s m args below meth c ls Q hF hB hKp hl hQ
  obtain ⟨hx, hb, -, -, hml, hown, hts⟩ := id hF
  have hown : s.vm.findClass RX5 = some m.cls := hown
  have hC : CallFix p m c cX5_fill 7 s args lw_all RX5 := ⟨hx, hb, hml, hown, hts⟩
  have hK : va_K D xcl (mtys ca) s := hKp
  have hP : va_P D xcl (MW ad ca K d) s.heap := hB
  have hS : va_S (mA ad) s.heap s.heap [] := va_S.rf
  have hl : lv_has ls 7 [(0, .ref (ad 0)), (1, .int place), (2, .long v)] := hl
  unfold m_fill at hr
  refine lv_aload_n hx hb dX5_fill_0 rfl (lv_at hl 0 rfl) ?_
  refine lv_iconst (v := (0 : Int32)) hx hb dX5_fill_1 ic_0 ?_
  refine mp_0_0 (v := (0 : Int32)) hx hb hts hown hK hI hP hS (hts _ q671) dX5_fill_2 (fun d1 ed1 H locs hP hS => ?_)
  replace hr := hr.trans (bnd_eq ed1)
  refine lv_iconst (v := (0 : Int32)) hx hb dX5_fill_5 ic_0 ?_
  refine lv_istore (lv' := [(4, .int (0 : Int32)), (0, .ref (ad 0)), (1, .int place), (2, .long v)]) hx hb dX5_fill_6 hl (by decide) rfl (fun ls hl => ?_)
  have lp8 : ∀ (n : Nat) (w8_4 : Int32) (dl8 : MD) (H : Heap) (locs : List Loc) (ls : Array Slot), mI w8_4 (8 : Int32) < n → (0 ≤ w8_4) → RES = m_fill_L8 place v n w8_4 dl8 → va_P D xcl (MW ad ca K dl8) H → va_S (mA ad) s.heap H locs → lv_has ls 7 [(4, .int w8_4), (0, .ref (ad 0)), (1, .int place), (2, .long v)] → W p l e rm_X5_fill s m args below meth c H locs 0 0 Q (F0 m 8 ls []) := by
    intro n
    induction n with
    | zero =>
      intro w8_4 dl8 H locs ls hm
      exact absurd hm (Nat.not_lt_zero _)
    | succ n ih =>
      intro w8_4 dl8 H locs ls hm h0 hr hP hS hl
      replace hr := hr.trans (m_fill_L8_s place v n w8_4 dl8)
      refine lv_iload hx hb dX5_fill_8 (lv_at hl 0 rfl) ?_
      refine lv_bipush (v := (8 : Int32)) hx hb dX5_fill_10 bp_8 ?_
      refine lv_icmp_ge (tgt := 62) hx hb dX5_fill_12 (by decide) (fun c_12 => ?_) (fun c_12 => ?_)
      · replace hr := hr.trans (if_pos c_12)
        exact g_endUv (Pic := (fun u => mB D ad ca K u)) (u := dl8) hF hQ hr hP hS dX5_fill_62
      · replace hr := hr.trans (if_neg c_12)
        refine lv_iload_n hx hb dX5_fill_15 rfl (lv_at hl 2 rfl) ?_
        refine lv_i2l (v := place.toInt64) hx hb dX5_fill_16 rfl ?_
        refine lv_iload hx hb dX5_fill_17 (lv_at hl 0 rfl) ?_
        refine lv_i2l (v := w8_4.toInt64) hx hb dX5_fill_19 rfl ?_
        refine lv_ladd hx hb dX5_fill_20 ?_
        refine lv_topl (fun v2 ev2 => ?_)
        replace hr := hr.trans (bnd_eq ev2)
        refine lv_lstore (lv' := [(5, .long v2), (4, .int w8_4), (0, .ref (ad 0)), (1, .int place), (2, .long v)]) hx hb dX5_fill_21 hl (by decide) rfl (fun ls hl => ?_)
        refine lv_lload hx hb dX5_fill_23 (lv_at hl 0 rfl) ?_
        refine lv_lconst (v := (0 : Int64)) hx hb dX5_fill_25 lc_0 ?_
        refine lq_lt (tgt := 56) hx hb dX5_fill_26 dX5_fill_27 (by decide) (fun c_26 => ?_) (fun c_26 => ?_)
        · replace hr := hr.trans (if_pos c_26)
          obtain ⟨v3, ev3⟩ : ∃ z : Int32, z = (w8_4 + (1 : Int32)) := ⟨_, rfl⟩
          replace hr := hr.trans (bnd_eq ev3)
          refine lv_iinc (v := v3) (lv' := [(4, .int v3), (5, .long v2), (0, .ref (ad 0)), (1, .int place), (2, .long v)]) hx hb dX5_fill_56 hl (k := 1) rfl (by rw [ev3, ← ic_1]) (by decide) rfl (fun ls hl => ?_)
          refine lv_goto (tgt := 8) hx hb dX5_fill_59 (by decide) ?_
          exact ih v3 dl8 _ _ ls (mI_dec c_12 hm ev3) (i_nn h0 c_12 ev3) hr hP hS (lv_sub hl [0, 2, 3, 4] rfl)
        · replace hr := hr.trans (if_neg c_26)
          refine lv_lload hx hb dX5_fill_30 (lv_at hl 0 rfl) ?_
          refine lv_ldc2 hx hb hown (hts _ q803) dX5_fill_32 ?_
          refine lq_ge (tgt := 56) hx hb dX5_fill_35 dX5_fill_36 (by decide) (fun c_35 => ?_) (fun c_35 => ?_)
          · replace hr := hr.trans (if_pos c_35)
            obtain ⟨v4, ev4⟩ : ∃ z : Int32, z = (w8_4 + (1 : Int32)) := ⟨_, rfl⟩
            replace hr := hr.trans (bnd_eq ev4)
            refine lv_iinc (v := v4) (lv' := [(4, .int v4), (5, .long v2), (0, .ref (ad 0)), (1, .int place), (2, .long v)]) hx hb dX5_fill_56 hl (k := 1) rfl (by rw [ev4, ← ic_1]) (by decide) rfl (fun ls hl => ?_)
            refine lv_goto (tgt := 8) hx hb dX5_fill_59 (by decide) ?_
            exact ih v4 dl8 _ _ ls (mI_dec c_12 hm ev4) (i_nn h0 c_12 ev4) hr hP hS (lv_sub hl [0, 2, 3, 4] rfl)
          · replace hr := hr.trans (if_neg c_35)
            refine lv_aload_n hx hb dX5_fill_39 rfl (lv_at hl 2 rfl) ?_
            refine mg_0_1 hx hb hts hown hK hP (hts _ q672) dX5_fill_40 ?_
            refine lv_lload hx hb dX5_fill_43 (lv_at hl 0 rfl) ?_
            refine lv_l2i (v := v2.toInt32) hx hb dX5_fill_45 rfl ?_
            refine lv_lload_n hx hb dX5_fill_46 rfl (lv_at hl 4 rfl) ?_
            refine lv_bipush (v := (8 : Int32)) hx hb dX5_fill_47 bp_8 ?_
            refine lv_iload hx hb dX5_fill_49 (lv_at hl 1 rfl) ?_
            refine lv_imul hx hb dX5_fill_51 ?_
            refine lv_lshr (v := (lshr_ v ((8 : Int32) * w8_4))) hx hb dX5_fill_52 rfl ?_
            refine lv_l2i (v := (lshr_ v ((8 : Int32) * w8_4)).toInt32) hx hb dX5_fill_53 rfl ?_
            refine lv_i2b (v := ((lshr_ v ((8 : Int32) * w8_4)).toInt32).toInt8.toInt32) hx hb dX5_fill_54 rfl ?_
            refine ms_1 hx hb hK hI hP hS (fl_in c_26 c_35) dX5_fill_55 (fun d5 ed5 H locs hP hS => ?_)
            replace hr := hr.trans (bnd_eq ed5)
            obtain ⟨v6, ev6⟩ : ∃ z : Int32, z = (w8_4 + (1 : Int32)) := ⟨_, rfl⟩
            replace hr := hr.trans (bnd_eq ev6)
            refine lv_iinc (v := v6) (lv' := [(4, .int v6), (5, .long v2), (0, .ref (ad 0)), (1, .int place), (2, .long v)]) hx hb dX5_fill_56 hl (k := 1) rfl (by rw [ev6, ← ic_1]) (by decide) rfl (fun ls hl => ?_)
            refine lv_goto (tgt := 8) hx hb dX5_fill_59 (by decide) ?_
            exact ih v6 d5 _ _ ls (mI_dec c_12 hm ev6) (i_nn h0 c_12 ev6) hr hP hS (lv_sub hl [0, 2, 3, 4] rfl)
  exact lp8 (mI (0 : Int32) (8 : Int32) + 1) (0 : Int32) d1 _ _ ls (Nat.lt_succ_self _) (by decide) hr hP hS (lv_sub hl [0, 1, 2, 3] rfl)
def m_op_L23 : Nat → Int32 → MK → MD → (MK × MD)
  | 0, w23_4, Kl23, dl23 => (Kl23, dl23)
  | n + 1, w23_4, Kl23, dl23 => if (3 : Int32) ≤ w23_4 then (Kl23, dl23) else (bnd (km_kinds_ (upd (km_kinds Kl23) w23_4.toNatClampNeg (0 : Int32)) Kl23) fun K5 => bnd (km_places_ (upd (km_places K5) w23_4.toNatClampNeg (0 : Int32)) K5) fun K6 => bnd (α := Int32) ((w23_4 + (1 : Int32))) fun v7 => m_op_L23 n v7 K6 dl23)
theorem m_op_L23_s (n : Nat) (w23_4 : Int32) (Kl23 : MK) (dl23 : MD) : m_op_L23 (n + 1) w23_4 Kl23 dl23 = if (3 : Int32) ≤ w23_4 then (Kl23, dl23) else (bnd (km_kinds_ (upd (km_kinds Kl23) w23_4.toNatClampNeg (0 : Int32)) Kl23) fun K5 => bnd (km_places_ (upd (km_places K5) w23_4.toNatClampNeg (0 : Int32)) K5) fun K6 => bnd (α := Int32) ((w23_4 + (1 : Int32))) fun v7 => m_op_L23 n v7 K6 dl23) := rfl
def m_op (K : MK) (o : Int32) (sz : Int32) (cd : Int32) (d : MD) : (MK × MD) := bnd (dm_thrown_ (0 : Int32) d) fun d1 => bnd (km_op_ o K) fun K2 => bnd (km_width_ sz K2) fun K3 => bnd (km_condition_ cd K3) fun K4 => m_op_L23 (mI (0 : Int32) (3 : Int32) + 1) (0 : Int32) K4 d1
abbrev rm_X5_op : Room := { frames := 0, cells := 0, slots := 0, locals := 0 }
set_option maxHeartbeats 4000000 in
set_option maxRecDepth 100000 in
theorem m_X5_op {l : Launch} {D : va_G} {ad : Nat → Nat} {ca : Nat → ClassId} (hI : mInj ad) {K : MK} {d : MD} (o : Int32) (sz : Int32) (cd : Int32) (RES : (MK × MD)) (hr : RES = m_op K o sz cd d) : g_U l yX5_op (ws_ yX5_op cX5_op 5 none) rm_X5_op [.ref (ad 0), .int o, .int sz, .int cd] (mKp D ca) (mB D ad ca K d) none (mB D ad ca RES.1 RES.2) (mA ad) := by
  refine g_ofU (by decide) (Nat.le_of_ble_eq_true rfl) ?_
  intro p e s m args below meth c ls Q hF hB hKp hl hQ
  obtain ⟨hx, hb, -, -, hml, hown, hts⟩ := id hF
  have hown : s.vm.findClass RX5 = some m.cls := hown
  have hC : CallFix p m c cX5_op 5 s args lw_all RX5 := ⟨hx, hb, hml, hown, hts⟩
  have hK : va_K D xcl (mtys ca) s := hKp
  have hP : va_P D xcl (MW ad ca K d) s.heap := hB
  have hS : va_S (mA ad) s.heap s.heap [] := va_S.rf
  have hl : lv_has ls 5 [(0, .ref (ad 0)), (1, .int o), (2, .int sz), (3, .int cd)] := hl
  unfold m_op at hr
  refine lv_aload_n hx hb dX5_op_0 rfl (lv_at hl 0 rfl) ?_
  refine lv_iconst (v := (0 : Int32)) hx hb dX5_op_1 ic_0 ?_
  refine mp_0_0 (v := (0 : Int32)) hx hb hts hown hK hI hP hS (hts _ q671) dX5_op_2 (fun d1 ed1 H locs hP hS => ?_)
  replace hr := hr.trans (bnd_eq ed1)
  refine lv_aload_n hx hb dX5_op_5 rfl (lv_at hl 0 rfl) ?_
  refine lv_iload_n hx hb dX5_op_6 rfl (lv_at hl 1 rfl) ?_
  refine mp_0_30 (v := o) hx hb hts hown hK hI hP hS (hts _ q701) dX5_op_7 (fun K2 eK2 H locs hP hS => ?_)
  replace hr := hr.trans (bnd_eq eK2)
  refine lv_aload_n hx hb dX5_op_10 rfl (lv_at hl 0 rfl) ?_
  refine lv_iload_n hx hb dX5_op_11 rfl (lv_at hl 2 rfl) ?_
  refine mp_0_31 (v := sz) hx hb hts hown hK hI hP hS (hts _ q702) dX5_op_12 (fun K3 eK3 H locs hP hS => ?_)
  replace hr := hr.trans (bnd_eq eK3)
  refine lv_aload_n hx hb dX5_op_15 rfl (lv_at hl 0 rfl) ?_
  refine lv_iload_n hx hb dX5_op_16 rfl (lv_at hl 3 rfl) ?_
  refine mp_0_32 (v := cd) hx hb hts hown hK hI hP hS (hts _ q703) dX5_op_17 (fun K4 eK4 H locs hP hS => ?_)
  replace hr := hr.trans (bnd_eq eK4)
  refine lv_iconst (v := (0 : Int32)) hx hb dX5_op_20 ic_0 ?_
  refine lv_istore (lv' := [(4, .int (0 : Int32)), (0, .ref (ad 0)), (1, .int o), (2, .int sz), (3, .int cd)]) hx hb dX5_op_21 hl (by decide) rfl (fun ls hl => ?_)
  have lp23 : ∀ (n : Nat) (w23_4 : Int32) (Kl23 : MK) (dl23 : MD) (H : Heap) (locs : List Loc) (ls : Array Slot), mI w23_4 (3 : Int32) < n → (0 ≤ w23_4) → RES = m_op_L23 n w23_4 Kl23 dl23 → va_P D xcl (MW ad ca Kl23 dl23) H → va_S (mA ad) s.heap H locs → lv_has ls 5 [(4, .int w23_4), (0, .ref (ad 0)), (1, .int o), (2, .int sz), (3, .int cd)] → W p l e rm_X5_op s m args below meth c H locs 0 0 Q (F0 m 23 ls []) := by
    intro n
    induction n with
    | zero =>
      intro w23_4 Kl23 dl23 H locs ls hm
      exact absurd hm (Nat.not_lt_zero _)
    | succ n ih =>
      intro w23_4 Kl23 dl23 H locs ls hm h0 hr hP hS hl
      replace hr := hr.trans (m_op_L23_s n w23_4 Kl23 dl23)
      refine lv_iload hx hb dX5_op_23 (lv_at hl 0 rfl) ?_
      refine lv_iconst (v := (3 : Int32)) hx hb dX5_op_25 ic_3 ?_
      refine lv_icmp_ge (tgt := 51) hx hb dX5_op_26 (by decide) (fun c_26 => ?_) (fun c_26 => ?_)
      · replace hr := hr.trans (if_pos c_26)
        exact g_endUv (Pic := (fun u => mB D ad ca u.1 u.2)) (u := (Kl23, dl23)) hF hQ hr hP hS dX5_op_51
      · replace hr := hr.trans (if_neg c_26)
        refine lv_aload_n hx hb dX5_op_29 rfl (lv_at hl 1 rfl) ?_
        refine mg_0_39 hx hb hts hown hK hP (hts _ q710) dX5_op_30 ?_
        refine lv_iload hx hb dX5_op_33 (lv_at hl 0 rfl) ?_
        refine lv_iconst (v := (0 : Int32)) hx hb dX5_op_35 ic_0 ?_
        refine ms_9 hx hb hK hI hP hS (i_in h0 c_26 (by decide)) dX5_op_36 (fun K5 eK5 H locs hP hS => ?_)
        replace hr := hr.trans (bnd_eq eK5)
        refine lv_aload_n hx hb dX5_op_37 rfl (lv_at hl 1 rfl) ?_
        refine mg_0_40 hx hb hts hown hK hP (hts _ q711) dX5_op_38 ?_
        refine lv_iload hx hb dX5_op_41 (lv_at hl 0 rfl) ?_
        refine lv_iconst (v := (0 : Int32)) hx hb dX5_op_43 ic_0 ?_
        refine ms_10 hx hb hK hI hP hS (i_in h0 c_26 (by decide)) dX5_op_44 (fun K6 eK6 H locs hP hS => ?_)
        replace hr := hr.trans (bnd_eq eK6)
        obtain ⟨v7, ev7⟩ : ∃ z : Int32, z = (w23_4 + (1 : Int32)) := ⟨_, rfl⟩
        replace hr := hr.trans (bnd_eq ev7)
        refine lv_iinc (v := v7) (lv' := [(4, .int v7), (0, .ref (ad 0)), (1, .int o), (2, .int sz), (3, .int cd)]) hx hb dX5_op_45 hl (k := 0) rfl (by rw [ev7, ← ic_1]) (by decide) rfl (fun ls hl => ?_)
        refine lv_goto (tgt := 23) hx hb dX5_op_48 (by decide) ?_
        exact ih v7 K6 dl23 _ _ ls (mI_dec c_26 hm ev7) (i_nn h0 c_26 ev7) hr hP hS (lv_sub hl [0, 1, 2, 3, 4] rfl)
  exact lp23 (mI (0 : Int32) (3 : Int32) + 1) (0 : Int32) K4 d1 _ _ ls (Nat.lt_succ_self _) (by decide) hr hP hS (lv_sub hl [0, 1, 2, 3, 4] rfl)
def m_operand (K : MK) (k : Int32) (kind : Int32) (reg : Int32) (d : MD) : Bool × (MK × MD) := bnd (dm_thrown_ (0 : Int32) d) fun d1 => if k < 0 then (false, (K, d1)) else (if (2 : Int32) < k then (false, (K, d1)) else (if kind < 0 then (false, (K, d1)) else (if (3 : Int32) < kind then (false, (K, d1)) else (if reg < 0 then (false, (K, d1)) else (bnd (α := Int32) (if kind = (1 : Int32) then (15 : Int32) else (0 : Int32)) fun p2 => if reg ≤ p2 then (bnd (km_kinds_ (upd (km_kinds K) k.toNatClampNeg kind) K) fun K3 => bnd (km_places_ (upd (km_places K3) k.toNatClampNeg reg) K3) fun K4 => (true, (K4, d1))) else (false, (K, d1)))))))
abbrev rm_X5_operand : Room := { frames := 0, cells := 0, slots := 0, locals := 0 }
set_option maxHeartbeats 4000000 in
set_option maxRecDepth 100000 in
theorem m_X5_operand {l : Launch} {D : va_G} {ad : Nat → Nat} {ca : Nat → ClassId} (hI : mInj ad) {K : MK} {d : MD} (k : Int32) (kind : Int32) (reg : Int32) (RES : Bool × (MK × MD)) (hr : RES = m_operand K k kind reg d) : g_U l yX5_operand (ws_ yX5_operand cX5_operand 4 (some .boolean)) rm_X5_operand [.ref (ad 0), .int k, .int kind, .int reg] (mKp D ca) (mB D ad ca K d) (some (.int (b2i RES.1))) (mB D ad ca RES.2.1 RES.2.2) (mA ad) := by
  refine g_ofU (by decide) (Nat.le_of_ble_eq_true rfl) ?_
  intro p e s m args below meth c ls Q hF hB hKp hl hQ
  obtain ⟨hx, hb, -, -, hml, hown, hts⟩ := id hF
  have hown : s.vm.findClass RX5 = some m.cls := hown
  have hC : CallFix p m c cX5_operand 4 s args lw_all RX5 := ⟨hx, hb, hml, hown, hts⟩
  have hK : va_K D xcl (mtys ca) s := hKp
  have hP : va_P D xcl (MW ad ca K d) s.heap := hB
  have hS : va_S (mA ad) s.heap s.heap [] := va_S.rf
  have hl : lv_has ls 4 [(0, .ref (ad 0)), (1, .int k), (2, .int kind), (3, .int reg)] := hl
  unfold m_operand at hr
  refine lv_aload_n hx hb dX5_operand_0 rfl (lv_at hl 0 rfl) ?_
  refine lv_iconst (v := (0 : Int32)) hx hb dX5_operand_1 ic_0 ?_
  refine mp_0_0 (v := (0 : Int32)) hx hb hts hown hK hI hP hS (hts _ q671) dX5_operand_2 (fun d1 ed1 H locs hP hS => ?_)
  replace hr := hr.trans (bnd_eq ed1)
  refine lv_iload_n hx hb dX5_operand_5 rfl (lv_at hl 1 rfl) ?_
  refine lv_if_lt (tgt := 42) hx hb dX5_operand_6 (by decide) (fun c_6 => ?_) (fun c_6 => ?_)
  · replace hr := hr.trans (if_pos c_6)
    refine lv_iconst (v := (0 : Int32)) hx hb dX5_operand_42 ic_0 ?_
    exact g_endUz (Pic := (fun u => mB D ad ca u.1 u.2)) (u := (K, d1)) hF hQ hr rfl hP hS dX5_operand_43
  · replace hr := hr.trans (if_neg c_6)
    refine lv_iload_n hx hb dX5_operand_9 rfl (lv_at hl 1 rfl) ?_
    refine lv_iconst (v := (2 : Int32)) hx hb dX5_operand_10 ic_2 ?_
    refine lv_icmp_gt (tgt := 42) hx hb dX5_operand_11 (by decide) (fun c_11 => ?_) (fun c_11 => ?_)
    · replace hr := hr.trans (if_pos c_11)
      refine lv_iconst (v := (0 : Int32)) hx hb dX5_operand_42 ic_0 ?_
      exact g_endUz (Pic := (fun u => mB D ad ca u.1 u.2)) (u := (K, d1)) hF hQ hr rfl hP hS dX5_operand_43
    · replace hr := hr.trans (if_neg c_11)
      refine lv_iload_n hx hb dX5_operand_14 rfl (lv_at hl 2 rfl) ?_
      refine lv_if_lt (tgt := 42) hx hb dX5_operand_15 (by decide) (fun c_15 => ?_) (fun c_15 => ?_)
      · replace hr := hr.trans (if_pos c_15)
        refine lv_iconst (v := (0 : Int32)) hx hb dX5_operand_42 ic_0 ?_
        exact g_endUz (Pic := (fun u => mB D ad ca u.1 u.2)) (u := (K, d1)) hF hQ hr rfl hP hS dX5_operand_43
      · replace hr := hr.trans (if_neg c_15)
        refine lv_iload_n hx hb dX5_operand_18 rfl (lv_at hl 2 rfl) ?_
        refine lv_iconst (v := (3 : Int32)) hx hb dX5_operand_19 ic_3 ?_
        refine lv_icmp_gt (tgt := 42) hx hb dX5_operand_20 (by decide) (fun c_20 => ?_) (fun c_20 => ?_)
        · replace hr := hr.trans (if_pos c_20)
          refine lv_iconst (v := (0 : Int32)) hx hb dX5_operand_42 ic_0 ?_
          exact g_endUz (Pic := (fun u => mB D ad ca u.1 u.2)) (u := (K, d1)) hF hQ hr rfl hP hS dX5_operand_43
        · replace hr := hr.trans (if_neg c_20)
          refine lv_iload_n hx hb dX5_operand_23 rfl (lv_at hl 3 rfl) ?_
          refine lv_if_lt (tgt := 42) hx hb dX5_operand_24 (by decide) (fun c_24 => ?_) (fun c_24 => ?_)
          · replace hr := hr.trans (if_pos c_24)
            refine lv_iconst (v := (0 : Int32)) hx hb dX5_operand_42 ic_0 ?_
            exact g_endUz (Pic := (fun u => mB D ad ca u.1 u.2)) (u := (K, d1)) hF hQ hr rfl hP hS dX5_operand_43
          · replace hr := hr.trans (if_neg c_24)
            refine lv_iload_n hx hb dX5_operand_27 rfl (lv_at hl 3 rfl) ?_
            refine lv_iload_n hx hb dX5_operand_28 rfl (lv_at hl 2 rfl) ?_
            refine lv_iconst (v := (1 : Int32)) hx hb dX5_operand_29 ic_1 ?_
            obtain ⟨p2, ep2⟩ : ∃ z : Int32, z = (if kind = (1 : Int32) then (15 : Int32) else (0 : Int32)) := ⟨_, rfl⟩
            replace hr := hr.trans (bnd_eq ep2)
            have kp2 : ∀ (H : Heap) (locs : List Loc) (ls : Array Slot), va_P D xcl (MW ad ca K d1) H → va_S (mA ad) s.heap H locs → lv_has ls 4 [(0, .ref (ad 0)), (1, .int k), (2, .int kind), (3, .int reg)] → W p l e rm_X5_operand s m args below meth c H locs 0 0 Q (F0 m 39 ls [.int p2, .int reg]) := by
              intro H locs ls hP hS hl
              refine lv_icmp_le (tgt := 44) hx hb dX5_operand_39 (by decide) (fun c_39 => ?_) (fun c_39 => ?_)
              · replace hr := hr.trans (if_pos c_39)
                refine lv_aload_n hx hb dX5_operand_44 rfl (lv_at hl 0 rfl) ?_
                refine mg_0_39 hx hb hts hown hK hP (hts _ q710) dX5_operand_45 ?_
                refine lv_iload_n hx hb dX5_operand_48 rfl (lv_at hl 1 rfl) ?_
                refine lv_iload_n hx hb dX5_operand_49 rfl (lv_at hl 2 rfl) ?_
                refine ms_9 hx hb hK hI hP hS (in3_of c_6 c_11) dX5_operand_50 (fun K3 eK3 H locs hP hS => ?_)
                replace hr := hr.trans (bnd_eq eK3)
                refine lv_aload_n hx hb dX5_operand_51 rfl (lv_at hl 0 rfl) ?_
                refine mg_0_40 hx hb hts hown hK hP (hts _ q711) dX5_operand_52 ?_
                refine lv_iload_n hx hb dX5_operand_55 rfl (lv_at hl 1 rfl) ?_
                refine lv_iload_n hx hb dX5_operand_56 rfl (lv_at hl 3 rfl) ?_
                refine ms_10 hx hb hK hI hP hS (in3_of c_6 c_11) dX5_operand_57 (fun K4 eK4 H locs hP hS => ?_)
                replace hr := hr.trans (bnd_eq eK4)
                refine lv_iconst (v := (1 : Int32)) hx hb dX5_operand_58 ic_1 ?_
                exact g_endUz (Pic := (fun u => mB D ad ca u.1 u.2)) (u := (K4, d1)) hF hQ hr rfl hP hS dX5_operand_59
              · replace hr := hr.trans (if_neg c_39)
                refine lv_iconst (v := (0 : Int32)) hx hb dX5_operand_42 ic_0 ?_
                exact g_endUz (Pic := (fun u => mB D ad ca u.1 u.2)) (u := (K, d1)) hF hQ hr rfl hP hS dX5_operand_43
            replace hr := ep2
            refine lv_icmp_ne (tgt := 38) hx hb dX5_operand_30 (by decide) (fun c_30 => ?_) (fun c_30 => ?_)
            · replace hr := hr.trans (if_neg c_30)
              refine lv_iconst (v := (0 : Int32)) hx hb dX5_operand_38 ic_0 ?_
              subst hr
              exact kp2 _ _ ls hP hS (lv_sub hl [0, 1, 2, 3] rfl)
            · replace hr := hr.trans (if_pos c_30)
              refine lv_bipush (v := (15 : Int32)) hx hb dX5_operand_33 bp_15 ?_
              refine lv_goto (tgt := 39) hx hb dX5_operand_35 (by decide) ?_
              subst hr
              exact kp2 _ _ ls hP hS (lv_sub hl [0, 1, 2, 3] rfl)
def m_memory (K : MK) (ba : Int32) (ix : Int32) (sc : Int32) (di : Int32) (d : MD) : (MK × MD) := bnd (dm_thrown_ (0 : Int32) d) fun d1 => bnd (km_base_ ba K) fun K2 => bnd (km_index_ ix K2) fun K3 => bnd (km_scale_ sc K3) fun K4 => bnd (km_displacement_ di K4) fun K5 => (K5, d1)
abbrev rm_X5_memory : Room := { frames := 0, cells := 0, slots := 0, locals := 0 }
set_option maxHeartbeats 4000000 in
set_option maxRecDepth 100000 in
theorem m_X5_memory {l : Launch} {D : va_G} {ad : Nat → Nat} {ca : Nat → ClassId} (hI : mInj ad) {K : MK} {d : MD} (ba : Int32) (ix : Int32) (sc : Int32) (di : Int32) (RES : (MK × MD)) (hr : RES = m_memory K ba ix sc di d) : g_U l yX5_memory (ws_ yX5_memory cX5_memory 5 none) rm_X5_memory [.ref (ad 0), .int ba, .int ix, .int sc, .int di] (mKp D ca) (mB D ad ca K d) none (mB D ad ca RES.1 RES.2) (mA ad) := by
  refine g_ofU (by decide) (Nat.le_of_ble_eq_true rfl) ?_
  intro p e s m args below meth c ls Q hF hB hKp hl hQ
  obtain ⟨hx, hb, -, -, hml, hown, hts⟩ := id hF
  have hown : s.vm.findClass RX5 = some m.cls := hown
  have hC : CallFix p m c cX5_memory 5 s args lw_all RX5 := ⟨hx, hb, hml, hown, hts⟩
  have hK : va_K D xcl (mtys ca) s := hKp
  have hP : va_P D xcl (MW ad ca K d) s.heap := hB
  have hS : va_S (mA ad) s.heap s.heap [] := va_S.rf
  have hl : lv_has ls 5 [(0, .ref (ad 0)), (1, .int ba), (2, .int ix), (3, .int sc), (4, .int di)] := hl
  unfold m_memory at hr
  refine lv_aload_n hx hb dX5_memory_0 rfl (lv_at hl 0 rfl) ?_
  refine lv_iconst (v := (0 : Int32)) hx hb dX5_memory_1 ic_0 ?_
  refine mp_0_0 (v := (0 : Int32)) hx hb hts hown hK hI hP hS (hts _ q671) dX5_memory_2 (fun d1 ed1 H locs hP hS => ?_)
  replace hr := hr.trans (bnd_eq ed1)
  refine lv_aload_n hx hb dX5_memory_5 rfl (lv_at hl 0 rfl) ?_
  refine lv_iload_n hx hb dX5_memory_6 rfl (lv_at hl 1 rfl) ?_
  refine mp_0_33 (v := ba) hx hb hts hown hK hI hP hS (hts _ q704) dX5_memory_7 (fun K2 eK2 H locs hP hS => ?_)
  replace hr := hr.trans (bnd_eq eK2)
  refine lv_aload_n hx hb dX5_memory_10 rfl (lv_at hl 0 rfl) ?_
  refine lv_iload_n hx hb dX5_memory_11 rfl (lv_at hl 2 rfl) ?_
  refine mp_0_34 (v := ix) hx hb hts hown hK hI hP hS (hts _ q705) dX5_memory_12 (fun K3 eK3 H locs hP hS => ?_)
  replace hr := hr.trans (bnd_eq eK3)
  refine lv_aload_n hx hb dX5_memory_15 rfl (lv_at hl 0 rfl) ?_
  refine lv_iload_n hx hb dX5_memory_16 rfl (lv_at hl 3 rfl) ?_
  refine mp_0_35 (v := sc) hx hb hts hown hK hI hP hS (hts _ q706) dX5_memory_17 (fun K4 eK4 H locs hP hS => ?_)
  replace hr := hr.trans (bnd_eq eK4)
  refine lv_aload_n hx hb dX5_memory_20 rfl (lv_at hl 0 rfl) ?_
  refine lv_iload hx hb dX5_memory_21 (lv_at hl 4 rfl) ?_
  refine mp_0_36 (v := di) hx hb hts hown hK hI hP hS (hts _ q707) dX5_memory_23 (fun K5 eK5 H locs hP hS => ?_)
  replace hr := hr.trans (bnd_eq eK5)
  exact g_endUv (Pic := (fun u => mB D ad ca u.1 u.2)) (u := (K5, d1)) hF hQ hr hP hS dX5_memory_26
def m_number (K : MK) (v : Int64) (d : MD) : (MK × MD) := bnd (dm_thrown_ (0 : Int32) d) fun d1 => bnd (km_number_ v K) fun K2 => (K2, d1)
abbrev rm_X5_number : Room := { frames := 0, cells := 0, slots := 0, locals := 0 }
set_option maxHeartbeats 4000000 in
set_option maxRecDepth 100000 in
theorem m_X5_number {l : Launch} {D : va_G} {ad : Nat → Nat} {ca : Nat → ClassId} (hI : mInj ad) {K : MK} {d : MD} (v : Int64) (RES : (MK × MD)) (hr : RES = m_number K v d) : g_U l yX5_number (ws_ yX5_number cX5_number 3 none) rm_X5_number [.ref (ad 0), .long v] (mKp D ca) (mB D ad ca K d) none (mB D ad ca RES.1 RES.2) (mA ad) := by
  refine g_ofU (by decide) (Nat.le_of_ble_eq_true rfl) ?_
  intro p e s m args below meth c ls Q hF hB hKp hl hQ
  obtain ⟨hx, hb, -, -, hml, hown, hts⟩ := id hF
  have hown : s.vm.findClass RX5 = some m.cls := hown
  have hC : CallFix p m c cX5_number 3 s args lw_all RX5 := ⟨hx, hb, hml, hown, hts⟩
  have hK : va_K D xcl (mtys ca) s := hKp
  have hP : va_P D xcl (MW ad ca K d) s.heap := hB
  have hS : va_S (mA ad) s.heap s.heap [] := va_S.rf
  have hl : lv_has ls 3 [(0, .ref (ad 0)), (1, .long v)] := hl
  unfold m_number at hr
  refine lv_aload_n hx hb dX5_number_0 rfl (lv_at hl 0 rfl) ?_
  refine lv_iconst (v := (0 : Int32)) hx hb dX5_number_1 ic_0 ?_
  refine mp_0_0 (v := (0 : Int32)) hx hb hts hown hK hI hP hS (hts _ q671) dX5_number_2 (fun d1 ed1 H locs hP hS => ?_)
  replace hr := hr.trans (bnd_eq ed1)
  refine lv_aload_n hx hb dX5_number_5 rfl (lv_at hl 0 rfl) ?_
  refine lv_lload_n hx hb dX5_number_6 rfl (lv_at hl 1 rfl) ?_
  refine mp_0_38 (v := v) hx hb hts hown hK hI hP hS (hts _ q709) dX5_number_7 (fun K2 eK2 H locs hP hS => ?_)
  replace hr := hr.trans (bnd_eq eK2)
  exact g_endUv (Pic := (fun u => mB D ad ca u.1 u.2)) (u := (K2, d1)) hF hQ hr hP hS dX5_number_10
def m_value (d : MD) : Int64 × MD := bnd (dm_thrown_ (0 : Int32) d) fun d1 => ((dm_stopValue d1), d1)
abbrev rm_X5_value : Room := { frames := 0, cells := 0, slots := 0, locals := 0 }
set_option maxHeartbeats 4000000 in
set_option maxRecDepth 100000 in
theorem m_X5_value {l : Launch} {D : va_G} {ad : Nat → Nat} {ca : Nat → ClassId} (hI : mInj ad) {K : MK} {d : MD} (RES : Int64 × MD) (hr : RES = m_value d) : g_U l yX5_value (ws_ yX5_value cX5_value 1 (some .long)) rm_X5_value [.ref (ad 0)] (mKp D ca) (mB D ad ca K d) (some (.long RES.1)) (mB D ad ca K RES.2) (mA ad) := by
  refine g_ofU (by decide) (Nat.le_of_ble_eq_true rfl) ?_
  intro p e s m args below meth c ls Q hF hB hKp hl hQ
  obtain ⟨hx, hb, -, -, hml, hown, hts⟩ := id hF
  have hown : s.vm.findClass RX5 = some m.cls := hown
  have hC : CallFix p m c cX5_value 1 s args lw_all RX5 := ⟨hx, hb, hml, hown, hts⟩
  have hK : va_K D xcl (mtys ca) s := hKp
  have hP : va_P D xcl (MW ad ca K d) s.heap := hB
  have hS : va_S (mA ad) s.heap s.heap [] := va_S.rf
  have hl : lv_has ls 1 [(0, .ref (ad 0))] := hl
  unfold m_value at hr
  refine lv_aload_n hx hb dX5_value_0 rfl (lv_at hl 0 rfl) ?_
  refine lv_iconst (v := (0 : Int32)) hx hb dX5_value_1 ic_0 ?_
  refine mp_0_0 (v := (0 : Int32)) hx hb hts hown hK hI hP hS (hts _ q671) dX5_value_2 (fun d1 ed1 H locs hP hS => ?_)
  replace hr := hr.trans (bnd_eq ed1)
  refine lv_aload_n hx hb dX5_value_5 rfl (lv_at hl 0 rfl) ?_
  refine mg_0_19 hx hb hts hown hK hP (hts _ q690) dX5_value_6 ?_
  exact g_endUl (Pic := (fun u => mB D ad ca K u)) (u := d1) hF hQ hr hP hS dX5_value_9
def m_register (K : MK) (k : Int32) (d : MD) : Int64 × MD := bnd (dm_thrown_ (0 : Int32) d) fun d1 => if k < 0 then (if k = (16 : Int32) then ((dm_ip d1), d1) else (if k = (17 : Int32) then ((m_flags d1), d1) else (if k = (18 : Int32) then (((m_heapBegin K) + ((km_heapSize K).toInt64)), d1) else (if k = (19 : Int32) then ((dm_stepsDone d1), d1) else ((0 : Int64), d1))))) else (if (16 : Int32) ≤ k then (if k = (16 : Int32) then ((dm_ip d1), d1) else (if k = (17 : Int32) then ((m_flags d1), d1) else (if k = (18 : Int32) then (((m_heapBegin K) + ((km_heapSize K).toInt64)), d1) else (if k = (19 : Int32) then ((dm_stepsDone d1), d1) else ((0 : Int64), d1))))) else (((dm_regs d1) k.toNatClampNeg), d1))
abbrev rm_X5_register : Room := { frames := 1, cells := 0, slots := 0, locals := 20 }
set_option maxHeartbeats 4000000 in
set_option maxRecDepth 100000 in
theorem m_X5_register {l : Launch} {D : va_G} {ad : Nat → Nat} {ca : Nat → ClassId} (hI : mInj ad) {K : MK} {d : MD} (k : Int32) (RES : Int64 × MD) (hr : RES = m_register K k d) : g_U l yX5_register (ws_ yX5_register cX5_register 2 (some .long)) rm_X5_register [.ref (ad 0), .int k] (mKp D ca) (mB D ad ca K d) (some (.long RES.1)) (mB D ad ca K RES.2) (mA ad) := by
  refine g_ofU (by decide) (Nat.le_of_ble_eq_true rfl) ?_
  intro p e s m args below meth c ls Q hF hB hKp hl hQ
  obtain ⟨hx, hb, -, -, hml, hown, hts⟩ := id hF
  have hown : s.vm.findClass RX5 = some m.cls := hown
  have hC : CallFix p m c cX5_register 2 s args lw_all RX5 := ⟨hx, hb, hml, hown, hts⟩
  have hK : va_K D xcl (mtys ca) s := hKp
  have hP : va_P D xcl (MW ad ca K d) s.heap := hB
  have hS : va_S (mA ad) s.heap s.heap [] := va_S.rf
  have hl : lv_has ls 2 [(0, .ref (ad 0)), (1, .int k)] := hl
  unfold m_register at hr
  refine lv_aload_n hx hb dX5_register_0 rfl (lv_at hl 0 rfl) ?_
  refine lv_iconst (v := (0 : Int32)) hx hb dX5_register_1 ic_0 ?_
  refine mp_0_0 (v := (0 : Int32)) hx hb hts hown hK hI hP hS (hts _ q671) dX5_register_2 (fun d1 ed1 H locs hP hS => ?_)
  replace hr := hr.trans (bnd_eq ed1)
  refine lv_iload_n hx hb dX5_register_5 rfl (lv_at hl 1 rfl) ?_
  refine lv_if_lt (tgt := 22) hx hb dX5_register_6 (by decide) (fun c_6 => ?_) (fun c_6 => ?_)
  · replace hr := hr.trans (if_pos c_6)
    refine lv_iload_n hx hb dX5_register_22 rfl (lv_at hl 1 rfl) ?_
    refine lv_bipush (v := (16 : Int32)) hx hb dX5_register_23 bp_16 ?_
    refine lv_icmp_ne (tgt := 35) hx hb dX5_register_25 (by decide) (fun c_25 => ?_) (fun c_25 => ?_)
    · replace hr := hr.trans (if_neg c_25)
      refine lv_iload_n hx hb dX5_register_35 rfl (lv_at hl 1 rfl) ?_
      refine lv_bipush (v := (17 : Int32)) hx hb dX5_register_36 bp_17 ?_
      refine lv_icmp_ne (tgt := 48) hx hb dX5_register_38 (by decide) (fun c_38 => ?_) (fun c_38 => ?_)
      · replace hr := hr.trans (if_neg c_38)
        refine lv_iload_n hx hb dX5_register_48 rfl (lv_at hl 1 rfl) ?_
        refine lv_bipush (v := (18 : Int32)) hx hb dX5_register_49 bp_18 ?_
        refine lv_icmp_ne (tgt := 67) hx hb dX5_register_51 (by decide) (fun c_51 => ?_) (fun c_51 => ?_)
        · replace hr := hr.trans (if_neg c_51)
          refine lv_iload_n hx hb dX5_register_67 rfl (lv_at hl 1 rfl) ?_
          refine lv_bipush (v := (19 : Int32)) hx hb dX5_register_68 bp_19 ?_
          refine lv_icmp_ne (tgt := 80) hx hb dX5_register_70 (by decide) (fun c_70 => ?_) (fun c_70 => ?_)
          · replace hr := hr.trans (if_neg c_70)
            refine lv_lconst (v := (0 : Int64)) hx hb dX5_register_80 lc_0 ?_
            exact g_endUl (Pic := (fun u => mB D ad ca K u)) (u := d1) hF hQ hr hP hS dX5_register_81
          · replace hr := hr.trans (if_pos c_70)
            refine lv_aload_n hx hb dX5_register_73 rfl (lv_at hl 0 rfl) ?_
            refine mg_0_20 hx hb hts hown hK hP (hts _ q691) dX5_register_74 ?_
            refine lv_goto (tgt := 81) hx hb dX5_register_77 (by decide) ?_
            exact g_endUl (Pic := (fun u => mB D ad ca K u)) (u := d1) hF hQ hr hP hS dX5_register_81
        · replace hr := hr.trans (if_pos c_51)
          refine lv_aload_n hx hb dX5_register_54 rfl (lv_at hl 0 rfl) ?_
          refine g_RV (As := []) (rest := []) hC (m_X5_heapBegin (K := K) (d := d1)  _ rfl) (cwV 0 hts cw_X5_159 rfl rfl rfl hd_X5_heapBegin ⟨Nat.le_of_ble_eq_true rfl, Nat.le_of_ble_eq_true rfl⟩) mKst (va_recv hK hP (ci := 5) (q0 := 0) rfl rfl) hP hKp ⟨Nat.zero_le _, Nat.zero_le _⟩ rfl hl.1 rfl (Nat.le_of_ble_eq_true rfl) dX5_register_55 ?_
          refine lv_aload_n hx hb dX5_register_58 rfl (lv_at hl 0 rfl) ?_
          refine mg_0_13 hx hb hts hown hK hP (hts _ q684) dX5_register_59 ?_
          refine lv_i2l (v := (km_heapSize K).toInt64) hx hb dX5_register_62 rfl ?_
          refine lv_ladd hx hb dX5_register_63 ?_
          refine lv_goto (tgt := 81) hx hb dX5_register_64 (by decide) ?_
          exact g_endUl (Pic := (fun u => mB D ad ca K u)) (u := d1) hF hQ hr hP hS dX5_register_81
      · replace hr := hr.trans (if_pos c_38)
        refine lv_aload_n hx hb dX5_register_41 rfl (lv_at hl 0 rfl) ?_
        refine g_RV (As := []) (rest := []) hC (m_X5_flags (K := K) (d := d1)  _ rfl) (cwV 0 hts cw_X5_310 rfl rfl rfl hd_X5_flags ⟨Nat.le_of_ble_eq_true rfl, Nat.le_of_ble_eq_true rfl⟩) mKst (va_recv hK hP (ci := 5) (q0 := 0) rfl rfl) hP hKp ⟨Nat.zero_le _, Nat.zero_le _⟩ rfl hl.1 rfl (Nat.le_of_ble_eq_true rfl) dX5_register_42 ?_
        refine lv_goto (tgt := 81) hx hb dX5_register_45 (by decide) ?_
        exact g_endUl (Pic := (fun u => mB D ad ca K u)) (u := d1) hF hQ hr hP hS dX5_register_81
    · replace hr := hr.trans (if_pos c_25)
      refine lv_aload_n hx hb dX5_register_28 rfl (lv_at hl 0 rfl) ?_
      refine mg_0_18 hx hb hts hown hK hP (hts _ q689) dX5_register_29 ?_
      refine lv_goto (tgt := 81) hx hb dX5_register_32 (by decide) ?_
      exact g_endUl (Pic := (fun u => mB D ad ca K u)) (u := d1) hF hQ hr hP hS dX5_register_81
  · replace hr := hr.trans (if_neg c_6)
    refine lv_iload_n hx hb dX5_register_9 rfl (lv_at hl 1 rfl) ?_
    refine lv_bipush (v := (16 : Int32)) hx hb dX5_register_10 bp_16 ?_
    refine lv_icmp_ge (tgt := 22) hx hb dX5_register_12 (by decide) (fun c_12 => ?_) (fun c_12 => ?_)
    · replace hr := hr.trans (if_pos c_12)
      refine lv_iload_n hx hb dX5_register_22 rfl (lv_at hl 1 rfl) ?_
      refine lv_bipush (v := (16 : Int32)) hx hb dX5_register_23 bp_16 ?_
      refine lv_icmp_ne (tgt := 35) hx hb dX5_register_25 (by decide) (fun c_25 => ?_) (fun c_25 => ?_)
      · replace hr := hr.trans (if_neg c_25)
        refine lv_iload_n hx hb dX5_register_35 rfl (lv_at hl 1 rfl) ?_
        refine lv_bipush (v := (17 : Int32)) hx hb dX5_register_36 bp_17 ?_
        refine lv_icmp_ne (tgt := 48) hx hb dX5_register_38 (by decide) (fun c_38 => ?_) (fun c_38 => ?_)
        · replace hr := hr.trans (if_neg c_38)
          refine lv_iload_n hx hb dX5_register_48 rfl (lv_at hl 1 rfl) ?_
          refine lv_bipush (v := (18 : Int32)) hx hb dX5_register_49 bp_18 ?_
          refine lv_icmp_ne (tgt := 67) hx hb dX5_register_51 (by decide) (fun c_51 => ?_) (fun c_51 => ?_)
          · replace hr := hr.trans (if_neg c_51)
            refine lv_iload_n hx hb dX5_register_67 rfl (lv_at hl 1 rfl) ?_
            refine lv_bipush (v := (19 : Int32)) hx hb dX5_register_68 bp_19 ?_
            refine lv_icmp_ne (tgt := 80) hx hb dX5_register_70 (by decide) (fun c_70 => ?_) (fun c_70 => ?_)
            · replace hr := hr.trans (if_neg c_70)
              refine lv_lconst (v := (0 : Int64)) hx hb dX5_register_80 lc_0 ?_
              exact g_endUl (Pic := (fun u => mB D ad ca K u)) (u := d1) hF hQ hr hP hS dX5_register_81
            · replace hr := hr.trans (if_pos c_70)
              refine lv_aload_n hx hb dX5_register_73 rfl (lv_at hl 0 rfl) ?_
              refine mg_0_20 hx hb hts hown hK hP (hts _ q691) dX5_register_74 ?_
              refine lv_goto (tgt := 81) hx hb dX5_register_77 (by decide) ?_
              exact g_endUl (Pic := (fun u => mB D ad ca K u)) (u := d1) hF hQ hr hP hS dX5_register_81
          · replace hr := hr.trans (if_pos c_51)
            refine lv_aload_n hx hb dX5_register_54 rfl (lv_at hl 0 rfl) ?_
            refine g_RV (As := []) (rest := []) hC (m_X5_heapBegin (K := K) (d := d1)  _ rfl) (cwV 0 hts cw_X5_159 rfl rfl rfl hd_X5_heapBegin ⟨Nat.le_of_ble_eq_true rfl, Nat.le_of_ble_eq_true rfl⟩) mKst (va_recv hK hP (ci := 5) (q0 := 0) rfl rfl) hP hKp ⟨Nat.zero_le _, Nat.zero_le _⟩ rfl hl.1 rfl (Nat.le_of_ble_eq_true rfl) dX5_register_55 ?_
            refine lv_aload_n hx hb dX5_register_58 rfl (lv_at hl 0 rfl) ?_
            refine mg_0_13 hx hb hts hown hK hP (hts _ q684) dX5_register_59 ?_
            refine lv_i2l (v := (km_heapSize K).toInt64) hx hb dX5_register_62 rfl ?_
            refine lv_ladd hx hb dX5_register_63 ?_
            refine lv_goto (tgt := 81) hx hb dX5_register_64 (by decide) ?_
            exact g_endUl (Pic := (fun u => mB D ad ca K u)) (u := d1) hF hQ hr hP hS dX5_register_81
        · replace hr := hr.trans (if_pos c_38)
          refine lv_aload_n hx hb dX5_register_41 rfl (lv_at hl 0 rfl) ?_
          refine g_RV (As := []) (rest := []) hC (m_X5_flags (K := K) (d := d1)  _ rfl) (cwV 0 hts cw_X5_310 rfl rfl rfl hd_X5_flags ⟨Nat.le_of_ble_eq_true rfl, Nat.le_of_ble_eq_true rfl⟩) mKst (va_recv hK hP (ci := 5) (q0 := 0) rfl rfl) hP hKp ⟨Nat.zero_le _, Nat.zero_le _⟩ rfl hl.1 rfl (Nat.le_of_ble_eq_true rfl) dX5_register_42 ?_
          refine lv_goto (tgt := 81) hx hb dX5_register_45 (by decide) ?_
          exact g_endUl (Pic := (fun u => mB D ad ca K u)) (u := d1) hF hQ hr hP hS dX5_register_81
      · replace hr := hr.trans (if_pos c_25)
        refine lv_aload_n hx hb dX5_register_28 rfl (lv_at hl 0 rfl) ?_
        refine mg_0_18 hx hb hts hown hK hP (hts _ q689) dX5_register_29 ?_
        refine lv_goto (tgt := 81) hx hb dX5_register_32 (by decide) ?_
        exact g_endUl (Pic := (fun u => mB D ad ca K u)) (u := d1) hF hQ hr hP hS dX5_register_81
    · replace hr := hr.trans (if_neg c_12)
      refine lv_aload_n hx hb dX5_register_15 rfl (lv_at hl 0 rfl) ?_
      refine mg_0_16 hx hb hts hown hK hP (hts _ q687) dX5_register_16 ?_
      refine lv_iload_n hx hb dX5_register_19 rfl (lv_at hl 1 rfl) ?_
      refine ml_7 hx hb hK hP (rg_in c_6 c_12) dX5_register_20 ?_
      exact g_endUl (Pic := (fun u => mB D ad ca K u)) (u := d1) hF hQ hr hP hS dX5_register_21
def m_set (k : Int32) (v : Int64) (d : MD) : Bool × MD := bnd (dm_thrown_ (0 : Int32) d) fun d1 => if k < 0 then (false, d1) else (if k ≤ (16 : Int32) then (if k = (16 : Int32) then (bnd (dm_ip_ v d1) fun d3 => (true, d3)) else (bnd (dm_regs_ (vp_updL (dm_regs d1) k.toNatClampNeg v) d1) fun d2 => (true, d2))) else (false, d1))
abbrev rm_X5_set : Room := { frames := 0, cells := 0, slots := 0, locals := 0 }
set_option maxHeartbeats 4000000 in
set_option maxRecDepth 100000 in
theorem m_X5_set {l : Launch} {D : va_G} {ad : Nat → Nat} {ca : Nat → ClassId} (hI : mInj ad) {K : MK} {d : MD} (k : Int32) (v : Int64) (RES : Bool × MD) (hr : RES = m_set k v d) : g_U l yX5_set (ws_ yX5_set cX5_set 4 (some .boolean)) rm_X5_set [.ref (ad 0), .int k, .long v] (mKp D ca) (mB D ad ca K d) (some (.int (b2i RES.1))) (mB D ad ca K RES.2) (mA ad) := by
  refine g_ofU (by decide) (Nat.le_of_ble_eq_true rfl) ?_
  intro p e s m args below meth c ls Q hF hB hKp hl hQ
  obtain ⟨hx, hb, -, -, hml, hown, hts⟩ := id hF
  have hown : s.vm.findClass RX5 = some m.cls := hown
  have hC : CallFix p m c cX5_set 4 s args lw_all RX5 := ⟨hx, hb, hml, hown, hts⟩
  have hK : va_K D xcl (mtys ca) s := hKp
  have hP : va_P D xcl (MW ad ca K d) s.heap := hB
  have hS : va_S (mA ad) s.heap s.heap [] := va_S.rf
  have hl : lv_has ls 4 [(0, .ref (ad 0)), (1, .int k), (2, .long v)] := hl
  unfold m_set at hr
  refine lv_aload_n hx hb dX5_set_0 rfl (lv_at hl 0 rfl) ?_
  refine lv_iconst (v := (0 : Int32)) hx hb dX5_set_1 ic_0 ?_
  refine mp_0_0 (v := (0 : Int32)) hx hb hts hown hK hI hP hS (hts _ q671) dX5_set_2 (fun d1 ed1 H locs hP hS => ?_)
  replace hr := hr.trans (bnd_eq ed1)
  refine lv_iload_n hx hb dX5_set_5 rfl (lv_at hl 1 rfl) ?_
  refine lv_if_lt (tgt := 15) hx hb dX5_set_6 (by decide) (fun c_6 => ?_) (fun c_6 => ?_)
  · replace hr := hr.trans (if_pos c_6)
    refine lv_iconst (v := (0 : Int32)) hx hb dX5_set_15 ic_0 ?_
    exact g_endUz (Pic := (fun u => mB D ad ca K u)) (u := d1) hF hQ hr rfl hP hS dX5_set_16
  · replace hr := hr.trans (if_neg c_6)
    refine lv_iload_n hx hb dX5_set_9 rfl (lv_at hl 1 rfl) ?_
    refine lv_bipush (v := (16 : Int32)) hx hb dX5_set_10 bp_16 ?_
    refine lv_icmp_le (tgt := 17) hx hb dX5_set_12 (by decide) (fun c_12 => ?_) (fun c_12 => ?_)
    · replace hr := hr.trans (if_pos c_12)
      refine lv_iload_n hx hb dX5_set_17 rfl (lv_at hl 1 rfl) ?_
      refine lv_bipush (v := (16 : Int32)) hx hb dX5_set_18 bp_16 ?_
      refine lv_icmp_ne (tgt := 31) hx hb dX5_set_20 (by decide) (fun c_20 => ?_) (fun c_20 => ?_)
      · replace hr := hr.trans (if_neg c_20)
        refine lv_aload_n hx hb dX5_set_31 rfl (lv_at hl 0 rfl) ?_
        refine mg_0_16 hx hb hts hown hK hP (hts _ q687) dX5_set_32 ?_
        refine lv_iload_n hx hb dX5_set_35 rfl (lv_at hl 1 rfl) ?_
        refine lv_lload_n hx hb dX5_set_36 rfl (lv_at hl 2 rfl) ?_
        refine ms_7 hx hb hK hI hP hS (st_in c_6 c_12 c_20) dX5_set_37 (fun d2 ed2 H locs hP hS => ?_)
        replace hr := hr.trans (bnd_eq ed2)
        refine lv_iconst (v := (1 : Int32)) hx hb dX5_set_38 ic_1 ?_
        exact g_endUz (Pic := (fun u => mB D ad ca K u)) (u := d2) hF hQ hr rfl hP hS dX5_set_39
      · replace hr := hr.trans (if_pos c_20)
        refine lv_aload_n hx hb dX5_set_23 rfl (lv_at hl 0 rfl) ?_
        refine lv_lload_n hx hb dX5_set_24 rfl (lv_at hl 2 rfl) ?_
        refine mp_0_18 (v := v) hx hb hts hown hK hI hP hS (hts _ q689) dX5_set_25 (fun d3 ed3 H locs hP hS => ?_)
        replace hr := hr.trans (bnd_eq ed3)
        refine lv_goto (tgt := 38) hx hb dX5_set_28 (by decide) ?_
        refine lv_iconst (v := (1 : Int32)) hx hb dX5_set_38 ic_1 ?_
        exact g_endUz (Pic := (fun u => mB D ad ca K u)) (u := d3) hF hQ hr rfl hP hS dX5_set_39
    · replace hr := hr.trans (if_neg c_12)
      refine lv_iconst (v := (0 : Int32)) hx hb dX5_set_15 ic_0 ?_
      exact g_endUz (Pic := (fun u => mB D ad ca K u)) (u := d1) hF hQ hr rfl hP hS dX5_set_16
def m_input_L34 (word : Int64) : Nat → Int32 → MD → Bool × MD
  | 0, w34_4, dl34 => (false, dl34)
  | n + 1, w34_4, dl34 => if w34_4 < 0 then (true, dl34) else (bnd (dm_given_ (upd (dm_given dl34) (dm_givenSize dl34).toNatClampNeg (vp_nar .byte (((lshr_ word ((8 : Int32) * w34_4)).toInt32).toInt8.toInt32))) dl34) fun d3 => bnd (dm_givenSize_ ((dm_givenSize d3) + (1 : Int32)) d3) fun d4 => bnd (α := Int32) ((w34_4 + (-1 : Int32))) fun v5 => m_input_L34 word n v5 d4)
theorem m_input_L34_s (word : Int64) (n : Nat) (w34_4 : Int32) (dl34 : MD) : m_input_L34 word (n + 1) w34_4 dl34 = if w34_4 < 0 then (true, dl34) else (bnd (dm_given_ (upd (dm_given dl34) (dm_givenSize dl34).toNatClampNeg (vp_nar .byte (((lshr_ word ((8 : Int32) * w34_4)).toInt32).toInt8.toInt32))) dl34) fun d3 => bnd (dm_givenSize_ ((dm_givenSize d3) + (1 : Int32)) d3) fun d4 => bnd (α := Int32) ((w34_4 + (-1 : Int32))) fun v5 => m_input_L34 word n v5 d4) := rfl
def m_input (word : Int64) (cnt : Int32) (d : MD) : Bool × MD := bnd (dm_thrown_ (0 : Int32) d) fun d1 => if cnt < (1 : Int32) then (false, d1) else (if (8 : Int32) < cnt then (false, d1) else (if ((dm_givenSize d1) + cnt) ≤ (65536 : Int32) then (bnd (α := Int32) ((cnt - (1 : Int32))) fun v2 => m_input_L34 word (mDn v2 + 1) v2 d1) else (false, d1)))
abbrev rm_X5_input : Room := { frames := 0, cells := 0, slots := 0, locals := 0 }
set_option maxHeartbeats 4000000 in
set_option maxRecDepth 100000 in
theorem m_X5_input {l : Launch} {D : va_G} {ad : Nat → Nat} {ca : Nat → ClassId} (hI : mInj ad) {K : MK} {d : MD} (word : Int64) (cnt : Int32) (RES : Bool × MD) (hr : RES = m_input word cnt d) (hio : MIO d) : g_U l yX5_input (ws_ yX5_input cX5_input 5 (some .boolean)) rm_X5_input [.ref (ad 0), .long word, .int cnt] (mKp D ca) (mB D ad ca K d) (some (.int (b2i RES.1))) (mB D ad ca K RES.2) (mA ad) := by
  refine g_ofU (by decide) (Nat.le_of_ble_eq_true rfl) ?_
  intro p e s m args below meth c ls Q hF hB hKp hl hQ
  obtain ⟨hx, hb, -, -, hml, hown, hts⟩ := id hF
  have hown : s.vm.findClass RX5 = some m.cls := hown
  have hC : CallFix p m c cX5_input 5 s args lw_all RX5 := ⟨hx, hb, hml, hown, hts⟩
  have hK : va_K D xcl (mtys ca) s := hKp
  have hP : va_P D xcl (MW ad ca K d) s.heap := hB
  have hS : va_S (mA ad) s.heap s.heap [] := va_S.rf
  have hl : lv_has ls 5 [(0, .ref (ad 0)), (1, .long word), (3, .int cnt)] := hl
  unfold m_input at hr
  refine lv_aload_n hx hb dX5_input_0 rfl (lv_at hl 0 rfl) ?_
  refine lv_iconst (v := (0 : Int32)) hx hb dX5_input_1 ic_0 ?_
  refine mp_0_0 (v := (0 : Int32)) hx hb hts hown hK hI hP hS (hts _ q671) dX5_input_2 (fun d1 ed1 H locs hP hS => ?_)
  replace hr := hr.trans (bnd_eq ed1)
  refine lv_iload_n hx hb dX5_input_5 rfl (lv_at hl 2 rfl) ?_
  refine lv_iconst (v := (1 : Int32)) hx hb dX5_input_6 ic_1 ?_
  refine lv_icmp_lt (tgt := 27) hx hb dX5_input_7 (by decide) (fun c_7 => ?_) (fun c_7 => ?_)
  · replace hr := hr.trans (if_pos c_7)
    refine lv_iconst (v := (0 : Int32)) hx hb dX5_input_27 ic_0 ?_
    exact g_endUz (Pic := (fun u => mB D ad ca K u)) (u := d1) hF hQ hr rfl hP hS dX5_input_28
  · replace hr := hr.trans (if_neg c_7)
    refine lv_iload_n hx hb dX5_input_10 rfl (lv_at hl 2 rfl) ?_
    refine lv_bipush (v := (8 : Int32)) hx hb dX5_input_11 bp_8 ?_
    refine lv_icmp_gt (tgt := 27) hx hb dX5_input_13 (by decide) (fun c_13 => ?_) (fun c_13 => ?_)
    · replace hr := hr.trans (if_pos c_13)
      refine lv_iconst (v := (0 : Int32)) hx hb dX5_input_27 ic_0 ?_
      exact g_endUz (Pic := (fun u => mB D ad ca K u)) (u := d1) hF hQ hr rfl hP hS dX5_input_28
    · replace hr := hr.trans (if_neg c_13)
      refine lv_aload_n hx hb dX5_input_16 rfl (lv_at hl 0 rfl) ?_
      refine mg_0_14 hx hb hts hown hK hP (hts _ q685) dX5_input_17 ?_
      refine lv_iload_n hx hb dX5_input_20 rfl (lv_at hl 2 rfl) ?_
      refine lv_iadd hx hb dX5_input_21 ?_
      refine lv_ldc hx hb hown (hts _ q656) dX5_input_22 ?_
      refine lv_icmp_le (tgt := 29) hx hb dX5_input_24 (by decide) (fun c_24 => ?_) (fun c_24 => ?_)
      · replace hr := hr.trans (if_pos c_24)
        refine lv_iload_n hx hb dX5_input_29 rfl (lv_at hl 2 rfl) ?_
        refine lv_iconst (v := (1 : Int32)) hx hb dX5_input_30 ic_1 ?_
        refine lv_isub hx hb dX5_input_31 ?_
        refine lv_topi (fun v2 ev2 => ?_)
        replace hr := hr.trans (bnd_eq ev2)
        refine lv_istore (lv' := [(4, .int v2), (0, .ref (ad 0)), (1, .long word), (3, .int cnt)]) hx hb dX5_input_32 hl (by decide) rfl (fun ls hl => ?_)
        have lp34 : ∀ (n : Nat) (w34_4 : Int32) (dl34 : MD) (H : Heap) (locs : List Loc) (ls : Array Slot), mDn w34_4 < n → (InpI (dm_givenSize dl34) w34_4) → RES = m_input_L34 word n w34_4 dl34 → va_P D xcl (MW ad ca K dl34) H → va_S (mA ad) s.heap H locs → lv_has ls 5 [(4, .int w34_4), (0, .ref (ad 0)), (1, .long word), (3, .int cnt)] → W p l e rm_X5_input s m args below meth c H locs 0 0 Q (F0 m 34 ls []) := by
          intro n
          induction n with
          | zero =>
            intro w34_4 dl34 H locs ls hm
            exact absurd hm (Nat.not_lt_zero _)
          | succ n ih =>
            intro w34_4 dl34 H locs ls hm h0 hr hP hS hl
            replace hr := hr.trans (m_input_L34_s word n w34_4 dl34)
            refine lv_iload hx hb dX5_input_34 (lv_at hl 0 rfl) ?_
            refine lv_if_lt (tgt := 73) hx hb dX5_input_36 (by decide) (fun c_36 => ?_) (fun c_36 => ?_)
            · replace hr := hr.trans (if_pos c_36)
              refine lv_iconst (v := (1 : Int32)) hx hb dX5_input_73 ic_1 ?_
              exact g_endUz (Pic := (fun u => mB D ad ca K u)) (u := dl34) hF hQ hr rfl hP hS dX5_input_74
            · replace hr := hr.trans (if_neg c_36)
              refine lv_aload_n hx hb dX5_input_39 rfl (lv_at hl 1 rfl) ?_
              refine mg_0_5 hx hb hts hown hK hP (hts _ q676) dX5_input_40 ?_
              refine lv_aload_n hx hb dX5_input_43 rfl (lv_at hl 1 rfl) ?_
              refine mg_0_14 hx hb hts hown hK hP (hts _ q685) dX5_input_44 ?_
              refine lv_lload_n hx hb dX5_input_47 rfl (lv_at hl 2 rfl) ?_
              refine lv_bipush (v := (8 : Int32)) hx hb dX5_input_48 bp_8 ?_
              refine lv_iload hx hb dX5_input_50 (lv_at hl 0 rfl) ?_
              refine lv_imul hx hb dX5_input_52 ?_
              refine lv_lshr (v := (lshr_ word ((8 : Int32) * w34_4))) hx hb dX5_input_53 rfl ?_
              refine lv_l2i (v := (lshr_ word ((8 : Int32) * w34_4)).toInt32) hx hb dX5_input_54 rfl ?_
              refine lv_i2b (v := ((lshr_ word ((8 : Int32) * w34_4)).toInt32).toInt8.toInt32) hx hb dX5_input_55 rfl ?_
              refine ms_5 hx hb hK hI hP hS (inp_in h0 c_36) dX5_input_56 (fun d3 ed3 H locs hP hS => ?_)
              replace hr := hr.trans (bnd_eq ed3)
              refine lv_aload_n hx hb dX5_input_57 rfl (lv_at hl 1 rfl) ?_
              refine lv_dup hx hb dX5_input_58 rfl ?_
              refine mg_0_14 hx hb hts hown hK hP (hts _ q685) dX5_input_59 ?_
              refine lv_iconst (v := (1 : Int32)) hx hb dX5_input_62 ic_1 ?_
              refine lv_iadd hx hb dX5_input_63 ?_
              refine mp_0_14 (v := ((dm_givenSize d3) + (1 : Int32))) hx hb hts hown hK hI hP hS (hts _ q685) dX5_input_64 (fun d4 ed4 H locs hP hS => ?_)
              replace hr := hr.trans (bnd_eq ed4)
              obtain ⟨v5, ev5⟩ : ∃ z : Int32, z = (w34_4 + (-1 : Int32)) := ⟨_, rfl⟩
              replace hr := hr.trans (bnd_eq ev5)
              refine lv_iinc (v := v5) (lv' := [(4, .int v5), (0, .ref (ad 0)), (1, .long word), (3, .int cnt)]) hx hb dX5_input_67 hl (k := 0) rfl (by rw [ev5, ← ic_m1]) (by decide) rfl (fun ls hl => ?_)
              refine lv_goto (tgt := 34) hx hb dX5_input_70 (by decide) ?_
              exact ih v5 d4 _ _ ls (mDn_dec c_36 hm ev5) (inp_s h0 c_36 ev5 (by rw [ed4, ed3]; rfl)) hr hP hS (lv_sub hl [0, 1, 2, 3] rfl)
        exact lp34 (mDn v2 + 1) v2 d1 _ _ ls (Nat.lt_succ_self _) (inp_0 (by rw [ed1]; exact hio.1) c_7 c_13 c_24 ev2) hr hP hS (lv_sub hl [0, 1, 2, 3] rfl)
      · replace hr := hr.trans (if_neg c_24)
        refine lv_iconst (v := (0 : Int32)) hx hb dX5_input_27 ic_0 ?_
        exact g_endUz (Pic := (fun u => mB D ad ca K u)) (u := d1) hF hQ hr rfl hP hS dX5_input_28
def m_output (i : Int32) (d : MD) : Int32 × MD := bnd (dm_thrown_ (0 : Int32) d) fun d1 => if i = (-1 : Int32) then ((dm_shownSize d1), d1) else (if i < 0 then ((-1 : Int32), d1) else (if (dm_shownSize d1) ≤ i then ((-1 : Int32), d1) else ((((dm_shown d1) i.toNatClampNeg) &&& (255 : Int32)), d1)))
abbrev rm_X5_output : Room := { frames := 0, cells := 0, slots := 0, locals := 0 }
set_option maxHeartbeats 4000000 in
set_option maxRecDepth 100000 in
theorem m_X5_output {l : Launch} {D : va_G} {ad : Nat → Nat} {ca : Nat → ClassId} (hI : mInj ad) {K : MK} {d : MD} (i : Int32) (RES : Int32 × MD) (hr : RES = m_output i d) (hio : MIO d) : g_U l yX5_output (ws_ yX5_output cX5_output 2 (some .int)) rm_X5_output [.ref (ad 0), .int i] (mKp D ca) (mB D ad ca K d) (some (.int RES.1)) (mB D ad ca K RES.2) (mA ad) := by
  refine g_ofU (by decide) (Nat.le_of_ble_eq_true rfl) ?_
  intro p e s m args below meth c ls Q hF hB hKp hl hQ
  obtain ⟨hx, hb, -, -, hml, hown, hts⟩ := id hF
  have hown : s.vm.findClass RX5 = some m.cls := hown
  have hC : CallFix p m c cX5_output 2 s args lw_all RX5 := ⟨hx, hb, hml, hown, hts⟩
  have hK : va_K D xcl (mtys ca) s := hKp
  have hP : va_P D xcl (MW ad ca K d) s.heap := hB
  have hS : va_S (mA ad) s.heap s.heap [] := va_S.rf
  have hl : lv_has ls 2 [(0, .ref (ad 0)), (1, .int i)] := hl
  unfold m_output at hr
  refine lv_aload_n hx hb dX5_output_0 rfl (lv_at hl 0 rfl) ?_
  refine lv_iconst (v := (0 : Int32)) hx hb dX5_output_1 ic_0 ?_
  refine mp_0_0 (v := (0 : Int32)) hx hb hts hown hK hI hP hS (hts _ q671) dX5_output_2 (fun d1 ed1 H locs hP hS => ?_)
  replace hr := hr.trans (bnd_eq ed1)
  refine lv_iload_n hx hb dX5_output_5 rfl (lv_at hl 1 rfl) ?_
  refine lv_iconst (v := (-1 : Int32)) hx hb dX5_output_6 ic_m1 ?_
  refine lv_icmp_ne (tgt := 17) hx hb dX5_output_7 (by decide) (fun c_7 => ?_) (fun c_7 => ?_)
  · replace hr := hr.trans (if_neg c_7)
    refine lv_iload_n hx hb dX5_output_17 rfl (lv_at hl 1 rfl) ?_
    refine lv_if_lt (tgt := 42) hx hb dX5_output_18 (by decide) (fun c_18 => ?_) (fun c_18 => ?_)
    · replace hr := hr.trans (if_pos c_18)
      refine lv_iconst (v := (-1 : Int32)) hx hb dX5_output_42 ic_m1 ?_
      exact g_endUi (Pic := (fun u => mB D ad ca K u)) (u := d1) hF hQ hr hP hS dX5_output_43
    · replace hr := hr.trans (if_neg c_18)
      refine lv_iload_n hx hb dX5_output_21 rfl (lv_at hl 1 rfl) ?_
      refine lv_aload_n hx hb dX5_output_22 rfl (lv_at hl 0 rfl) ?_
      refine mg_0_15 hx hb hts hown hK hP (hts _ q686) dX5_output_23 ?_
      refine lv_icmp_ge (tgt := 42) hx hb dX5_output_26 (by decide) (fun c_26 => ?_) (fun c_26 => ?_)
      · replace hr := hr.trans (if_pos c_26)
        refine lv_iconst (v := (-1 : Int32)) hx hb dX5_output_42 ic_m1 ?_
        exact g_endUi (Pic := (fun u => mB D ad ca K u)) (u := d1) hF hQ hr hP hS dX5_output_43
      · replace hr := hr.trans (if_neg c_26)
        refine lv_aload_n hx hb dX5_output_29 rfl (lv_at hl 0 rfl) ?_
        refine mg_0_6 hx hb hts hown hK hP (hts _ q677) dX5_output_30 ?_
        refine lv_iload_n hx hb dX5_output_33 rfl (lv_at hl 1 rfl) ?_
        refine ml_6 hx hb hK hP (i_in (Int32.not_lt.mp c_18) c_26 (by rw [ed1]; exact hio.2.2)) dX5_output_34 ?_
        refine lv_sipush (v := (255 : Int32)) hx hb dX5_output_35 sp_255 ?_
        refine lv_iand hx hb dX5_output_38 ?_
        refine lv_goto (tgt := 43) hx hb dX5_output_39 (by decide) ?_
        exact g_endUi (Pic := (fun u => mB D ad ca K u)) (u := d1) hF hQ hr hP hS dX5_output_43
  · replace hr := hr.trans (if_pos c_7)
    refine lv_aload_n hx hb dX5_output_10 rfl (lv_at hl 0 rfl) ?_
    refine mg_0_15 hx hb hts hown hK hP (hts _ q686) dX5_output_11 ?_
    refine lv_goto (tgt := 43) hx hb dX5_output_14 (by decide) ?_
    exact g_endUi (Pic := (fun u => mB D ad ca K u)) (u := d1) hF hQ hr hP hS dX5_output_43
def m_peek (K : MK) (a : Int64) (d : MD) : Int32 × MD := bnd (dm_thrown_ (0 : Int32) d) fun d1 => bnd (α := Int32) ((m_find K a false)) fun v2 => if 0 ≤ v2 then ((m_byteAtPlace v2 d1), d1) else ((-1 : Int32), d1)
abbrev rm_X5_peek : Room := { frames := 2, cells := 0, slots := 0, locals := 49 }
set_option maxHeartbeats 4000000 in
set_option maxRecDepth 100000 in
theorem m_X5_peek {l : Launch} {D : va_G} {ad : Nat → Nat} {ca : Nat → ClassId} (hI : mInj ad) {K : MK} {d : MD} (a : Int64) (RES : Int32 × MD) (hr : RES = m_peek K a d) (hlay : MLay K) : g_U l yX5_peek (ws_ yX5_peek cX5_peek 4 (some .int)) rm_X5_peek [.ref (ad 0), .long a] (mKp D ca) (mB D ad ca K d) (some (.int RES.1)) (mB D ad ca K RES.2) (mA ad) := by
  refine g_ofU (by decide) (Nat.le_of_ble_eq_true rfl) ?_
  intro p e s m args below meth c ls Q hF hB hKp hl hQ
  obtain ⟨hx, hb, -, -, hml, hown, hts⟩ := id hF
  have hown : s.vm.findClass RX5 = some m.cls := hown
  have hC : CallFix p m c cX5_peek 4 s args lw_all RX5 := ⟨hx, hb, hml, hown, hts⟩
  have hK : va_K D xcl (mtys ca) s := hKp
  have hP : va_P D xcl (MW ad ca K d) s.heap := hB
  have hS : va_S (mA ad) s.heap s.heap [] := va_S.rf
  have hl : lv_has ls 4 [(0, .ref (ad 0)), (1, .long a)] := hl
  unfold m_peek at hr
  refine lv_aload_n hx hb dX5_peek_0 rfl (lv_at hl 0 rfl) ?_
  refine lv_iconst (v := (0 : Int32)) hx hb dX5_peek_1 ic_0 ?_
  refine mp_0_0 (v := (0 : Int32)) hx hb hts hown hK hI hP hS (hts _ q671) dX5_peek_2 (fun d1 ed1 H locs hP hS => ?_)
  replace hr := hr.trans (bnd_eq ed1)
  refine lv_aload_n hx hb dX5_peek_5 rfl (lv_at hl 0 rfl) ?_
  refine lv_lload_n hx hb dX5_peek_6 rfl (lv_at hl 1 rfl) ?_
  refine lv_iconst (v := (0 : Int32)) hx hb dX5_peek_7 ic_0 ?_
  refine g_RV (As := [.long a, .int (b2i false)]) (rest := []) hC (m_X5_find (K := K) (d := d1) a false _ rfl) (cwV 2 hts cw_X5_176 rfl rfl rfl hd_X5_find ⟨Nat.le_of_ble_eq_true rfl, Nat.le_of_ble_eq_true rfl⟩) mKst (va_recv hK hP (ci := 5) (q0 := 0) rfl rfl) hP hKp ⟨Nat.zero_le _, Nat.zero_le _⟩ rfl hl.1 rfl (Nat.le_of_ble_eq_true rfl) dX5_peek_8 ?_
  refine lv_topi (fun v2 ev2 => ?_)
  replace hr := hr.trans (bnd_eq ev2)
  refine lv_istore_n (lv' := [(3, .int v2), (0, .ref (ad 0)), (1, .long a)]) hx hb dX5_peek_11 rfl hl (by decide) rfl (fun ls hl => ?_)
  refine lv_iload_n hx hb dX5_peek_12 rfl (lv_at hl 0 rfl) ?_
  refine lv_if_ge (tgt := 20) hx hb dX5_peek_13 (by decide) (fun c_13 => ?_) (fun c_13 => ?_)
  · replace hr := hr.trans (if_pos c_13)
    refine lv_aload_n hx hb dX5_peek_20 rfl (lv_at hl 1 rfl) ?_
    refine lv_iload_n hx hb dX5_peek_21 rfl (lv_at hl 0 rfl) ?_
    refine g_RV (As := [.int v2]) (rest := []) hC (m_X5_byteAtPlace (K := K) (d := d1) v2 _ rfl (m_find_in2 ev2 hlay c_13)) (cwV 1 hts cw_X5_184 rfl rfl rfl hd_X5_byteAtPlace ⟨Nat.le_of_ble_eq_true rfl, Nat.le_of_ble_eq_true rfl⟩) mKst (va_recv hK hP (ci := 5) (q0 := 0) rfl rfl) hP hKp ⟨Nat.zero_le _, Nat.zero_le _⟩ rfl hl.1 rfl (Nat.le_of_ble_eq_true rfl) dX5_peek_22 ?_
    exact g_endUi (Pic := (fun u => mB D ad ca K u)) (u := d1) hF hQ hr hP hS dX5_peek_25
  · replace hr := hr.trans (if_neg c_13)
    refine lv_iconst (v := (-1 : Int32)) hx hb dX5_peek_16 ic_m1 ?_
    refine lv_goto (tgt := 25) hx hb dX5_peek_17 (by decide) ?_
    exact g_endUi (Pic := (fun u => mB D ad ca K u)) (u := d1) hF hQ hr hP hS dX5_peek_25
def m_poke (K : MK) (a : Int64) (v : Int32) (d : MD) : Bool × MD := bnd (dm_thrown_ (0 : Int32) d) fun d1 => bnd (α := Int32) ((m_find K a true)) fun v2 => bnd (α := MD) (if v2 < 0 then d1 else (bnd (m_setPlace v2 v d1) fun g4 => g4)) fun p3 => if v2 < 0 then (false, p3) else (true, p3)
abbrev rm_X5_poke : Room := { frames := 2, cells := 0, slots := 0, locals := 49 }
set_option maxHeartbeats 4000000 in
set_option maxRecDepth 100000 in
theorem m_X5_poke {l : Launch} {D : va_G} {ad : Nat → Nat} {ca : Nat → ClassId} (hI : mInj ad) {K : MK} {d : MD} (a : Int64) (v : Int32) (RES : Bool × MD) (hr : RES = m_poke K a v d) (hlay : MLay K) : g_U l yX5_poke (ws_ yX5_poke cX5_poke 5 (some .boolean)) rm_X5_poke [.ref (ad 0), .long a, .int v] (mKp D ca) (mB D ad ca K d) (some (.int (b2i RES.1))) (mB D ad ca K RES.2) (mA ad) := by
  refine g_ofU (by decide) (Nat.le_of_ble_eq_true rfl) ?_
  intro p e s m args below meth c ls Q hF hB hKp hl hQ
  obtain ⟨hx, hb, -, -, hml, hown, hts⟩ := id hF
  have hown : s.vm.findClass RX5 = some m.cls := hown
  have hC : CallFix p m c cX5_poke 5 s args lw_all RX5 := ⟨hx, hb, hml, hown, hts⟩
  have hK : va_K D xcl (mtys ca) s := hKp
  have hP : va_P D xcl (MW ad ca K d) s.heap := hB
  have hS : va_S (mA ad) s.heap s.heap [] := va_S.rf
  have hl : lv_has ls 5 [(0, .ref (ad 0)), (1, .long a), (3, .int v)] := hl
  unfold m_poke at hr
  refine lv_aload_n hx hb dX5_poke_0 rfl (lv_at hl 0 rfl) ?_
  refine lv_iconst (v := (0 : Int32)) hx hb dX5_poke_1 ic_0 ?_
  refine mp_0_0 (v := (0 : Int32)) hx hb hts hown hK hI hP hS (hts _ q671) dX5_poke_2 (fun d1 ed1 H locs hP hS => ?_)
  replace hr := hr.trans (bnd_eq ed1)
  refine lv_aload_n hx hb dX5_poke_5 rfl (lv_at hl 0 rfl) ?_
  refine lv_lload_n hx hb dX5_poke_6 rfl (lv_at hl 1 rfl) ?_
  refine lv_iconst (v := (1 : Int32)) hx hb dX5_poke_7 ic_1 ?_
  refine g_RV (As := [.long a, .int (b2i true)]) (rest := []) hC (m_X5_find (K := K) (d := d1) a true _ rfl) (cwV 2 hts cw_X5_176 rfl rfl rfl hd_X5_find ⟨Nat.le_of_ble_eq_true rfl, Nat.le_of_ble_eq_true rfl⟩) mKst (va_recv hK hP (ci := 5) (q0 := 0) rfl rfl) hP hKp ⟨Nat.zero_le _, Nat.zero_le _⟩ rfl hl.1 rfl (Nat.le_of_ble_eq_true rfl) dX5_poke_8 ?_
  refine lv_topi (fun v2 ev2 => ?_)
  replace hr := hr.trans (bnd_eq ev2)
  refine lv_istore (lv' := [(4, .int v2), (0, .ref (ad 0)), (1, .long a), (3, .int v)]) hx hb dX5_poke_11 hl (by decide) rfl (fun ls hl => ?_)
  refine lv_iload hx hb dX5_poke_13 (lv_at hl 0 rfl) ?_
  obtain ⟨p3, ep3⟩ : ∃ z : MD, z = (if v2 < 0 then d1 else (bnd (m_setPlace v2 v d1) fun g4 => g4)) := ⟨_, rfl⟩
  replace hr := hr.trans (bnd_eq ep3)
  have kp3 : ∀ (H : Heap) (locs : List Loc) (ls : Array Slot), va_P D xcl (MW ad ca K p3) H → va_S (mA ad) s.heap H locs → lv_has ls 5 [(4, .int v2), (0, .ref (ad 0)), (1, .long a), (3, .int v)] → W p l e rm_X5_poke s m args below meth c H locs 0 0 Q (F0 m 25 ls []) := by
    intro H locs ls hP hS hl
    refine lv_iload hx hb dX5_poke_25 (lv_at hl 0 rfl) ?_
    refine lv_if_lt (tgt := 34) hx hb dX5_poke_27 (by decide) (fun c_27 => ?_) (fun c_27 => ?_)
    · replace hr := hr.trans (if_pos c_27)
      refine lv_iconst (v := (0 : Int32)) hx hb dX5_poke_34 ic_0 ?_
      exact g_endUz (Pic := (fun u => mB D ad ca K u)) (u := p3) hF hQ hr rfl hP hS dX5_poke_35
    · replace hr := hr.trans (if_neg c_27)
      refine lv_iconst (v := (1 : Int32)) hx hb dX5_poke_30 ic_1 ?_
      refine lv_goto (tgt := 35) hx hb dX5_poke_31 (by decide) ?_
      exact g_endUz (Pic := (fun u => mB D ad ca K u)) (u := p3) hF hQ hr rfl hP hS dX5_poke_35
  replace hr := ep3
  refine lv_if_lt (tgt := 25) hx hb dX5_poke_15 (by decide) (fun c_15 => ?_) (fun c_15 => ?_)
  · replace hr := hr.trans (if_pos c_15)
    subst hr
    exact kp3 _ _ ls hP hS (lv_sub hl [0, 1, 2, 3] rfl)
  · replace hr := hr.trans (if_neg c_15)
    refine lv_aload_n hx hb dX5_poke_18 rfl (lv_at hl 1 rfl) ?_
    refine lv_iload hx hb dX5_poke_19 (lv_at hl 0 rfl) ?_
    refine lv_iload_n hx hb dX5_poke_21 rfl (lv_at hl 3 rfl) ?_
    obtain ⟨g4, eg4⟩ : ∃ z, z = m_setPlace v2 v d1 := ⟨_, rfl⟩
    replace hr := hr.trans (bnd_eq eg4)
    refine g_UV0 (As := [.int v2, .int v]) (rest := []) hC (m_X5_setPlace hI (K := K) (d := d1) v2 v g4 eg4 (m_find_in2 ev2 hlay (Int32.not_lt.mp c_15))) (cwV 2 hts cw_X5_188 rfl rfl rfl hd_X5_setPlace ⟨Nat.le_of_ble_eq_true rfl, Nat.le_of_ble_eq_true rfl⟩) mKst (va_recv hK hP (ci := 5) (q0 := 0) rfl rfl) hP hKp ⟨Nat.zero_le _, Nat.zero_le _⟩ hS (fun _ h => h) rfl hl.1 rfl (Nat.le_of_ble_eq_true rfl) dX5_poke_22 (fun H locs hP hS => ?_)
    have hP : va_P D xcl (MW ad ca K g4) H := hP
    subst hr
    exact kp3 _ _ ls hP hS (lv_sub hl [0, 1, 2, 3] rfl)
