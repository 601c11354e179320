def m_load_L6 (K : MK) (a : Int64) (sz : Int32) : Nat → Int64 → Int32 → MD → Int64 × MD
  | 0, w6_4, w6_6, dl6 => (0, dl6)
  | n + 1, w6_4, w6_6, dl6 => if sz ≤ w6_6 then (w6_4, dl6) else (bnd (α := Int32) ((m_find K (a + (w6_6.toInt64)) false)) fun v1 => if 0 ≤ v1 then (bnd (α := Int64) ((w6_4 ||| (lshl_ ((m_byteAtPlace v1 dl6).toInt64) ((8 : Int32) * w6_6)))) fun v2 => bnd (α := Int32) ((w6_6 + (1 : Int32))) fun v3 => m_load_L6 K a sz n v2 v3 dl6) else (bnd (m_stopWith (3 : Int32) a dl6) fun g4 => ((0 : Int64), g4)))
theorem m_load_L6_s (K : MK) (a : Int64) (sz : Int32) (n : Nat) (w6_4 : Int64) (w6_6 : Int32) (dl6 : MD) : m_load_L6 K a sz (n + 1) w6_4 w6_6 dl6 = if sz ≤ w6_6 then (w6_4, dl6) else (bnd (α := Int32) ((m_find K (a + (w6_6.toInt64)) false)) fun v1 => if 0 ≤ v1 then (bnd (α := Int64) ((w6_4 ||| (lshl_ ((m_byteAtPlace v1 dl6).toInt64) ((8 : Int32) * w6_6)))) fun v2 => bnd (α := Int32) ((w6_6 + (1 : Int32))) fun v3 => m_load_L6 K a sz n v2 v3 dl6) else (bnd (m_stopWith (3 : Int32) a dl6) fun g4 => ((0 : Int64), g4))) := rfl
def m_load (K : MK) (a : Int64) (sz : Int32) (d : MD) : Int64 × MD := m_load_L6 K a sz (mI (0 : Int32) sz + 1) (0 : Int64) (0 : Int32) d
abbrev rm_X5_load : Room := { frames := 2, cells := 0, slots := 0, locals := 49 }
set_option maxHeartbeats 4000000 in
set_option maxRecDepth 100000 in
theorem m_X5_load {l : Launch} {D : va_G} {ad : Nat → Nat} {ca : Nat → ClassId} (hI : mInj ad) {K : MK} {d : MD} (a : Int64) (sz : Int32) (RES : Int64 × MD) (hr : RES = m_load K a sz d) (hlay : MLay K) : g_U l yX5_load (ws_ yX5_load cX5_load 8 (some .long)) rm_X5_load [.ref (ad 0), .long a, .int sz] (mKp D ca) (mB D ad ca K d) (some (.long RES.1)) (mB D ad ca K RES.2) (mA ad) := by
  refine g_ofU (by decide) (Nat.le_of_ble_eq_true rfl) ?_
  intro p e s m args below meth c ls Q hF hB hKp hl hQ
  obtain ⟨hx, hb, -, -, hml, hown, hts⟩ := id hF
  have hown : s.vm.findClass RX5 = some m.cls := hown
  have hC : CallFix p m c cX5_load 8 s args lw_all RX5 := ⟨hx, hb, hml, hown, hts⟩
  have hK : va_K D xcl (mtys ca) s := hKp
  have hP : va_P D xcl (MW ad ca K d) s.heap := hB
  have hS : va_S (mA ad) s.heap s.heap [] := va_S.rf
  have hl : lv_has ls 8 [(0, .ref (ad 0)), (1, .long a), (3, .int sz)] := hl
  unfold m_load at hr
  refine lv_lconst (v := (0 : Int64)) hx hb dX5_load_0 lc_0 ?_
  refine lv_lstore (lv' := [(4, .long (0 : Int64)), (0, .ref (ad 0)), (1, .long a), (3, .int sz)]) hx hb dX5_load_1 hl (by decide) rfl (fun ls hl => ?_)
  refine lv_iconst (v := (0 : Int32)) hx hb dX5_load_3 ic_0 ?_
  refine lv_istore (lv' := [(6, .int (0 : Int32)), (4, .long (0 : Int64)), (0, .ref (ad 0)), (1, .long a), (3, .int sz)]) hx hb dX5_load_4 hl (by decide) rfl (fun ls hl => ?_)
  have lp6 : ∀ (n : Nat) (w6_4 : Int64) (w6_6 : Int32) (dl6 : MD) (H : Heap) (locs : List Loc) (ls : Array Slot), mI w6_6 sz < n → (0 ≤ w6_6) → RES = m_load_L6 K a sz n w6_4 w6_6 dl6 → va_P D xcl (MW ad ca K dl6) H → va_S (mA ad) s.heap H locs → lv_has ls 8 [(6, .int w6_6), (4, .long w6_4), (0, .ref (ad 0)), (1, .long a), (3, .int sz)] → W p l e rm_X5_load s m args below meth c H locs 0 0 Q (F0 m 6 ls []) := by
    intro n
    induction n with
    | zero =>
      intro w6_4 w6_6 dl6 H locs ls hm
      exact absurd hm (Nat.not_lt_zero _)
    | succ n ih =>
      intro w6_4 w6_6 dl6 H locs ls hm h0 hr hP hS hl
      replace hr := hr.trans (m_load_L6_s K a sz n w6_4 w6_6 dl6)
      refine lv_iload hx hb dX5_load_6 (lv_at hl 0 rfl) ?_
      refine lv_iload_n hx hb dX5_load_8 rfl (lv_at hl 4 rfl) ?_
      refine lv_icmp_ge (tgt := 61) hx hb dX5_load_9 (by decide) (fun c_9 => ?_) (fun c_9 => ?_)
      · replace hr := hr.trans (if_pos c_9)
        refine lv_lload hx hb dX5_load_61 (lv_at hl 1 rfl) ?_
        exact g_endUl (Pic := (fun u => mB D ad ca K u)) (u := dl6) hF hQ hr hP hS dX5_load_63
      · replace hr := hr.trans (if_neg c_9)
        refine lv_aload_n hx hb dX5_load_12 rfl (lv_at hl 2 rfl) ?_
        refine lv_lload_n hx hb dX5_load_13 rfl (lv_at hl 3 rfl) ?_
        refine lv_iload hx hb dX5_load_14 (lv_at hl 0 rfl) ?_
        refine lv_i2l (v := w6_6.toInt64) hx hb dX5_load_16 rfl ?_
        refine lv_ladd hx hb dX5_load_17 ?_
        refine lv_iconst (v := (0 : Int32)) hx hb dX5_load_18 ic_0 ?_
        refine g_RV (As := [.long (a + (w6_6.toInt64)), .int (b2i false)]) (rest := []) hC (m_X5_find (K := K) (d := dl6) (a + (w6_6.toInt64)) false _ rfl) (cwV 2 hts cw_X5_176 rfl rfl rfl hd_X5_find ⟨Nat.le_of_ble_eq_true rfl, Nat.le_of_ble_eq_true rfl⟩) mKst (va_recv hK hP (ci := 5) (q0 := 0) rfl rfl) hP hKp ⟨Nat.zero_le _, Nat.zero_le _⟩ rfl hl.1 rfl (Nat.le_of_ble_eq_true rfl) dX5_load_19 ?_
        refine lv_topi (fun v1 ev1 => ?_)
        replace hr := hr.trans (bnd_eq ev1)
        refine lv_istore (lv' := [(7, .int v1), (6, .int w6_6), (4, .long w6_4), (0, .ref (ad 0)), (1, .long a), (3, .int sz)]) hx hb dX5_load_22 hl (by decide) rfl (fun ls hl => ?_)
        refine lv_iload hx hb dX5_load_24 (lv_at hl 0 rfl) ?_
        refine lv_if_ge (tgt := 37) hx hb dX5_load_26 (by decide) (fun c_26 => ?_) (fun c_26 => ?_)
        · replace hr := hr.trans (if_pos c_26)
          refine lv_lload hx hb dX5_load_37 (lv_at hl 2 rfl) ?_
          refine lv_aload_n hx hb dX5_load_39 rfl (lv_at hl 3 rfl) ?_
          refine lv_iload hx hb dX5_load_40 (lv_at hl 0 rfl) ?_
          refine g_RV (As := [.int v1]) (rest := [.long w6_4]) hC (m_X5_byteAtPlace (K := K) (d := dl6) v1 _ rfl (m_find_in2 ev1 hlay c_26)) (cwV 1 hts cw_X5_184 rfl rfl rfl hd_X5_byteAtPlace ⟨Nat.le_of_ble_eq_true rfl, Nat.le_of_ble_eq_true rfl⟩) mKst (va_recv hK hP (ci := 5) (q0 := 0) rfl rfl) hP hKp ⟨Nat.zero_le _, Nat.zero_le _⟩ rfl hl.1 rfl (Nat.le_of_ble_eq_true rfl) dX5_load_42 ?_
          refine lv_i2l (v := (m_byteAtPlace v1 dl6).toInt64) hx hb dX5_load_45 rfl ?_
          refine lv_bipush (v := (8 : Int32)) hx hb dX5_load_46 bp_8 ?_
          refine lv_iload hx hb dX5_load_48 (lv_at hl 1 rfl) ?_
          refine lv_imul hx hb dX5_load_50 ?_
          refine lv_lshl (v := (lshl_ ((m_byteAtPlace v1 dl6).toInt64) ((8 : Int32) * w6_6))) hx hb dX5_load_51 rfl ?_
          refine lv_lor hx hb dX5_load_52 ?_
          refine lv_topl (fun v2 ev2 => ?_)
          replace hr := hr.trans (bnd_eq ev2)
          refine lv_lstore (lv' := [(4, .long v2), (7, .int v1), (6, .int w6_6), (0, .ref (ad 0)), (1, .long a), (3, .int sz)]) hx hb dX5_load_53 hl (by decide) rfl (fun ls hl => ?_)
          obtain ⟨v3, ev3⟩ : ∃ z : Int32, z = (w6_6 + (1 : Int32)) := ⟨_, rfl⟩
          replace hr := hr.trans (bnd_eq ev3)
          refine lv_iinc (v := v3) (lv' := [(6, .int v3), (4, .long v2), (7, .int v1), (0, .ref (ad 0)), (1, .long a), (3, .int sz)]) hx hb dX5_load_55 hl (k := 2) rfl (by rw [ev3, ← ic_1]) (by decide) rfl (fun ls hl => ?_)
          refine lv_goto (tgt := 6) hx hb dX5_load_58 (by decide) ?_
          exact ih v2 v3 dl6 _ _ ls (mI_dec c_9 hm ev3) (i_nn h0 c_9 ev3) hr hP hS (lv_sub hl [0, 1, 3, 4, 5] rfl)
        · replace hr := hr.trans (if_neg c_26)
          refine lv_aload_n hx hb dX5_load_29 rfl (lv_at hl 3 rfl) ?_
          refine lv_iconst (v := (3 : Int32)) hx hb dX5_load_30 ic_3 ?_
          refine lv_lload_n hx hb dX5_load_31 rfl (lv_at hl 4 rfl) ?_
          obtain ⟨g4, eg4⟩ : ∃ z, z = m_stopWith (3 : Int32) a dl6 := ⟨_, rfl⟩
          replace hr := hr.trans (bnd_eq eg4)
          refine g_UV0 (As := [.int (3 : Int32), .long a]) (rest := []) hC (m_X5_stopWith hI (K := K) (d := dl6) (3 : Int32) a g4 eg4) (cwV 2 hts cw_X5_180 rfl rfl rfl hd_X5_stopWith ⟨Nat.le_of_ble_eq_true rfl, Nat.le_of_ble_eq_true rfl⟩) mKst (va_recv hK hP (ci := 5) (q0 := 0) rfl rfl) hP hKp ⟨Nat.zero_le _, Nat.zero_le _⟩ hS (fun _ h => h) rfl hl.1 rfl (Nat.le_of_ble_eq_true rfl) dX5_load_32 (fun H locs hP hS => ?_)
          have hP : va_P D xcl (MW ad ca K g4) H := hP
          refine lv_lconst (v := (0 : Int64)) hx hb dX5_load_35 lc_0 ?_
          exact g_endUl (Pic := (fun u => mB D ad ca K u)) (u := g4) hF hQ hr hP hS dX5_load_36
  exact lp6 (mI (0 : Int32) sz + 1) (0 : Int64) (0 : Int32) d _ _ ls (Nat.lt_succ_self _) (by decide) hr hP hS (lv_sub hl [0, 1, 2, 3, 4] rfl)
def m_store_L37 (K : MK) (a : Int64) (sz : Int32) (v : Int64) : Nat → Int32 → MD → MD
  | 0, w37_6, dl37 => dl37
  | n + 1, w37_6, dl37 => if sz ≤ w37_6 then dl37 else (if (dm_halt dl37) = 0 then (bnd (m_setPlace (m_find K (a + (w37_6.toInt64)) true) ((lshr_ v ((8 : Int32) * w37_6)).toInt32) dl37) fun g1 => bnd (α := Int32) ((w37_6 + (1 : Int32))) fun v2 => m_store_L37 K a sz v n v2 g1) else dl37)
theorem m_store_L37_s (K : MK) (a : Int64) (sz : Int32) (v : Int64) (n : Nat) (w37_6 : Int32) (dl37 : MD) : m_store_L37 K a sz v (n + 1) w37_6 dl37 = if sz ≤ w37_6 then dl37 else (if (dm_halt dl37) = 0 then (bnd (m_setPlace (m_find K (a + (w37_6.toInt64)) true) ((lshr_ v ((8 : Int32) * w37_6)).toInt32) dl37) fun g1 => bnd (α := Int32) ((w37_6 + (1 : Int32))) fun v2 => m_store_L37 K a sz v n v2 g1) else dl37) := rfl
def m_store_L3 (K : MK) (a : Int64) (sz : Int32) (v : Int64) : Nat → Int32 → MD → MD
  | 0, w3_6, dl3 => dl3
  | n + 1, w3_6, dl3 => if sz ≤ w3_6 then (m_store_L37 K a sz v (mI (0 : Int32) sz + 1) (0 : Int32) dl3) else (if 0 ≤ (m_find K (a + (w3_6.toInt64)) true) then (bnd (α := Int32) ((w3_6 + (1 : Int32))) fun v3 => m_store_L3 K a sz v n v3 dl3) else (bnd (m_stopWith (3 : Int32) a dl3) fun g4 => bnd (α := Int32) ((w3_6 + (1 : Int32))) fun v5 => m_store_L3 K a sz v n v5 g4))
theorem m_store_L3_s (K : MK) (a : Int64) (sz : Int32) (v : Int64) (n : Nat) (w3_6 : Int32) (dl3 : MD) : m_store_L3 K a sz v (n + 1) w3_6 dl3 = if sz ≤ w3_6 then (m_store_L37 K a sz v (mI (0 : Int32) sz + 1) (0 : Int32) dl3) else (if 0 ≤ (m_find K (a + (w3_6.toInt64)) true) then (bnd (α := Int32) ((w3_6 + (1 : Int32))) fun v3 => m_store_L3 K a sz v n v3 dl3) else (bnd (m_stopWith (3 : Int32) a dl3) fun g4 => bnd (α := Int32) ((w3_6 + (1 : Int32))) fun v5 => m_store_L3 K a sz v n v5 g4)) := rfl
def m_store (K : MK) (a : Int64) (sz : Int32) (v : Int64) (d : MD) : MD := m_store_L3 K a sz v (mI (0 : Int32) sz + 1) (0 : Int32) d
abbrev rm_X5_store : Room := { frames := 2, cells := 0, slots := 0, locals := 49 }
set_option maxHeartbeats 4000000 in
set_option maxRecDepth 100000 in
theorem m_X5_store {l : Launch} {D : va_G} {ad : Nat → Nat} {ca : Nat → ClassId} (hI : mInj ad) {K : MK} {d : MD} (a : Int64) (sz : Int32) (v : Int64) (RES : MD) (hr : RES = m_store K a sz v d) (hlay : MLay K) : g_U l yX5_store (ws_ yX5_store cX5_store 7 none) rm_X5_store [.ref (ad 0), .long a, .int sz, .long v] (mKp D ca) (mB D ad ca K d) none (mB D ad ca K RES) (mA ad) := by
  refine g_ofU (by decide) (Nat.le_of_ble_eq_true rfl) ?_
  intro p e s m args below meth c ls Q hF hB hKp hl hQ
  obtain ⟨hx, hb, -, -, hml, hown, hts⟩ := id hF
  have hown : s.vm.findClass RX5 = some m.cls := hown
  have hC : CallFix p m c cX5_store 7 s args lw_all RX5 := ⟨hx, hb, hml, hown, hts⟩
  have hK : va_K D xcl (mtys ca) s := hKp
  have hP : va_P D xcl (MW ad ca K d) s.heap := hB
  have hS : va_S (mA ad) s.heap s.heap [] := va_S.rf
  have hl : lv_has ls 7 [(0, .ref (ad 0)), (1, .long a), (3, .int sz), (4, .long v)] := hl
  unfold m_store at hr
  refine lv_iconst (v := (0 : Int32)) hx hb dX5_store_0 ic_0 ?_
  refine lv_istore (lv' := [(6, .int (0 : Int32)), (0, .ref (ad 0)), (1, .long a), (3, .int sz), (4, .long v)]) hx hb dX5_store_1 hl (by decide) rfl (fun ls hl => ?_)
  have lp3 : ∀ (n : Nat) (w3_6 : Int32) (dl3 : MD) (H : Heap) (locs : List Loc) (ls : Array Slot), mI w3_6 sz < n → (0 ≤ w3_6) → (MFd K a w3_6 dl3) → RES = m_store_L3 K a sz v n w3_6 dl3 → va_P D xcl (MW ad ca K dl3) H → va_S (mA ad) s.heap H locs → lv_has ls 7 [(6, .int w3_6), (0, .ref (ad 0)), (1, .long a), (3, .int sz), (4, .long v)] → W p l e rm_X5_store s m args below meth c H locs 0 0 Q (F0 m 3 ls []) := by
    intro n
    induction n with
    | zero =>
      intro w3_6 dl3 H locs ls hm
      exact absurd hm (Nat.not_lt_zero _)
    | succ n ih =>
      intro w3_6 dl3 H locs ls hm h0 h1 hr hP hS hl
      replace hr := hr.trans (m_store_L3_s K a sz v n w3_6 dl3)
      refine lv_iload hx hb dX5_store_3 (lv_at hl 0 rfl) ?_
      refine lv_iload_n hx hb dX5_store_5 rfl (lv_at hl 3 rfl) ?_
      refine lv_icmp_ge (tgt := 34) hx hb dX5_store_6 (by decide) (fun c_6 => ?_) (fun c_6 => ?_)
      · replace hr := hr.trans (if_pos c_6)
        refine lv_iconst (v := (0 : Int32)) hx hb dX5_store_34 ic_0 ?_
        refine lv_istore (lv' := [(6, .int (0 : Int32)), (0, .ref (ad 0)), (1, .long a), (3, .int sz), (4, .long v)]) hx hb dX5_store_35 hl (by decide) rfl (fun ls hl => ?_)
        have lp37 : ∀ (n : Nat) (w37_6 : Int32) (dl37 : MD) (H : Heap) (locs : List Loc) (ls : Array Slot), mI w37_6 sz < n → (0 ≤ w37_6) → (MFd K a sz dl37) → RES = m_store_L37 K a sz v n w37_6 dl37 → va_P D xcl (MW ad ca K dl37) H → va_S (mA ad) s.heap H locs → lv_has ls 7 [(6, .int w37_6), (0, .ref (ad 0)), (1, .long a), (3, .int sz), (4, .long v)] → W p l e rm_X5_store s m args below meth c H locs 0 0 Q (F0 m 37 ls []) := by
          intro n
          induction n with
          | zero =>
            intro w37_6 dl37 H locs ls hm
            exact absurd hm (Nat.not_lt_zero _)
          | succ n ih =>
            intro w37_6 dl37 H locs ls hm h0 h2 hr hP hS hl
            replace hr := hr.trans (m_store_L37_s K a sz v n w37_6 dl37)
            refine lv_iload hx hb dX5_store_37 (lv_at hl 0 rfl) ?_
            refine lv_iload_n hx hb dX5_store_39 rfl (lv_at hl 3 rfl) ?_
            refine lv_icmp_ge (tgt := 79) hx hb dX5_store_40 (by decide) (fun c_40 => ?_) (fun c_40 => ?_)
            · replace hr := hr.trans (if_pos c_40)
              exact g_endUv (Pic := (fun u => mB D ad ca K u)) (u := dl37) hF hQ hr hP hS dX5_store_79
            · replace hr := hr.trans (if_neg c_40)
              refine lv_aload_n hx hb dX5_store_43 rfl (lv_at hl 1 rfl) ?_
              refine mg_0_27 hx hb hts hown hK hP (hts _ q698) dX5_store_44 ?_
              refine lv_if_ne (tgt := 79) hx hb dX5_store_47 (by decide) (fun c_47 => ?_) (fun c_47 => ?_)
              · replace hr := hr.trans (if_neg c_47)
                exact g_endUv (Pic := (fun u => mB D ad ca K u)) (u := dl37) hF hQ hr hP hS dX5_store_79
              · replace hr := hr.trans (if_pos c_47)
                refine lv_aload_n hx hb dX5_store_50 rfl (lv_at hl 1 rfl) ?_
                refine lv_aload_n hx hb dX5_store_51 rfl (lv_at hl 1 rfl) ?_
                refine lv_lload_n hx hb dX5_store_52 rfl (lv_at hl 2 rfl) ?_
                refine lv_iload hx hb dX5_store_53 (lv_at hl 0 rfl) ?_
                refine lv_i2l (v := w37_6.toInt64) hx hb dX5_store_55 rfl ?_
                refine lv_ladd hx hb dX5_store_56 ?_
                refine lv_iconst (v := (1 : Int32)) hx hb dX5_store_57 ic_1 ?_
                refine g_RV (As := [.long (a + (w37_6.toInt64)), .int (b2i true)]) (rest := [.ref (ad 0)]) hC (m_X5_find (K := K) (d := dl37) (a + (w37_6.toInt64)) true _ rfl) (cwV 2 hts cw_X5_176 rfl rfl rfl hd_X5_find ⟨Nat.le_of_ble_eq_true rfl, Nat.le_of_ble_eq_true rfl⟩) mKst (va_recv hK hP (ci := 5) (q0 := 0) rfl rfl) hP hKp ⟨Nat.zero_le _, Nat.zero_le _⟩ rfl hl.1 rfl (Nat.le_of_ble_eq_true rfl) dX5_store_58 ?_
                refine lv_lload hx hb dX5_store_61 (lv_at hl 4 rfl) ?_
                refine lv_bipush (v := (8 : Int32)) hx hb dX5_store_63 bp_8 ?_
                refine lv_iload hx hb dX5_store_65 (lv_at hl 0 rfl) ?_
                refine lv_imul hx hb dX5_store_67 ?_
                refine lv_lshr (v := (lshr_ v ((8 : Int32) * w37_6))) hx hb dX5_store_68 rfl ?_
                refine lv_l2i (v := (lshr_ v ((8 : Int32) * w37_6)).toInt32) hx hb dX5_store_69 rfl ?_
                obtain ⟨g1, eg1⟩ : ∃ z, z = m_setPlace (m_find K (a + (w37_6.toInt64)) true) ((lshr_ v ((8 : Int32) * w37_6)).toInt32) dl37 := ⟨_, rfl⟩
                replace hr := hr.trans (bnd_eq eg1)
                refine g_UV0 (As := [.int (m_find K (a + (w37_6.toInt64)) true), .int ((lshr_ v ((8 : Int32) * w37_6)).toInt32)]) (rest := []) hC (m_X5_setPlace hI (K := K) (d := dl37) (m_find K (a + (w37_6.toInt64)) true) ((lshr_ v ((8 : Int32) * w37_6)).toInt32) g1 eg1 (m_find_in hlay (h2 c_47 _ h0 c_40))) (cwV 2 hts cw_X5_188 rfl rfl rfl hd_X5_setPlace ⟨Nat.le_of_ble_eq_true rfl, Nat.le_of_ble_eq_true rfl⟩) mKst (va_recv hK hP (ci := 5) (q0 := 0) rfl rfl) hP hKp ⟨Nat.zero_le _, Nat.zero_le _⟩ hS (fun _ h => h) rfl hl.1 rfl (Nat.le_of_ble_eq_true rfl) dX5_store_70 (fun H locs hP hS => ?_)
                have hP : va_P D xcl (MW ad ca K g1) H := hP
                obtain ⟨v2, ev2⟩ : ∃ z : Int32, z = (w37_6 + (1 : Int32)) := ⟨_, rfl⟩
                replace hr := hr.trans (bnd_eq ev2)
                refine lv_iinc (v := v2) (lv' := [(6, .int v2), (0, .ref (ad 0)), (1, .long a), (3, .int sz), (4, .long v)]) hx hb dX5_store_73 hl (k := 0) rfl (by rw [ev2, ← ic_1]) (by decide) rfl (fun ls hl => ?_)
                refine lv_goto (tgt := 37) hx hb dX5_store_76 (by decide) ?_
                exact ih v2 g1 _ _ ls (mI_dec c_40 hm ev2) (i_nn h0 c_40 ev2) (mfd_sp eg1 h2) hr hP hS (lv_sub hl [0, 1, 2, 3, 4] rfl)
        exact lp37 (mI (0 : Int32) sz + 1) (0 : Int32) dl3 _ _ ls (Nat.lt_succ_self _) (by decide) (mfd_le h1 c_6) hr hP hS (lv_sub hl [0, 1, 2, 3, 4] rfl)
      · replace hr := hr.trans (if_neg c_6)
        refine lv_aload_n hx hb dX5_store_9 rfl (lv_at hl 1 rfl) ?_
        refine lv_lload_n hx hb dX5_store_10 rfl (lv_at hl 2 rfl) ?_
        refine lv_iload hx hb dX5_store_11 (lv_at hl 0 rfl) ?_
        refine lv_i2l (v := w3_6.toInt64) hx hb dX5_store_13 rfl ?_
        refine lv_ladd hx hb dX5_store_14 ?_
        refine lv_iconst (v := (1 : Int32)) hx hb dX5_store_15 ic_1 ?_
        refine g_RV (As := [.long (a + (w3_6.toInt64)), .int (b2i true)]) (rest := []) hC (m_X5_find (K := K) (d := dl3) (a + (w3_6.toInt64)) true _ rfl) (cwV 2 hts cw_X5_176 rfl rfl rfl hd_X5_find ⟨Nat.le_of_ble_eq_true rfl, Nat.le_of_ble_eq_true rfl⟩) mKst (va_recv hK hP (ci := 5) (q0 := 0) rfl rfl) hP hKp ⟨Nat.zero_le _, Nat.zero_le _⟩ rfl hl.1 rfl (Nat.le_of_ble_eq_true rfl) dX5_store_16 ?_
        refine lv_if_ge (tgt := 28) hx hb dX5_store_19 (by decide) (fun c_19 => ?_) (fun c_19 => ?_)
        · replace hr := hr.trans (if_pos c_19)
          obtain ⟨v3, ev3⟩ : ∃ z : Int32, z = (w3_6 + (1 : Int32)) := ⟨_, rfl⟩
          replace hr := hr.trans (bnd_eq ev3)
          refine lv_iinc (v := v3) (lv' := [(6, .int v3), (0, .ref (ad 0)), (1, .long a), (3, .int sz), (4, .long v)]) hx hb dX5_store_28 hl (k := 0) rfl (by rw [ev3, ← ic_1]) (by decide) rfl (fun ls hl => ?_)
          refine lv_goto (tgt := 3) hx hb dX5_store_31 (by decide) ?_
          exact ih v3 dl3 _ _ ls (mI_dec c_6 hm ev3) (i_nn h0 c_6 ev3) (mfd_s h0 c_6 ev3 h1 (fun _ => c_19)) hr hP hS (lv_sub hl [0, 1, 2, 3, 4] rfl)
        · replace hr := hr.trans (if_neg c_19)
          refine lv_aload_n hx hb dX5_store_22 rfl (lv_at hl 1 rfl) ?_
          refine lv_iconst (v := (3 : Int32)) hx hb dX5_store_23 ic_3 ?_
          refine lv_lload_n hx hb dX5_store_24 rfl (lv_at hl 2 rfl) ?_
          obtain ⟨g4, eg4⟩ : ∃ z, z = m_stopWith (3 : Int32) a dl3 := ⟨_, rfl⟩
          replace hr := hr.trans (bnd_eq eg4)
          refine g_UV0 (As := [.int (3 : Int32), .long a]) (rest := []) hC (m_X5_stopWith hI (K := K) (d := dl3) (3 : Int32) a g4 eg4) (cwV 2 hts cw_X5_180 rfl rfl rfl hd_X5_stopWith ⟨Nat.le_of_ble_eq_true rfl, Nat.le_of_ble_eq_true rfl⟩) mKst (va_recv hK hP (ci := 5) (q0 := 0) rfl rfl) hP hKp ⟨Nat.zero_le _, Nat.zero_le _⟩ hS (fun _ h => h) rfl hl.1 rfl (Nat.le_of_ble_eq_true rfl) dX5_store_25 (fun H locs hP hS => ?_)
          have hP : va_P D xcl (MW ad ca K g4) H := hP
          obtain ⟨v5, ev5⟩ : ∃ z : Int32, z = (w3_6 + (1 : Int32)) := ⟨_, rfl⟩
          replace hr := hr.trans (bnd_eq ev5)
          refine lv_iinc (v := v5) (lv' := [(6, .int v5), (0, .ref (ad 0)), (1, .long a), (3, .int sz), (4, .long v)]) hx hb dX5_store_28 hl (k := 0) rfl (by rw [ev5, ← ic_1]) (by decide) rfl (fun ls hl => ?_)
          refine lv_goto (tgt := 3) hx hb dX5_store_31 (by decide) ?_
          exact ih v5 g4 _ _ ls (mI_dec c_6 hm ev5) (i_nn h0 c_6 ev5) (mfd_s h0 c_6 ev5 (mfd_st eg4 h1 (by decide)) (mfd_c eg4 (by decide))) hr hP hS (lv_sub hl [0, 1, 2, 3, 4] rfl)
  exact lp3 (mI (0 : Int32) sz + 1) (0 : Int32) d _ _ ls (Nat.lt_succ_self _) (by decide) (mfd_0 _ _ _) hr hP hS (lv_sub hl [0, 1, 2, 3, 4] rfl)
def m_addressNow (K : MK) (d : MD) : Int64 := bnd (α := Int64) (((km_displacement K).toInt64)) fun v1 => bnd (α := Int64) (if (km_base K) = (16 : Int32) then (bnd (α := Int64) ((v1 + (dm_ip d))) fun v3 => v3) else v1) fun p2 => bnd (α := Int64) (if (km_base K) < 0 then p2 else (if (16 : Int32) ≤ (km_base K) then p2 else (bnd (α := Int64) ((p2 + ((dm_regs d) (km_base K).toNatClampNeg))) fun v5 => v5))) fun p4 => if (km_index K) < 0 then p4 else (bnd (α := Int64) ((p4 + (((dm_regs d) (km_index K).toNatClampNeg) * ((km_scale K).toInt64)))) fun v6 => v6)
abbrev rm_X5_addressNow : Room := { frames := 0, cells := 0, slots := 0, locals := 0 }
set_option maxHeartbeats 4000000 in
set_option maxRecDepth 100000 in
theorem m_X5_addressNow {l : Launch} {D : va_G} {ad : Nat → Nat} {ca : Nat → ClassId} {K : MK} {d : MD} (RES : Int64) (hr : RES = m_addressNow K d) (hadr : MAdr K) : g_R l yX5_addressNow (ws_ yX5_addressNow cX5_addressNow 3 (some .long)) rm_X5_addressNow [.ref (ad 0)] (mKp D ca) (mB D ad ca K d) (.long RES) := by
  refine g_ofR (by decide) (Nat.le_of_ble_eq_true rfl) ?_
  intro p e s m args below meth c ls Q hF hB hKp hl hQ
  obtain ⟨hx, hb, -, -, hml, hown, hts⟩ := id hF
  have hown : s.vm.findClass RX5 = some m.cls := hown
  have hC : CallFix p m c cX5_addressNow 3 s args lw_all RX5 := ⟨hx, hb, hml, hown, hts⟩
  have hK : va_K D xcl (mtys ca) s := hKp
  have hP : va_P D xcl (MW ad ca K d) s.heap := hB
  have hl : lv_has ls 3 [(0, .ref (ad 0))] := hl
  unfold m_addressNow at hr
  refine lv_aload_n hx hb dX5_addressNow_0 rfl (lv_at hl 0 rfl) ?_
  refine mg_0_36 hx hb hts hown hK hP (hts _ q707) dX5_addressNow_1 ?_
  refine lv_i2l (v := (km_displacement K).toInt64) hx hb dX5_addressNow_4 rfl ?_
  refine lv_topl (fun v1 ev1 => ?_)
  replace hr := hr.trans (bnd_eq ev1)
  refine lv_lstore_n (lv' := [(1, .long v1), (0, .ref (ad 0))]) hx hb dX5_addressNow_5 rfl hl (by decide) rfl (fun ls hl => ?_)
  refine lv_aload_n hx hb dX5_addressNow_6 rfl (lv_at hl 1 rfl) ?_
  refine mg_0_33 hx hb hts hown hK hP (hts _ q704) dX5_addressNow_7 ?_
  refine lv_bipush (v := (16 : Int32)) hx hb dX5_addressNow_10 bp_16 ?_
  obtain ⟨p2, ep2⟩ : ∃ z : Int64, z = (if (km_base K) = (16 : Int32) then (bnd (α := Int64) ((v1 + (dm_ip d))) fun v3 => v3) else v1) := ⟨_, rfl⟩
  replace hr := hr.trans (bnd_eq ep2)
  have kp2 : ∀ (ls : Array Slot), lv_has ls 3 [(1, .long p2), (0, .ref (ad 0))] → W p l e rm_X5_addressNow s m args below meth c s.heap [] 0 0 Q (F0 m 22 ls []) := by
    intro ls hl
    refine lv_aload_n hx hb dX5_addressNow_22 rfl (lv_at hl 1 rfl) ?_
    refine mg_0_33 hx hb hts hown hK hP (hts _ q704) dX5_addressNow_23 ?_
    obtain ⟨p4, ep4⟩ : ∃ z : Int64, z = (if (km_base K) < 0 then p2 else (if (16 : Int32) ≤ (km_base K) then p2 else (bnd (α := Int64) ((p2 + ((dm_regs d) (km_base K).toNatClampNeg))) fun v5 => v5))) := ⟨_, rfl⟩
    replace hr := hr.trans (bnd_eq ep4)
    have kp4 : ∀ (ls : Array Slot), lv_has ls 3 [(1, .long p4), (0, .ref (ad 0))] → W p l e rm_X5_addressNow s m args below meth c s.heap [] 0 0 Q (F0 m 50 ls []) := by
      intro ls hl
      refine lv_aload_n hx hb dX5_addressNow_50 rfl (lv_at hl 1 rfl) ?_
      refine mg_0_34 hx hb hts hown hK hP (hts _ q705) dX5_addressNow_51 ?_
      refine lv_if_lt (tgt := 75) hx hb dX5_addressNow_54 (by decide) (fun c_54 => ?_) (fun c_54 => ?_)
      · replace hr := hr.trans (if_pos c_54)
        refine lv_lload_n hx hb dX5_addressNow_75 rfl (lv_at hl 0 rfl) ?_
        exact g_endRl hF hQ hr dX5_addressNow_76
      · replace hr := hr.trans (if_neg c_54)
        refine lv_lload_n hx hb dX5_addressNow_57 rfl (lv_at hl 0 rfl) ?_
        refine lv_aload_n hx hb dX5_addressNow_58 rfl (lv_at hl 1 rfl) ?_
        refine mg_0_16 hx hb hts hown hK hP (hts _ q687) dX5_addressNow_59 ?_
        refine lv_aload_n hx hb dX5_addressNow_62 rfl (lv_at hl 1 rfl) ?_
        refine mg_0_34 hx hb hts hown hK hP (hts _ q705) dX5_addressNow_63 ?_
        refine ml_7 hx hb hK hP (madr_i hadr c_54) dX5_addressNow_66 ?_
        refine lv_aload_n hx hb dX5_addressNow_67 rfl (lv_at hl 1 rfl) ?_
        refine mg_0_35 hx hb hts hown hK hP (hts _ q706) dX5_addressNow_68 ?_
        refine lv_i2l (v := (km_scale K).toInt64) hx hb dX5_addressNow_71 rfl ?_
        refine lv_lmul hx hb dX5_addressNow_72 ?_
        refine lv_ladd hx hb dX5_addressNow_73 ?_
        refine lv_topl (fun v6 ev6 => ?_)
        replace hr := hr.trans (bnd_eq ev6)
        refine lv_lstore_n (lv' := [(1, .long v6), (0, .ref (ad 0))]) hx hb dX5_addressNow_74 rfl hl (by decide) rfl (fun ls hl => ?_)
        refine lv_lload_n hx hb dX5_addressNow_75 rfl (lv_at hl 0 rfl) ?_
        exact g_endRl hF hQ hr dX5_addressNow_76
    replace hr := ep4
    refine lv_if_lt (tgt := 50) hx hb dX5_addressNow_26 (by decide) (fun c_26 => ?_) (fun c_26 => ?_)
    · replace hr := hr.trans (if_pos c_26)
      subst hr
      exact kp4 ls (lv_sub hl [0, 1] rfl)
    · replace hr := hr.trans (if_neg c_26)
      refine lv_aload_n hx hb dX5_addressNow_29 rfl (lv_at hl 1 rfl) ?_
      refine mg_0_33 hx hb hts hown hK hP (hts _ q704) dX5_addressNow_30 ?_
      refine lv_bipush (v := (16 : Int32)) hx hb dX5_addressNow_33 bp_16 ?_
      refine lv_icmp_ge (tgt := 50) hx hb dX5_addressNow_35 (by decide) (fun c_35 => ?_) (fun c_35 => ?_)
      · replace hr := hr.trans (if_pos c_35)
        subst hr
        exact kp4 ls (lv_sub hl [0, 1] rfl)
      · replace hr := hr.trans (if_neg c_35)
        refine lv_lload_n hx hb dX5_addressNow_38 rfl (lv_at hl 0 rfl) ?_
        refine lv_aload_n hx hb dX5_addressNow_39 rfl (lv_at hl 1 rfl) ?_
        refine mg_0_16 hx hb hts hown hK hP (hts _ q687) dX5_addressNow_40 ?_
        refine lv_aload_n hx hb dX5_addressNow_43 rfl (lv_at hl 1 rfl) ?_
        refine mg_0_33 hx hb hts hown hK hP (hts _ q704) dX5_addressNow_44 ?_
        refine ml_7 hx hb hK hP (i_in (Int32.not_lt.mp c_26) c_35 (by decide)) dX5_addressNow_47 ?_
        refine lv_ladd hx hb dX5_addressNow_48 ?_
        refine lv_topl (fun v5 ev5 => ?_)
        replace hr := hr.trans (bnd_eq ev5)
        refine lv_lstore_n (lv' := [(1, .long v5), (0, .ref (ad 0))]) hx hb dX5_addressNow_49 rfl hl (by decide) rfl (fun ls hl => ?_)
        subst hr
        exact kp4 ls (lv_sub hl [0, 1] rfl)
  replace hr := ep2
  refine lv_icmp_ne (tgt := 22) hx hb dX5_addressNow_12 (by decide) (fun c_12 => ?_) (fun c_12 => ?_)
  · replace hr := hr.trans (if_neg c_12)
    subst hr
    exact kp2 ls (lv_sub hl [0, 1] rfl)
  · replace hr := hr.trans (if_pos c_12)
    refine lv_lload_n hx hb dX5_addressNow_15 rfl (lv_at hl 0 rfl) ?_
    refine lv_aload_n hx hb dX5_addressNow_16 rfl (lv_at hl 1 rfl) ?_
    refine mg_0_18 hx hb hts hown hK hP (hts _ q689) dX5_addressNow_17 ?_
    refine lv_ladd hx hb dX5_addressNow_20 ?_
    refine lv_topl (fun v3 ev3 => ?_)
    replace hr := hr.trans (bnd_eq ev3)
    refine lv_lstore_n (lv' := [(1, .long v3), (0, .ref (ad 0))]) hx hb dX5_addressNow_21 rfl hl (by decide) rfl (fun ls hl => ?_)
    subst hr
    exact kp2 ls (lv_sub hl [0, 1] rfl)
def m_kindAt (K : MK) (k : Int32) : Int32 := ((km_kinds K) k.toNatClampNeg)
abbrev rm_X5_kindAt : Room := { frames := 0, cells := 0, slots := 0, locals := 0 }
set_option maxHeartbeats 4000000 in
set_option maxRecDepth 100000 in
theorem m_X5_kindAt {l : Launch} {D : va_G} {ad : Nat → Nat} {ca : Nat → ClassId} {K : MK} {d : MD} (k : Int32) (RES : Int32) (hr : RES = m_kindAt K k) (hk : vp_in k 3) : g_R l yX5_kindAt (ws_ yX5_kindAt cX5_kindAt 2 (some .int)) rm_X5_kindAt [.ref (ad 0), .int k] (mKp D ca) (mB D ad ca K d) (.int RES) := by
  refine g_ofR (by decide) (Nat.le_of_ble_eq_true rfl) ?_
  intro p e s m args below meth c ls Q hF hB hKp hl hQ
  obtain ⟨hx, hb, -, -, hml, hown, hts⟩ := id hF
  have hown : s.vm.findClass RX5 = some m.cls := hown
  have hC : CallFix p m c cX5_kindAt 2 s args lw_all RX5 := ⟨hx, hb, hml, hown, hts⟩
  have hK : va_K D xcl (mtys ca) s := hKp
  have hP : va_P D xcl (MW ad ca K d) s.heap := hB
  have hl : lv_has ls 2 [(0, .ref (ad 0)), (1, .int k)] := hl
  unfold m_kindAt at hr
  refine lv_aload_n hx hb dX5_kindAt_0 rfl (lv_at hl 0 rfl) ?_
  refine mg_0_39 hx hb hts hown hK hP (hts _ q710) dX5_kindAt_1 ?_
  refine lv_iload_n hx hb dX5_kindAt_4 rfl (lv_at hl 1 rfl) ?_
  refine ml_9 hx hb hK hP hk dX5_kindAt_5 ?_
  exact g_endRi hF hQ hr dX5_kindAt_6
def m_registerAt (K : MK) (k : Int32) : Int32 := ((km_places K) k.toNatClampNeg)
abbrev rm_X5_registerAt : Room := { frames := 0, cells := 0, slots := 0, locals := 0 }
set_option maxHeartbeats 4000000 in
set_option maxRecDepth 100000 in
theorem m_X5_registerAt {l : Launch} {D : va_G} {ad : Nat → Nat} {ca : Nat → ClassId} {K : MK} {d : MD} (k : Int32) (RES : Int32) (hr : RES = m_registerAt K k) (hk : vp_in k 3) : g_R l yX5_registerAt (ws_ yX5_registerAt cX5_registerAt 2 (some .int)) rm_X5_registerAt [.ref (ad 0), .int k] (mKp D ca) (mB D ad ca K d) (.int RES) := by
  refine g_ofR (by decide) (Nat.le_of_ble_eq_true rfl) ?_
  intro p e s m args below meth c ls Q hF hB hKp hl hQ
  obtain ⟨hx, hb, -, -, hml, hown, hts⟩ := id hF
  have hown : s.vm.findClass RX5 = some m.cls := hown
  have hC : CallFix p m c cX5_registerAt 2 s args lw_all RX5 := ⟨hx, hb, hml, hown, hts⟩
  have hK : va_K D xcl (mtys ca) s := hKp
  have hP : va_P D xcl (MW ad ca K d) s.heap := hB
  have hl : lv_has ls 2 [(0, .ref (ad 0)), (1, .int k)] := hl
  unfold m_registerAt at hr
  refine lv_aload_n hx hb dX5_registerAt_0 rfl (lv_at hl 0 rfl) ?_
  refine mg_0_40 hx hb hts hown hK hP (hts _ q711) dX5_registerAt_1 ?_
  refine lv_iload_n hx hb dX5_registerAt_4 rfl (lv_at hl 1 rfl) ?_
  refine ml_10 hx hb hK hP hk dX5_registerAt_5 ?_
  exact g_endRi hF hQ hr dX5_registerAt_6
def m_take (K : MK) (k : Int32) (sz : Int32) (d : MD) : Int64 × MD := bnd (α := Int32) ((m_kindAt K k)) fun v1 => if v1 = (1 : Int32) then ((m_cut ((dm_regs d) (m_registerAt K k).toNatClampNeg) sz), d) else (if v1 = (2 : Int32) then (bnd (m_load K (dm_operandAt d) sz d) fun g2 => (g2.1, g2.2)) else ((m_cut (km_number K) sz), d))
abbrev rm_X5_take : Room := { frames := 3, cells := 0, slots := 0, locals := 76 }
set_option maxHeartbeats 4000000 in
set_option maxRecDepth 100000 in
theorem m_X5_take {l : Launch} {D : va_G} {ad : Nat → Nat} {ca : Nat → ClassId} (hI : mInj ad) {K : MK} {d : MD} (k : Int32) (sz : Int32) (RES : Int64 × MD) (hr : RES = m_take K k sz d) (hk : vp_in k 3) (hgd : MGd K) : g_U l yX5_take (ws_ yX5_take cX5_take 4 (some .long)) rm_X5_take [.ref (ad 0), .int k, .int sz] (mKp D ca) (mB D ad ca K d) (some (.long RES.1)) (mB D ad ca K RES.2) (mA ad) := by
  refine g_ofU (by decide) (Nat.le_of_ble_eq_true rfl) ?_
  intro p e s m args below meth c ls Q hF hB hKp hl hQ
  obtain ⟨hx, hb, -, -, hml, hown, hts⟩ := id hF
  have hown : s.vm.findClass RX5 = some m.cls := hown
  have hC : CallFix p m c cX5_take 4 s args lw_all RX5 := ⟨hx, hb, hml, hown, hts⟩
  have hK : va_K D xcl (mtys ca) s := hKp
  have hP : va_P D xcl (MW ad ca K d) s.heap := hB
  have hS : va_S (mA ad) s.heap s.heap [] := va_S.rf
  have hl : lv_has ls 4 [(0, .ref (ad 0)), (1, .int k), (2, .int sz)] := hl
  unfold m_take at hr
  refine lv_aload_n hx hb dX5_take_0 rfl (lv_at hl 0 rfl) ?_
  refine lv_iload_n hx hb dX5_take_1 rfl (lv_at hl 1 rfl) ?_
  refine g_RV (As := [.int k]) (rest := []) hC (m_X5_kindAt (K := K) (d := d) k _ rfl hk) (cwV 1 hts cw_X5_194 rfl rfl rfl hd_X5_kindAt ⟨Nat.le_of_ble_eq_true rfl, Nat.le_of_ble_eq_true rfl⟩) mKst (va_recv hK hP (ci := 5) (q0 := 0) rfl rfl) hP hKp ⟨Nat.zero_le _, Nat.zero_le _⟩ rfl hl.1 rfl (Nat.le_of_ble_eq_true rfl) dX5_take_2 ?_
  refine lv_topi (fun v1 ev1 => ?_)
  replace hr := hr.trans (bnd_eq ev1)
  refine lv_istore_n (lv' := [(3, .int v1), (0, .ref (ad 0)), (1, .int k), (2, .int sz)]) hx hb dX5_take_5 rfl hl (by decide) rfl (fun ls hl => ?_)
  refine lv_iload_n hx hb dX5_take_6 rfl (lv_at hl 0 rfl) ?_
  refine lv_iconst (v := (1 : Int32)) hx hb dX5_take_7 ic_1 ?_
  refine lv_icmp_ne (tgt := 26) hx hb dX5_take_8 (by decide) (fun c_8 => ?_) (fun c_8 => ?_)
  · replace hr := hr.trans (if_neg c_8)
    refine lv_iload_n hx hb dX5_take_26 rfl (lv_at hl 0 rfl) ?_
    refine lv_iconst (v := (2 : Int32)) hx hb dX5_take_27 ic_2 ?_
    refine lv_icmp_ne (tgt := 43) hx hb dX5_take_28 (by decide) (fun c_28 => ?_) (fun c_28 => ?_)
    · replace hr := hr.trans (if_neg c_28)
      refine lv_aload_n hx hb dX5_take_43 rfl (lv_at hl 1 rfl) ?_
      refine mg_0_38 hx hb hts hown hK hP (hts _ q709) dX5_take_44 ?_
      refine lv_iload_n hx hb dX5_take_47 rfl (lv_at hl 3 rfl) ?_
      refine g_RS (As := [.long (km_number K), .int sz]) (rest := []) hC (m_X5_cut (km_number K) sz _ rfl) (va_cwS 2 hts cw_X5_200 rfl rfl rfl hd_X5_cut ⟨Nat.le_of_ble_eq_true rfl, Nat.le_of_ble_eq_true rfl⟩) g_Kst0 trivial trivial ⟨Nat.zero_le _, Nat.zero_le _⟩ rfl hl.1 rfl (Nat.le_of_ble_eq_true rfl) dX5_take_48 ?_
      exact g_endUl (Pic := (fun u => mB D ad ca K u)) (u := d) hF hQ hr hP hS dX5_take_51
    · replace hr := hr.trans (if_pos c_28)
      refine lv_aload_n hx hb dX5_take_31 rfl (lv_at hl 1 rfl) ?_
      refine lv_aload_n hx hb dX5_take_32 rfl (lv_at hl 1 rfl) ?_
      refine mg_0_29 hx hb hts hown hK hP (hts _ q700) dX5_take_33 ?_
      refine lv_iload_n hx hb dX5_take_36 rfl (lv_at hl 3 rfl) ?_
      obtain ⟨g2, eg2⟩ : ∃ z, z = m_load K (dm_operandAt d) sz d := ⟨_, rfl⟩
      replace hr := hr.trans (bnd_eq eg2)
      refine g_UV1 (As := [.long (dm_operandAt d), .int sz]) (rest := []) hC (m_X5_load hI (K := K) (d := d) (dm_operandAt d) sz g2 eg2 hgd.1) (cwV 2 hts cw_X5_207 rfl rfl rfl hd_X5_load ⟨Nat.le_of_ble_eq_true rfl, Nat.le_of_ble_eq_true rfl⟩) mKst (va_recv hK hP (ci := 5) (q0 := 0) rfl rfl) hP hKp ⟨Nat.zero_le _, Nat.zero_le _⟩ hS (fun _ h => h) rfl hl.1 rfl (Nat.le_of_ble_eq_true rfl) dX5_take_37 (fun H locs hP hS => ?_)
      have hP : va_P D xcl (MW ad ca K g2.2) H := hP
      refine lv_goto (tgt := 51) hx hb dX5_take_40 (by decide) ?_
      exact g_endUl (Pic := (fun u => mB D ad ca K u)) (u := g2.2) hF hQ hr hP hS dX5_take_51
  · replace hr := hr.trans (if_pos c_8)
    refine lv_aload_n hx hb dX5_take_11 rfl (lv_at hl 1 rfl) ?_
    refine mg_0_16 hx hb hts hown hK hP (hts _ q687) dX5_take_12 ?_
    refine lv_aload_n hx hb dX5_take_15 rfl (lv_at hl 1 rfl) ?_
    refine lv_iload_n hx hb dX5_take_16 rfl (lv_at hl 2 rfl) ?_
    refine g_RV (As := [.int k]) (rest := [.ref (ad 7)]) hC (m_X5_registerAt (K := K) (d := d) k _ rfl hk) (cwV 1 hts cw_X5_197 rfl rfl rfl hd_X5_registerAt ⟨Nat.le_of_ble_eq_true rfl, Nat.le_of_ble_eq_true rfl⟩) mKst (va_recv hK hP (ci := 5) (q0 := 0) rfl rfl) hP hKp ⟨Nat.zero_le _, Nat.zero_le _⟩ rfl hl.1 rfl (Nat.le_of_ble_eq_true rfl) dX5_take_17 ?_
    refine ml_7 hx hb hK hP (hgd.2.1 _ hk) dX5_take_20 ?_
    refine lv_iload_n hx hb dX5_take_21 rfl (lv_at hl 3 rfl) ?_
    refine g_RS (As := [.long ((dm_regs d) (m_registerAt K k).toNatClampNeg), .int sz]) (rest := []) hC (m_X5_cut ((dm_regs d) (m_registerAt K k).toNatClampNeg) sz _ rfl) (va_cwS 2 hts cw_X5_200 rfl rfl rfl hd_X5_cut ⟨Nat.le_of_ble_eq_true rfl, Nat.le_of_ble_eq_true rfl⟩) g_Kst0 trivial trivial ⟨Nat.zero_le _, Nat.zero_le _⟩ rfl hl.1 rfl (Nat.le_of_ble_eq_true rfl) dX5_take_22 ?_
    exact g_endUl (Pic := (fun u => mB D ad ca K u)) (u := d) hF hQ hr hP hS dX5_take_25
def m_setRegister (k : Int32) (sz : Int32) (v : Int64) (d : MD) : MD := if sz = (8 : Int32) then (bnd (dm_regs_ (vp_updL (dm_regs d) k.toNatClampNeg v) d) fun d3 => d3) else (if sz = (4 : Int32) then (bnd (dm_regs_ (vp_updL (dm_regs d) k.toNatClampNeg (v &&& (4294967295 : Int64))) d) fun d2 => d2) else (bnd (dm_regs_ (vp_updL (dm_regs d) k.toNatClampNeg ((((dm_regs d) k.toNatClampNeg) &&& (-256 : Int64)) ||| (v &&& (255 : Int64)))) d) fun d1 => d1))
abbrev rm_X5_setRegister : Room := { frames := 0, cells := 0, slots := 0, locals := 0 }
set_option maxHeartbeats 4000000 in
set_option maxRecDepth 100000 in
theorem m_X5_setRegister {l : Launch} {D : va_G} {ad : Nat → Nat} {ca : Nat → ClassId} (hI : mInj ad) {K : MK} {d : MD} (k : Int32) (sz : Int32) (v : Int64) (RES : MD) (hr : RES = m_setRegister k sz v d) (hk : vp_in k 16) : g_U l yX5_setRegister (ws_ yX5_setRegister cX5_setRegister 5 none) rm_X5_setRegister [.ref (ad 0), .int k, .int sz, .long v] (mKp D ca) (mB D ad ca K d) none (mB D ad ca K RES) (mA ad) := by
  refine g_ofU (by decide) (Nat.le_of_ble_eq_true rfl) ?_
  intro p e s m args below meth c ls Q hF hB hKp hl hQ
  obtain ⟨hx, hb, -, -, hml, hown, hts⟩ := id hF
  have hown : s.vm.findClass RX5 = some m.cls := hown
  have hC : CallFix p m c cX5_setRegister 5 s args lw_all RX5 := ⟨hx, hb, hml, hown, hts⟩
  have hK : va_K D xcl (mtys ca) s := hKp
  have hP : va_P D xcl (MW ad ca K d) s.heap := hB
  have hS : va_S (mA ad) s.heap s.heap [] := va_S.rf
  have hl : lv_has ls 5 [(0, .ref (ad 0)), (1, .int k), (2, .int sz), (3, .long v)] := hl
  unfold m_setRegister at hr
  refine lv_aload_n hx hb dX5_setRegister_0 rfl (lv_at hl 0 rfl) ?_
  refine mg_0_16 hx hb hts hown hK hP (hts _ q687) dX5_setRegister_1 ?_
  refine lv_iload_n hx hb dX5_setRegister_4 rfl (lv_at hl 1 rfl) ?_
  refine lv_iload_n hx hb dX5_setRegister_5 rfl (lv_at hl 2 rfl) ?_
  refine lv_bipush (v := (8 : Int32)) hx hb dX5_setRegister_6 bp_8 ?_
  refine lv_icmp_ne (tgt := 15) hx hb dX5_setRegister_8 (by decide) (fun c_8 => ?_) (fun c_8 => ?_)
  · replace hr := hr.trans (if_neg c_8)
    refine lv_iload_n hx hb dX5_setRegister_15 rfl (lv_at hl 2 rfl) ?_
    refine lv_iconst (v := (4 : Int32)) hx hb dX5_setRegister_16 ic_4 ?_
    refine lv_icmp_ne (tgt := 28) hx hb dX5_setRegister_17 (by decide) (fun c_17 => ?_) (fun c_17 => ?_)
    · replace hr := hr.trans (if_neg c_17)
      refine lv_aload_n hx hb dX5_setRegister_28 rfl (lv_at hl 0 rfl) ?_
      refine mg_0_16 hx hb hts hown hK hP (hts _ q687) dX5_setRegister_29 ?_
      refine lv_iload_n hx hb dX5_setRegister_32 rfl (lv_at hl 1 rfl) ?_
      refine ml_7 hx hb hK hP hk dX5_setRegister_33 ?_
      refine lv_ldc2 hx hb hown (hts _ q943) dX5_setRegister_34 ?_
      refine lv_land hx hb dX5_setRegister_37 ?_
      refine lv_lload_n hx hb dX5_setRegister_38 rfl (lv_at hl 3 rfl) ?_
      refine lv_ldc2 hx hb hown (hts _ q852) dX5_setRegister_39 ?_
      refine lv_land hx hb dX5_setRegister_42 ?_
      refine lv_lor hx hb dX5_setRegister_43 ?_
      refine ms_7 hx hb hK hI hP hS hk dX5_setRegister_44 (fun d1 ed1 H locs hP hS => ?_)
      replace hr := hr.trans (bnd_eq ed1)
      exact g_endUv (Pic := (fun u => mB D ad ca K u)) (u := d1) hF hQ hr hP hS dX5_setRegister_45
    · replace hr := hr.trans (if_pos c_17)
      refine lv_lload_n hx hb dX5_setRegister_20 rfl (lv_at hl 3 rfl) ?_
      refine lv_ldc2 hx hb hown (hts _ q890) dX5_setRegister_21 ?_
      refine lv_land hx hb dX5_setRegister_24 ?_
      refine lv_goto (tgt := 44) hx hb dX5_setRegister_25 (by decide) ?_
      refine ms_7 hx hb hK hI hP hS hk dX5_setRegister_44 (fun d2 ed2 H locs hP hS => ?_)
      replace hr := hr.trans (bnd_eq ed2)
      exact g_endUv (Pic := (fun u => mB D ad ca K u)) (u := d2) hF hQ hr hP hS dX5_setRegister_45
  · replace hr := hr.trans (if_pos c_8)
    refine lv_lload_n hx hb dX5_setRegister_11 rfl (lv_at hl 3 rfl) ?_
    refine lv_goto (tgt := 44) hx hb dX5_setRegister_12 (by decide) ?_
    refine ms_7 hx hb hK hI hP hS hk dX5_setRegister_44 (fun d3 ed3 H locs hP hS => ?_)
    replace hr := hr.trans (bnd_eq ed3)
    exact g_endUv (Pic := (fun u => mB D ad ca K u)) (u := d3) hF hQ hr hP hS dX5_setRegister_45
def m_put (K : MK) (k : Int32) (sz : Int32) (v : Int64) (d : MD) : MD := if (m_kindAt K k) = (1 : Int32) then (bnd (m_setRegister (m_registerAt K k) sz v d) fun g2 => g2) else (bnd (m_store K (dm_operandAt d) sz v d) fun g1 => g1)
abbrev rm_X5_put : Room := { frames := 3, cells := 0, slots := 0, locals := 75 }
set_option maxHeartbeats 4000000 in
set_option maxRecDepth 100000 in
theorem m_X5_put {l : Launch} {D : va_G} {ad : Nat → Nat} {ca : Nat → ClassId} (hI : mInj ad) {K : MK} {d : MD} (k : Int32) (sz : Int32) (v : Int64) (RES : MD) (hr : RES = m_put K k sz v d) (hk : vp_in k 3) (hgd : MGd K) : g_U l yX5_put (ws_ yX5_put cX5_put 5 none) rm_X5_put [.ref (ad 0), .int k, .int sz, .long v] (mKp D ca) (mB D ad ca K d) none (mB D ad ca K RES) (mA ad) := by
  refine g_ofU (by decide) (Nat.le_of_ble_eq_true rfl) ?_
  intro p e s m args below meth c ls Q hF hB hKp hl hQ
  obtain ⟨hx, hb, -, -, hml, hown, hts⟩ := id hF
  have hown : s.vm.findClass RX5 = some m.cls := hown
  have hC : CallFix p m c cX5_put 5 s args lw_all RX5 := ⟨hx, hb, hml, hown, hts⟩
  have hK : va_K D xcl (mtys ca) s := hKp
  have hP : va_P D xcl (MW ad ca K d) s.heap := hB
  have hS : va_S (mA ad) s.heap s.heap [] := va_S.rf
  have hl : lv_has ls 5 [(0, .ref (ad 0)), (1, .int k), (2, .int sz), (3, .long v)] := hl
  unfold m_put at hr
  refine lv_aload_n hx hb dX5_put_0 rfl (lv_at hl 0 rfl) ?_
  refine lv_iload_n hx hb dX5_put_1 rfl (lv_at hl 1 rfl) ?_
  refine g_RV (As := [.int k]) (rest := []) hC (m_X5_kindAt (K := K) (d := d) k _ rfl hk) (cwV 1 hts cw_X5_194 rfl rfl rfl hd_X5_kindAt ⟨Nat.le_of_ble_eq_true rfl, Nat.le_of_ble_eq_true rfl⟩) mKst (va_recv hK hP (ci := 5) (q0 := 0) rfl rfl) hP hKp ⟨Nat.zero_le _, Nat.zero_le _⟩ rfl hl.1 rfl (Nat.le_of_ble_eq_true rfl) dX5_put_2 ?_
  refine lv_iconst (v := (1 : Int32)) hx hb dX5_put_5 ic_1 ?_
  refine lv_icmp_ne (tgt := 23) hx hb dX5_put_6 (by decide) (fun c_6 => ?_) (fun c_6 => ?_)
  · replace hr := hr.trans (if_neg c_6)
    refine lv_aload_n hx hb dX5_put_23 rfl (lv_at hl 0 rfl) ?_
    refine lv_aload_n hx hb dX5_put_24 rfl (lv_at hl 0 rfl) ?_
    refine mg_0_29 hx hb hts hown hK hP (hts _ q700) dX5_put_25 ?_
    refine lv_iload_n hx hb dX5_put_28 rfl (lv_at hl 2 rfl) ?_
    refine lv_lload_n hx hb dX5_put_29 rfl (lv_at hl 3 rfl) ?_
    obtain ⟨g1, eg1⟩ : ∃ z, z = m_store K (dm_operandAt d) sz v d := ⟨_, rfl⟩
    replace hr := hr.trans (bnd_eq eg1)
    refine g_UV0 (As := [.long (dm_operandAt d), .int sz, .long v]) (rest := []) hC (m_X5_store hI (K := K) (d := d) (dm_operandAt d) sz v g1 eg1 hgd.1) (cwV 3 hts cw_X5_216 rfl rfl rfl hd_X5_store ⟨Nat.le_of_ble_eq_true rfl, Nat.le_of_ble_eq_true rfl⟩) mKst (va_recv hK hP (ci := 5) (q0 := 0) rfl rfl) hP hKp ⟨Nat.zero_le _, Nat.zero_le _⟩ hS (fun _ h => h) rfl hl.1 rfl (Nat.le_of_ble_eq_true rfl) dX5_put_30 (fun H locs hP hS => ?_)
    have hP : va_P D xcl (MW ad ca K g1) H := hP
    exact g_endUv (Pic := (fun u => mB D ad ca K u)) (u := g1) hF hQ hr hP hS dX5_put_33
  · replace hr := hr.trans (if_pos c_6)
    refine lv_aload_n hx hb dX5_put_9 rfl (lv_at hl 0 rfl) ?_
    refine lv_aload_n hx hb dX5_put_10 rfl (lv_at hl 0 rfl) ?_
    refine lv_iload_n hx hb dX5_put_11 rfl (lv_at hl 1 rfl) ?_
    refine g_RV (As := [.int k]) (rest := [.ref (ad 0)]) hC (m_X5_registerAt (K := K) (d := d) k _ rfl hk) (cwV 1 hts cw_X5_197 rfl rfl rfl hd_X5_registerAt ⟨Nat.le_of_ble_eq_true rfl, Nat.le_of_ble_eq_true rfl⟩) mKst (va_recv hK hP (ci := 5) (q0 := 0) rfl rfl) hP hKp ⟨Nat.zero_le _, Nat.zero_le _⟩ rfl hl.1 rfl (Nat.le_of_ble_eq_true rfl) dX5_put_12 ?_
    refine lv_iload_n hx hb dX5_put_15 rfl (lv_at hl 2 rfl) ?_
    refine lv_lload_n hx hb dX5_put_16 rfl (lv_at hl 3 rfl) ?_
    obtain ⟨g2, eg2⟩ : ∃ z, z = m_setRegister (m_registerAt K k) sz v d := ⟨_, rfl⟩
    replace hr := hr.trans (bnd_eq eg2)
    refine g_UV0 (As := [.int (m_registerAt K k), .int sz, .long v]) (rest := []) hC (m_X5_setRegister hI (K := K) (d := d) (m_registerAt K k) sz v g2 eg2 (hgd.2.1 _ hk)) (cwV 3 hts cw_X5_212 rfl rfl rfl hd_X5_setRegister ⟨Nat.le_of_ble_eq_true rfl, Nat.le_of_ble_eq_true rfl⟩) mKst (va_recv hK hP (ci := 5) (q0 := 0) rfl rfl) hP hKp ⟨Nat.zero_le _, Nat.zero_le _⟩ hS (fun _ h => h) rfl hl.1 rfl (Nat.le_of_ble_eq_true rfl) dX5_put_17 (fun H locs hP hS => ?_)
    have hP : va_P D xcl (MW ad ca K g2) H := hP
    refine lv_goto (tgt := 33) hx hb dX5_put_20 (by decide) ?_
    exact g_endUv (Pic := (fun u => mB D ad ca K u)) (u := g2) hF hQ hr hP hS dX5_put_33
def m_zsp_L44 (v : Int64) : Nat → Int32 → Int32 → MD → MD
  | 0, w44_4, w44_5, dl44 => dl44
  | n + 1, w44_4, w44_5, dl44 => if (8 : Int32) ≤ w44_5 then (if (w44_4 - w44_4 / (2 : Int32) * (2 : Int32)) = 0 then (bnd (dm_parity_ true dl44) fun d6 => d6) else (bnd (dm_parity_ false dl44) fun d5 => d5)) else (bnd (α := Int32) ((w44_4 + (((lshr_ v w44_5) &&& (1 : Int64)).toInt32))) fun v7 => bnd (α := Int32) ((w44_5 + (1 : Int32))) fun v8 => m_zsp_L44 v n v7 v8 dl44)
theorem m_zsp_L44_s (v : Int64) (n : Nat) (w44_4 : Int32) (w44_5 : Int32) (dl44 : MD) : m_zsp_L44 v (n + 1) w44_4 w44_5 dl44 = if (8 : Int32) ≤ w44_5 then (if (w44_4 - w44_4 / (2 : Int32) * (2 : Int32)) = 0 then (bnd (dm_parity_ true dl44) fun d6 => d6) else (bnd (dm_parity_ false dl44) fun d5 => d5)) else (bnd (α := Int32) ((w44_4 + (((lshr_ v w44_5) &&& (1 : Int64)).toInt32))) fun v7 => bnd (α := Int32) ((w44_5 + (1 : Int32))) fun v8 => m_zsp_L44 v n v7 v8 dl44) := rfl
def m_zsp (v : Int64) (sz : Int32) (d : MD) : MD := bnd (α := Bool) (if (m_cut v sz) = (0 : Int64) then true else false) fun p1 => bnd (dm_zero_ p1 d) fun d2 => bnd (α := Bool) (if (m_upper v sz) = (1 : Int64) then true else false) fun p3 => bnd (dm_negative_ p3 d2) fun d4 => m_zsp_L44 v (mI (0 : Int32) (8 : Int32) + 1) (0 : Int32) (0 : Int32) d4
abbrev rm_X5_zsp : Room := { frames := 1, cells := 0, slots := 0, locals := 22 }
set_option maxHeartbeats 4000000 in
set_option maxRecDepth 100000 in
theorem m_X5_zsp {l : Launch} {D : va_G} {ad : Nat → Nat} {ca : Nat → ClassId} (hI : mInj ad) {K : MK} {d : MD} (v : Int64) (sz : Int32) (RES : MD) (hr : RES = m_zsp v sz d) : g_U l yX5_zsp (ws_ yX5_zsp cX5_zsp 6 none) rm_X5_zsp [.ref (ad 0), .long v, .int sz] (mKp D ca) (mB D ad ca K d) none (mB D ad ca K RES) (mA ad) := by
  refine g_ofU (by decide) (Nat.le_of_ble_eq_true rfl) ?_
  intro p e s m args below meth c ls Q hF hB hKp hl hQ
  obtain ⟨hx, hb, -, -, hml, hown, hts⟩ := id hF
  have hown : s.vm.findClass RX5 = some m.cls := hown
  have hC : CallFix p m c cX5_zsp 6 s args lw_all RX5 := ⟨hx, hb, hml, hown, hts⟩
  have hK : va_K D xcl (mtys ca) s := hKp
  have hP : va_P D xcl (MW ad ca K d) s.heap := hB
  have hS : va_S (mA ad) s.heap s.heap [] := va_S.rf
  have hl : lv_has ls 6 [(0, .ref (ad 0)), (1, .long v), (3, .int sz)] := hl
  unfold m_zsp at hr
  refine lv_aload_n hx hb dX5_zsp_0 rfl (lv_at hl 0 rfl) ?_
  refine lv_lload_n hx hb dX5_zsp_1 rfl (lv_at hl 1 rfl) ?_
  refine lv_iload_n hx hb dX5_zsp_2 rfl (lv_at hl 2 rfl) ?_
  refine g_RS (As := [.long v, .int sz]) (rest := [.ref (ad 0)]) hC (m_X5_cut v sz _ rfl) (va_cwS 2 hts cw_X5_200 rfl rfl rfl hd_X5_cut ⟨Nat.le_of_ble_eq_true rfl, Nat.le_of_ble_eq_true rfl⟩) g_Kst0 trivial trivial ⟨Nat.zero_le _, Nat.zero_le _⟩ rfl hl.1 rfl (Nat.le_of_ble_eq_true rfl) dX5_zsp_3 ?_
  refine lv_lconst (v := (0 : Int64)) hx hb dX5_zsp_6 lc_0 ?_
  obtain ⟨p1, ep1⟩ : ∃ z : Bool, z = (if (m_cut v sz) = (0 : Int64) then true else false) := ⟨_, rfl⟩
  replace hr := hr.trans (bnd_eq ep1)
  have kp1 : ∀ (H : Heap) (locs : List Loc) (ls : Array Slot), va_P D xcl (MW ad ca K d) H → va_S (mA ad) s.heap H locs → lv_has ls 6 [(0, .ref (ad 0)), (1, .long v), (3, .int sz)] → W p l e rm_X5_zsp s m args below meth c H locs 0 0 Q (F0 m 16 ls [.int (b2i p1), .ref (ad 0)]) := by
    intro H locs ls hP hS hl
    refine mp_0_23 (v := p1) hx hb hts hown hK hI hP hS (hts _ q694) dX5_zsp_16 (fun d2 ed2 H locs hP hS => ?_)
    replace hr := hr.trans (bnd_eq ed2)
    refine lv_aload_n hx hb dX5_zsp_19 rfl (lv_at hl 0 rfl) ?_
    refine lv_lload_n hx hb dX5_zsp_20 rfl (lv_at hl 1 rfl) ?_
    refine lv_iload_n hx hb dX5_zsp_21 rfl (lv_at hl 2 rfl) ?_
    refine g_RS (As := [.long v, .int sz]) (rest := [.ref (ad 0)]) hC (m_X5_upper v sz _ rfl) (va_cwS 2 hts cw_X5_224 rfl rfl rfl hd_X5_upper ⟨Nat.le_of_ble_eq_true rfl, Nat.le_of_ble_eq_true rfl⟩) g_Kst0 trivial trivial ⟨Nat.zero_le _, Nat.zero_le _⟩ rfl hl.1 rfl (Nat.le_of_ble_eq_true rfl) dX5_zsp_22 ?_
    refine lv_lconst (v := (1 : Int64)) hx hb dX5_zsp_25 lc_1 ?_
    obtain ⟨p3, ep3⟩ : ∃ z : Bool, z = (if (m_upper v sz) = (1 : Int64) then true else false) := ⟨_, rfl⟩
    replace hr := hr.trans (bnd_eq ep3)
    have kp3 : ∀ (H : Heap) (locs : List Loc) (ls : Array Slot), va_P D xcl (MW ad ca K d2) H → va_S (mA ad) s.heap H locs → lv_has ls 6 [(0, .ref (ad 0)), (1, .long v), (3, .int sz)] → W p l e rm_X5_zsp s m args below meth c H locs 0 0 Q (F0 m 35 ls [.int (b2i p3), .ref (ad 0)]) := by
      intro H locs ls hP hS hl
      refine mp_0_24 (v := p3) hx hb hts hown hK hI hP hS (hts _ q695) dX5_zsp_35 (fun d4 ed4 H locs hP hS => ?_)
      replace hr := hr.trans (bnd_eq ed4)
      refine lv_iconst (v := (0 : Int32)) hx hb dX5_zsp_38 ic_0 ?_
      refine lv_istore (lv' := [(4, .int (0 : Int32)), (0, .ref (ad 0)), (1, .long v), (3, .int sz)]) hx hb dX5_zsp_39 hl (by decide) rfl (fun ls hl => ?_)
      refine lv_iconst (v := (0 : Int32)) hx hb dX5_zsp_41 ic_0 ?_
      refine lv_istore (lv' := [(5, .int (0 : Int32)), (4, .int (0 : Int32)), (0, .ref (ad 0)), (1, .long v), (3, .int sz)]) hx hb dX5_zsp_42 hl (by decide) rfl (fun ls hl => ?_)
      have lp44 : ∀ (n : Nat) (w44_4 : Int32) (w44_5 : Int32) (dl44 : MD) (H : Heap) (locs : List Loc) (ls : Array Slot), mI w44_5 (8 : Int32) < n → (0 ≤ w44_5) → RES = m_zsp_L44 v n w44_4 w44_5 dl44 → va_P D xcl (MW ad ca K dl44) H → va_S (mA ad) s.heap H locs → lv_has ls 6 [(5, .int w44_5), (4, .int w44_4), (0, .ref (ad 0)), (1, .long v), (3, .int sz)] → W p l e rm_X5_zsp s m args below meth c H locs 0 0 Q (F0 m 44 ls []) := by
        intro n
        induction n with
        | zero =>
          intro w44_4 w44_5 dl44 H locs ls hm
          exact absurd hm (Nat.not_lt_zero _)
        | succ n ih =>
          intro w44_4 w44_5 dl44 H locs ls hm h0 hr hP hS hl
          replace hr := hr.trans (m_zsp_L44_s v n w44_4 w44_5 dl44)
          refine lv_iload hx hb dX5_zsp_44 (lv_at hl 0 rfl) ?_
          refine lv_bipush (v := (8 : Int32)) hx hb dX5_zsp_46 bp_8 ?_
          refine lv_icmp_ge (tgt := 69) hx hb dX5_zsp_48 (by decide) (fun c_48 => ?_) (fun c_48 => ?_)
          · replace hr := hr.trans (if_pos c_48)
            refine lv_aload_n hx hb dX5_zsp_69 rfl (lv_at hl 2 rfl) ?_
            refine lv_iload hx hb dX5_zsp_70 (lv_at hl 1 rfl) ?_
            refine lv_iconst (v := (2 : Int32)) hx hb dX5_zsp_72 ic_2 ?_
            refine lv_irem hx hb dX5_zsp_73 (by decide) ?_
            refine lv_if_ne (tgt := 81) hx hb dX5_zsp_74 (by decide) (fun c_74 => ?_) (fun c_74 => ?_)
            · replace hr := hr.trans (if_neg c_74)
              refine lv_iconst (v := (0 : Int32)) hx hb dX5_zsp_81 ic_0 ?_
              refine mp_0_22 (v := false) hx hb hts hown hK hI hP hS (hts _ q693) dX5_zsp_82 (fun d5 ed5 H locs hP hS => ?_)
              replace hr := hr.trans (bnd_eq ed5)
              exact g_endUv (Pic := (fun u => mB D ad ca K u)) (u := d5) hF hQ hr hP hS dX5_zsp_85
            · replace hr := hr.trans (if_pos c_74)
              refine lv_iconst (v := (1 : Int32)) hx hb dX5_zsp_77 ic_1 ?_
              refine lv_goto (tgt := 82) hx hb dX5_zsp_78 (by decide) ?_
              refine mp_0_22 (v := true) hx hb hts hown hK hI hP hS (hts _ q693) dX5_zsp_82 (fun d6 ed6 H locs hP hS => ?_)
              replace hr := hr.trans (bnd_eq ed6)
              exact g_endUv (Pic := (fun u => mB D ad ca K u)) (u := d6) hF hQ hr hP hS dX5_zsp_85
          · replace hr := hr.trans (if_neg c_48)
            refine lv_iload hx hb dX5_zsp_51 (lv_at hl 1 rfl) ?_
            refine lv_lload_n hx hb dX5_zsp_53 rfl (lv_at hl 3 rfl) ?_
            refine lv_iload hx hb dX5_zsp_54 (lv_at hl 0 rfl) ?_
            refine lv_lshr (v := (lshr_ v w44_5)) hx hb dX5_zsp_56 rfl ?_
            refine lv_lconst (v := (1 : Int64)) hx hb dX5_zsp_57 lc_1 ?_
            refine lv_land hx hb dX5_zsp_58 ?_
            refine lv_l2i (v := ((lshr_ v w44_5) &&& (1 : Int64)).toInt32) hx hb dX5_zsp_59 rfl ?_
            refine lv_iadd hx hb dX5_zsp_60 ?_
            refine lv_topi (fun v7 ev7 => ?_)
            replace hr := hr.trans (bnd_eq ev7)
            refine lv_istore (lv' := [(4, .int v7), (5, .int w44_5), (0, .ref (ad 0)), (1, .long v), (3, .int sz)]) hx hb dX5_zsp_61 hl (by decide) rfl (fun ls hl => ?_)
            obtain ⟨v8, ev8⟩ : ∃ z : Int32, z = (w44_5 + (1 : Int32)) := ⟨_, rfl⟩
            replace hr := hr.trans (bnd_eq ev8)
            refine lv_iinc (v := v8) (lv' := [(5, .int v8), (4, .int v7), (0, .ref (ad 0)), (1, .long v), (3, .int sz)]) hx hb dX5_zsp_63 hl (k := 1) rfl (by rw [ev8, ← ic_1]) (by decide) rfl (fun ls hl => ?_)
            refine lv_goto (tgt := 44) hx hb dX5_zsp_66 (by decide) ?_
            exact ih v7 v8 dl44 _ _ ls (mI_dec c_48 hm ev8) (i_nn h0 c_48 ev8) hr hP hS (lv_sub hl [0, 1, 2, 3, 4] rfl)
      exact lp44 (mI (0 : Int32) (8 : Int32) + 1) (0 : Int32) (0 : Int32) d4 _ _ ls (Nat.lt_succ_self _) (by decide) hr hP hS (lv_sub hl [0, 1, 2, 3, 4] rfl)
    replace hr := ep3
    refine lq_ne (tgt := 34) hx hb dX5_zsp_26 dX5_zsp_27 (by decide) (fun c_26 => ?_) (fun c_26 => ?_)
    · replace hr := hr.trans (if_neg c_26)
      refine lv_iconst (v := (0 : Int32)) hx hb dX5_zsp_34 ic_0 ?_
      subst hr
      exact kp3 _ _ ls hP hS (lv_sub hl [0, 1, 2] rfl)
    · replace hr := hr.trans (if_pos c_26)
      refine lv_iconst (v := (1 : Int32)) hx hb dX5_zsp_30 ic_1 ?_
      refine lv_goto (tgt := 35) hx hb dX5_zsp_31 (by decide) ?_
      subst hr
      exact kp3 _ _ ls hP hS (lv_sub hl [0, 1, 2] rfl)
  replace hr := ep1
  refine lq_ne (tgt := 15) hx hb dX5_zsp_7 dX5_zsp_8 (by decide) (fun c_7 => ?_) (fun c_7 => ?_)
  · replace hr := hr.trans (if_neg c_7)
    refine lv_iconst (v := (0 : Int32)) hx hb dX5_zsp_15 ic_0 ?_
    subst hr
    exact kp1 _ _ ls hP hS (lv_sub hl [0, 1, 2] rfl)
  · replace hr := hr.trans (if_pos c_7)
    refine lv_iconst (v := (1 : Int32)) hx hb dX5_zsp_11 ic_1 ?_
    refine lv_goto (tgt := 16) hx hb dX5_zsp_12 (by decide) ?_
    subst hr
    exact kp1 _ _ ls hP hS (lv_sub hl [0, 1, 2] rfl)
def m_add (x : Int64) (y : Int64) (cy : Bool) (sz : Int32) (d : MD) : Int64 × MD := bnd (α := Int64) (if (b2i cy) = 0 then (0 : Int64) else (1 : Int64)) fun p1 => bnd (α := Int64) ((m_cut ((x + y) + p1) sz)) fun v2 => bnd (α := Bool) (if (b2i (m_below v2 x)) = 0 then (if (b2i cy) = 0 then false else (if v2 = x then true else false)) else true) fun p3 => bnd (dm_carry_ p3 d) fun d4 => bnd (α := Bool) (if (m_upper ((x ^^^ v2) &&& (y ^^^ v2)) sz) = (1 : Int64) then true else false) fun p5 => bnd (dm_over_ p5 d4) fun d6 => bnd (m_zsp v2 sz d6) fun g7 => (v2, g7)
abbrev rm_X5_add : Room := { frames := 2, cells := 0, slots := 0, locals := 47 }
set_option maxHeartbeats 4000000 in
set_option maxRecDepth 100000 in
theorem m_X5_add {l : Launch} {D : va_G} {ad : Nat → Nat} {ca : Nat → ClassId} (hI : mInj ad) {K : MK} {d : MD} (x : Int64) (y : Int64) (cy : Bool) (sz : Int32) (RES : Int64 × MD) (hr : RES = m_add x y cy sz d) : g_U l yX5_add (ws_ yX5_add cX5_add 9 (some .long)) rm_X5_add [.ref (ad 0), .long x, .long y, .int (b2i cy), .int sz] (mKp D ca) (mB D ad ca K d) (some (.long RES.1)) (mB D ad ca K RES.2) (mA ad) := by
  refine g_ofU (by decide) (Nat.le_of_ble_eq_true rfl) ?_
  intro p e s m args below meth c ls Q hF hB hKp hl hQ
  obtain ⟨hx, hb, -, -, hml, hown, hts⟩ := id hF
  have hown : s.vm.findClass RX5 = some m.cls := hown
  have hC : CallFix p m c cX5_add 9 s args lw_all RX5 := ⟨hx, hb, hml, hown, hts⟩
  have hK : va_K D xcl (mtys ca) s := hKp
  have hP : va_P D xcl (MW ad ca K d) s.heap := hB
  have hS : va_S (mA ad) s.heap s.heap [] := va_S.rf
  have hl : lv_has ls 9 [(0, .ref (ad 0)), (1, .long x), (3, .long y), (5, .int (b2i cy)), (6, .int sz)] := hl
  unfold m_add at hr
  refine lv_lload_n hx hb dX5_add_0 rfl (lv_at hl 1 rfl) ?_
  refine lv_lload_n hx hb dX5_add_1 rfl (lv_at hl 2 rfl) ?_
  refine lv_ladd hx hb dX5_add_2 ?_
  refine lv_iload hx hb dX5_add_3 (lv_at hl 3 rfl) ?_
  obtain ⟨p1, ep1⟩ : ∃ z : Int64, z = (if (b2i cy) = 0 then (0 : Int64) else (1 : Int64)) := ⟨_, rfl⟩
  replace hr := hr.trans (bnd_eq ep1)
  have kp1 : ∀ (H : Heap) (locs : List Loc) (ls : Array Slot), va_P D xcl (MW ad ca K d) H → va_S (mA ad) s.heap H locs → lv_has ls 9 [(0, .ref (ad 0)), (1, .long x), (3, .long y), (5, .int (b2i cy)), (6, .int sz)] → W p l e rm_X5_add s m args below meth c H locs 0 0 Q (F0 m 13 ls [.long p1, .long (x + y)]) := by
    intro H locs ls hP hS hl
    refine lv_ladd hx hb dX5_add_13 ?_
    refine lv_iload hx hb dX5_add_14 (lv_at hl 4 rfl) ?_
    refine g_RS (As := [.long ((x + y) + p1), .int sz]) (rest := []) hC (m_X5_cut ((x + y) + p1) sz _ rfl) (va_cwS 2 hts cw_X5_200 rfl rfl rfl hd_X5_cut ⟨Nat.le_of_ble_eq_true rfl, Nat.le_of_ble_eq_true rfl⟩) g_Kst0 trivial trivial ⟨Nat.zero_le _, Nat.zero_le _⟩ rfl hl.1 rfl (Nat.le_of_ble_eq_true rfl) dX5_add_16 ?_
    refine lv_topl (fun v2 ev2 => ?_)
    replace hr := hr.trans (bnd_eq ev2)
    refine lv_lstore (lv' := [(7, .long v2), (0, .ref (ad 0)), (1, .long x), (3, .long y), (5, .int (b2i cy)), (6, .int sz)]) hx hb dX5_add_19 hl (by decide) rfl (fun ls hl => ?_)
    refine lv_aload_n hx hb dX5_add_21 rfl (lv_at hl 1 rfl) ?_
    refine lv_lload hx hb dX5_add_22 (lv_at hl 0 rfl) ?_
    refine lv_lload_n hx hb dX5_add_24 rfl (lv_at hl 2 rfl) ?_
    refine g_RS (As := [.long v2, .long x]) (rest := [.ref (ad 0)]) hC (m_X5_below v2 x _ rfl) (va_cwS 2 hts cw_X5_233 rfl rfl rfl hd_X5_below ⟨Nat.le_of_ble_eq_true rfl, Nat.le_of_ble_eq_true rfl⟩) g_Kst0 trivial trivial ⟨Nat.zero_le _, Nat.zero_le _⟩ rfl hl.1 rfl (Nat.le_of_ble_eq_true rfl) dX5_add_25 ?_
    obtain ⟨p3, ep3⟩ : ∃ z : Bool, z = (if (b2i (m_below v2 x)) = 0 then (if (b2i cy) = 0 then false else (if v2 = x then true else false)) else true) := ⟨_, rfl⟩
    replace hr := hr.trans (bnd_eq ep3)
    have kp3 : ∀ (H : Heap) (locs : List Loc) (ls : Array Slot), va_P D xcl (MW ad ca K d) H → va_S (mA ad) s.heap H locs → lv_has ls 9 [(7, .long v2), (0, .ref (ad 0)), (1, .long x), (3, .long y), (5, .int (b2i cy)), (6, .int sz)] → W p l e rm_X5_add s m args below meth c H locs 0 0 Q (F0 m 48 ls [.int (b2i p3), .ref (ad 0)]) := by
      intro H locs ls hP hS hl
      refine mp_0_21 (v := p3) hx hb hts hown hK hI hP hS (hts _ q692) dX5_add_48 (fun d4 ed4 H locs hP hS => ?_)
      replace hr := hr.trans (bnd_eq ed4)
      refine lv_aload_n hx hb dX5_add_51 rfl (lv_at hl 1 rfl) ?_
      refine lv_lload_n hx hb dX5_add_52 rfl (lv_at hl 2 rfl) ?_
      refine lv_lload hx hb dX5_add_53 (lv_at hl 0 rfl) ?_
      refine lv_lxor hx hb dX5_add_55 ?_
      refine lv_lload_n hx hb dX5_add_56 rfl (lv_at hl 3 rfl) ?_
      refine lv_lload hx hb dX5_add_57 (lv_at hl 0 rfl) ?_
      refine lv_lxor hx hb dX5_add_59 ?_
      refine lv_land hx hb dX5_add_60 ?_
      refine lv_iload hx hb dX5_add_61 (lv_at hl 5 rfl) ?_
      refine g_RS (As := [.long ((x ^^^ v2) &&& (y ^^^ v2)), .int sz]) (rest := [.ref (ad 0)]) hC (m_X5_upper ((x ^^^ v2) &&& (y ^^^ v2)) sz _ rfl) (va_cwS 2 hts cw_X5_224 rfl rfl rfl hd_X5_upper ⟨Nat.le_of_ble_eq_true rfl, Nat.le_of_ble_eq_true rfl⟩) g_Kst0 trivial trivial ⟨Nat.zero_le _, Nat.zero_le _⟩ rfl hl.1 rfl (Nat.le_of_ble_eq_true rfl) dX5_add_63 ?_
      refine lv_lconst (v := (1 : Int64)) hx hb dX5_add_66 lc_1 ?_
      obtain ⟨p5, ep5⟩ : ∃ z : Bool, z = (if (m_upper ((x ^^^ v2) &&& (y ^^^ v2)) sz) = (1 : Int64) then true else false) := ⟨_, rfl⟩
      replace hr := hr.trans (bnd_eq ep5)
      have kp5 : ∀ (H : Heap) (locs : List Loc) (ls : Array Slot), va_P D xcl (MW ad ca K d4) H → va_S (mA ad) s.heap H locs → lv_has ls 9 [(7, .long v2), (0, .ref (ad 0)), (1, .long x), (3, .long y), (5, .int (b2i cy)), (6, .int sz)] → W p l e rm_X5_add s m args below meth c H locs 0 0 Q (F0 m 76 ls [.int (b2i p5), .ref (ad 0)]) := by
        intro H locs ls hP hS hl
        refine mp_0_25 (v := p5) hx hb hts hown hK hI hP hS (hts _ q696) dX5_add_76 (fun d6 ed6 H locs hP hS => ?_)
        replace hr := hr.trans (bnd_eq ed6)
        refine lv_aload_n hx hb dX5_add_79 rfl (lv_at hl 1 rfl) ?_
        refine lv_lload hx hb dX5_add_80 (lv_at hl 0 rfl) ?_
        refine lv_iload hx hb dX5_add_82 (lv_at hl 5 rfl) ?_
        obtain ⟨g7, eg7⟩ : ∃ z, z = m_zsp v2 sz d6 := ⟨_, rfl⟩
        replace hr := hr.trans (bnd_eq eg7)
        refine g_UV0 (As := [.long v2, .int sz]) (rest := []) hC (m_X5_zsp hI (K := K) (d := d6) v2 sz g7 eg7) (cwV 2 hts cw_X5_243 rfl rfl rfl hd_X5_zsp ⟨Nat.le_of_ble_eq_true rfl, Nat.le_of_ble_eq_true rfl⟩) mKst (va_recv hK hP (ci := 5) (q0 := 0) rfl rfl) hP hKp ⟨Nat.zero_le _, Nat.zero_le _⟩ hS (fun _ h => h) rfl hl.1 rfl (Nat.le_of_ble_eq_true rfl) dX5_add_84 (fun H locs hP hS => ?_)
        have hP : va_P D xcl (MW ad ca K g7) H := hP
        refine lv_lload hx hb dX5_add_87 (lv_at hl 0 rfl) ?_
        exact g_endUl (Pic := (fun u => mB D ad ca K u)) (u := g7) hF hQ hr hP hS dX5_add_89
      replace hr := ep5
      refine lq_ne (tgt := 75) hx hb dX5_add_67 dX5_add_68 (by decide) (fun c_67 => ?_) (fun c_67 => ?_)
      · replace hr := hr.trans (if_neg c_67)
        refine lv_iconst (v := (0 : Int32)) hx hb dX5_add_75 ic_0 ?_
        subst hr
        exact kp5 _ _ ls hP hS (lv_sub hl [0, 1, 2, 3, 4, 5] rfl)
      · replace hr := hr.trans (if_pos c_67)
        refine lv_iconst (v := (1 : Int32)) hx hb dX5_add_71 ic_1 ?_
        refine lv_goto (tgt := 76) hx hb dX5_add_72 (by decide) ?_
        subst hr
        exact kp5 _ _ ls hP hS (lv_sub hl [0, 1, 2, 3, 4, 5] rfl)
    replace hr := ep3
    refine lv_if_ne (tgt := 43) hx hb dX5_add_28 (by decide) (fun c_28 => ?_) (fun c_28 => ?_)
    · replace hr := hr.trans (if_neg c_28)
      refine lv_iconst (v := (1 : Int32)) hx hb dX5_add_43 ic_1 ?_
      refine lv_goto (tgt := 48) hx hb dX5_add_44 (by decide) ?_
      subst hr
      exact kp3 _ _ ls hP hS (lv_sub hl [0, 1, 2, 3, 4, 5] rfl)
    · replace hr := hr.trans (if_pos c_28)
      refine lv_iload hx hb dX5_add_31 (lv_at hl 4 rfl) ?_
      refine lv_if_eq (tgt := 47) hx hb dX5_add_33 (by decide) (fun c_33 => ?_) (fun c_33 => ?_)
      · replace hr := hr.trans (if_pos c_33)
        refine lv_iconst (v := (0 : Int32)) hx hb dX5_add_47 ic_0 ?_
        subst hr
        exact kp3 _ _ ls hP hS (lv_sub hl [0, 1, 2, 3, 4, 5] rfl)
      · replace hr := hr.trans (if_neg c_33)
        refine lv_lload hx hb dX5_add_36 (lv_at hl 0 rfl) ?_
        refine lv_lload_n hx hb dX5_add_38 rfl (lv_at hl 2 rfl) ?_
        refine lq_ne (tgt := 47) hx hb dX5_add_39 dX5_add_40 (by decide) (fun c_39 => ?_) (fun c_39 => ?_)
        · replace hr := hr.trans (if_neg c_39)
          refine lv_iconst (v := (0 : Int32)) hx hb dX5_add_47 ic_0 ?_
          subst hr
          exact kp3 _ _ ls hP hS (lv_sub hl [0, 1, 2, 3, 4, 5] rfl)
        · replace hr := hr.trans (if_pos c_39)
          refine lv_iconst (v := (1 : Int32)) hx hb dX5_add_43 ic_1 ?_
          refine lv_goto (tgt := 48) hx hb dX5_add_44 (by decide) ?_
          subst hr
          exact kp3 _ _ ls hP hS (lv_sub hl [0, 1, 2, 3, 4, 5] rfl)
  replace hr := ep1
  refine lv_if_eq (tgt := 12) hx hb dX5_add_5 (by decide) (fun c_5 => ?_) (fun c_5 => ?_)
  · replace hr := hr.trans (if_pos c_5)
    refine lv_lconst (v := (0 : Int64)) hx hb dX5_add_12 lc_0 ?_
    subst hr
    exact kp1 _ _ ls hP hS (lv_sub hl [0, 1, 2, 3, 4] rfl)
  · replace hr := hr.trans (if_neg c_5)
    refine lv_lconst (v := (1 : Int64)) hx hb dX5_add_8 lc_1 ?_
    refine lv_goto (tgt := 13) hx hb dX5_add_9 (by decide) ?_
    subst hr
    exact kp1 _ _ ls hP hS (lv_sub hl [0, 1, 2, 3, 4] rfl)
def m_subtract (x : Int64) (y : Int64) (cy : Bool) (sz : Int32) (d : MD) : Int64 × MD := bnd (α := Int64) (if (b2i cy) = 0 then (0 : Int64) else (1 : Int64)) fun p1 => bnd (α := Int64) ((m_cut ((x - y) - p1) sz)) fun v2 => bnd (α := Bool) (if (b2i (m_below x y)) = 0 then (if (b2i cy) = 0 then false else (if x = y then true else false)) else true) fun p3 => bnd (dm_carry_ p3 d) fun d4 => bnd (α := Bool) (if (m_upper ((x ^^^ y) &&& (x ^^^ v2)) sz) = (1 : Int64) then true else false) fun p5 => bnd (dm_over_ p5 d4) fun d6 => bnd (m_zsp v2 sz d6) fun g7 => (v2, g7)
abbrev rm_X5_subtract : Room := { frames := 2, cells := 0, slots := 0, locals := 47 }
set_option maxHeartbeats 4000000 in
set_option maxRecDepth 100000 in
theorem m_X5_subtract {l : Launch} {D : va_G} {ad : Nat → Nat} {ca : Nat → ClassId} (hI : mInj ad) {K : MK} {d : MD} (x : Int64) (y : Int64) (cy : Bool) (sz : Int32) (RES : Int64 × MD) (hr : RES = m_subtract x y cy sz d) : g_U l yX5_subtract (ws_ yX5_subtract cX5_subtract 9 (some .long)) rm_X5_subtract [.ref (ad 0), .long x, .long y, .int (b2i cy), .int sz] (mKp D ca) (mB D ad ca K d) (some (.long RES.1)) (mB D ad ca K RES.2) (mA ad) := by
  refine g_ofU (by decide) (Nat.le_of_ble_eq_true rfl) ?_
  intro p e s m args below meth c ls Q hF hB hKp hl hQ
  obtain ⟨hx, hb, -, -, hml, hown, hts⟩ := id hF
  have hown : s.vm.findClass RX5 = some m.cls := hown
  have hC : CallFix p m c cX5_subtract 9 s args lw_all RX5 := ⟨hx, hb, hml, hown, hts⟩
  have hK : va_K D xcl (mtys ca) s := hKp
  have hP : va_P D xcl (MW ad ca K d) s.heap := hB
  have hS : va_S (mA ad) s.heap s.heap [] := va_S.rf
  have hl : lv_has ls 9 [(0, .ref (ad 0)), (1, .long x), (3, .long y), (5, .int (b2i cy)), (6, .int sz)] := hl
  unfold m_subtract at hr
  refine lv_lload_n hx hb dX5_subtract_0 rfl (lv_at hl 1 rfl) ?_
  refine lv_lload_n hx hb dX5_subtract_1 rfl (lv_at hl 2 rfl) ?_
  refine lv_lsub hx hb dX5_subtract_2 ?_
  refine lv_iload hx hb dX5_subtract_3 (lv_at hl 3 rfl) ?_
  obtain ⟨p1, ep1⟩ : ∃ z : Int64, z = (if (b2i cy) = 0 then (0 : Int64) else (1 : Int64)) := ⟨_, rfl⟩
  replace hr := hr.trans (bnd_eq ep1)
  have kp1 : ∀ (H : Heap) (locs : List Loc) (ls : Array Slot), va_P D xcl (MW ad ca K d) H → va_S (mA ad) s.heap H locs → lv_has ls 9 [(0, .ref (ad 0)), (1, .long x), (3, .long y), (5, .int (b2i cy)), (6, .int sz)] → W p l e rm_X5_subtract s m args below meth c H locs 0 0 Q (F0 m 13 ls [.long p1, .long (x - y)]) := by
    intro H locs ls hP hS hl
    refine lv_lsub hx hb dX5_subtract_13 ?_
    refine lv_iload hx hb dX5_subtract_14 (lv_at hl 4 rfl) ?_
    refine g_RS (As := [.long ((x - y) - p1), .int sz]) (rest := []) hC (m_X5_cut ((x - y) - p1) sz _ rfl) (va_cwS 2 hts cw_X5_200 rfl rfl rfl hd_X5_cut ⟨Nat.le_of_ble_eq_true rfl, Nat.le_of_ble_eq_true rfl⟩) g_Kst0 trivial trivial ⟨Nat.zero_le _, Nat.zero_le _⟩ rfl hl.1 rfl (Nat.le_of_ble_eq_true rfl) dX5_subtract_16 ?_
    refine lv_topl (fun v2 ev2 => ?_)
    replace hr := hr.trans (bnd_eq ev2)
    refine lv_lstore (lv' := [(7, .long v2), (0, .ref (ad 0)), (1, .long x), (3, .long y), (5, .int (b2i cy)), (6, .int sz)]) hx hb dX5_subtract_19 hl (by decide) rfl (fun ls hl => ?_)
    refine lv_aload_n hx hb dX5_subtract_21 rfl (lv_at hl 1 rfl) ?_
    refine lv_lload_n hx hb dX5_subtract_22 rfl (lv_at hl 2 rfl) ?_
    refine lv_lload_n hx hb dX5_subtract_23 rfl (lv_at hl 3 rfl) ?_
    refine g_RS (As := [.long x, .long y]) (rest := [.ref (ad 0)]) hC (m_X5_below x y _ rfl) (va_cwS 2 hts cw_X5_233 rfl rfl rfl hd_X5_below ⟨Nat.le_of_ble_eq_true rfl, Nat.le_of_ble_eq_true rfl⟩) g_Kst0 trivial trivial ⟨Nat.zero_le _, Nat.zero_le _⟩ rfl hl.1 rfl (Nat.le_of_ble_eq_true rfl) dX5_subtract_24 ?_
    obtain ⟨p3, ep3⟩ : ∃ z : Bool, z = (if (b2i (m_below x y)) = 0 then (if (b2i cy) = 0 then false else (if x = y then true else false)) else true) := ⟨_, rfl⟩
    replace hr := hr.trans (bnd_eq ep3)
    have kp3 : ∀ (H : Heap) (locs : List Loc) (ls : Array Slot), va_P D xcl (MW ad ca K d) H → va_S (mA ad) s.heap H locs → lv_has ls 9 [(7, .long v2), (0, .ref (ad 0)), (1, .long x), (3, .long y), (5, .int (b2i cy)), (6, .int sz)] → W p l e rm_X5_subtract s m args below meth c H locs 0 0 Q (F0 m 46 ls [.int (b2i p3), .ref (ad 0)]) := by
      intro H locs ls hP hS hl
      refine mp_0_21 (v := p3) hx hb hts hown hK hI hP hS (hts _ q692) dX5_subtract_46 (fun d4 ed4 H locs hP hS => ?_)
      replace hr := hr.trans (bnd_eq ed4)
      refine lv_aload_n hx hb dX5_subtract_49 rfl (lv_at hl 1 rfl) ?_
      refine lv_lload_n hx hb dX5_subtract_50 rfl (lv_at hl 2 rfl) ?_
      refine lv_lload_n hx hb dX5_subtract_51 rfl (lv_at hl 3 rfl) ?_
      refine lv_lxor hx hb dX5_subtract_52 ?_
      refine lv_lload_n hx hb dX5_subtract_53 rfl (lv_at hl 2 rfl) ?_
      refine lv_lload hx hb dX5_subtract_54 (lv_at hl 0 rfl) ?_
      refine lv_lxor hx hb dX5_subtract_56 ?_
      refine lv_land hx hb dX5_subtract_57 ?_
      refine lv_iload hx hb dX5_subtract_58 (lv_at hl 5 rfl) ?_
      refine g_RS (As := [.long ((x ^^^ y) &&& (x ^^^ v2)), .int sz]) (rest := [.ref (ad 0)]) hC (m_X5_upper ((x ^^^ y) &&& (x ^^^ v2)) sz _ rfl) (va_cwS 2 hts cw_X5_224 rfl rfl rfl hd_X5_upper ⟨Nat.le_of_ble_eq_true rfl, Nat.le_of_ble_eq_true rfl⟩) g_Kst0 trivial trivial ⟨Nat.zero_le _, Nat.zero_le _⟩ rfl hl.1 rfl (Nat.le_of_ble_eq_true rfl) dX5_subtract_60 ?_
      refine lv_lconst (v := (1 : Int64)) hx hb dX5_subtract_63 lc_1 ?_
      obtain ⟨p5, ep5⟩ : ∃ z : Bool, z = (if (m_upper ((x ^^^ y) &&& (x ^^^ v2)) sz) = (1 : Int64) then true else false) := ⟨_, rfl⟩
      replace hr := hr.trans (bnd_eq ep5)
      have kp5 : ∀ (H : Heap) (locs : List Loc) (ls : Array Slot), va_P D xcl (MW ad ca K d4) H → va_S (mA ad) s.heap H locs → lv_has ls 9 [(7, .long v2), (0, .ref (ad 0)), (1, .long x), (3, .long y), (5, .int (b2i cy)), (6, .int sz)] → W p l e rm_X5_subtract s m args below meth c H locs 0 0 Q (F0 m 73 ls [.int (b2i p5), .ref (ad 0)]) := by
        intro H locs ls hP hS hl
        refine mp_0_25 (v := p5) hx hb hts hown hK hI hP hS (hts _ q696) dX5_subtract_73 (fun d6 ed6 H locs hP hS => ?_)
        replace hr := hr.trans (bnd_eq ed6)
        refine lv_aload_n hx hb dX5_subtract_76 rfl (lv_at hl 1 rfl) ?_
        refine lv_lload hx hb dX5_subtract_77 (lv_at hl 0 rfl) ?_
        refine lv_iload hx hb dX5_subtract_79 (lv_at hl 5 rfl) ?_
        obtain ⟨g7, eg7⟩ : ∃ z, z = m_zsp v2 sz d6 := ⟨_, rfl⟩
        replace hr := hr.trans (bnd_eq eg7)
        refine g_UV0 (As := [.long v2, .int sz]) (rest := []) hC (m_X5_zsp hI (K := K) (d := d6) v2 sz g7 eg7) (cwV 2 hts cw_X5_243 rfl rfl rfl hd_X5_zsp ⟨Nat.le_of_ble_eq_true rfl, Nat.le_of_ble_eq_true rfl⟩) mKst (va_recv hK hP (ci := 5) (q0 := 0) rfl rfl) hP hKp ⟨Nat.zero_le _, Nat.zero_le _⟩ hS (fun _ h => h) rfl hl.1 rfl (Nat.le_of_ble_eq_true rfl) dX5_subtract_81 (fun H locs hP hS => ?_)
        have hP : va_P D xcl (MW ad ca K g7) H := hP
        refine lv_lload hx hb dX5_subtract_84 (lv_at hl 0 rfl) ?_
        exact g_endUl (Pic := (fun u => mB D ad ca K u)) (u := g7) hF hQ hr hP hS dX5_subtract_86
      replace hr := ep5
      refine lq_ne (tgt := 72) hx hb dX5_subtract_64 dX5_subtract_65 (by decide) (fun c_64 => ?_) (fun c_64 => ?_)
      · replace hr := hr.trans (if_neg c_64)
        refine lv_iconst (v := (0 : Int32)) hx hb dX5_subtract_72 ic_0 ?_
        subst hr
        exact kp5 _ _ ls hP hS (lv_sub hl [0, 1, 2, 3, 4, 5] rfl)
      · replace hr := hr.trans (if_pos c_64)
        refine lv_iconst (v := (1 : Int32)) hx hb dX5_subtract_68 ic_1 ?_
        refine lv_goto (tgt := 73) hx hb dX5_subtract_69 (by decide) ?_
        subst hr
        exact kp5 _ _ ls hP hS (lv_sub hl [0, 1, 2, 3, 4, 5] rfl)
    replace hr := ep3
    refine lv_if_ne (tgt := 41) hx hb dX5_subtract_27 (by decide) (fun c_27 => ?_) (fun c_27 => ?_)
    · replace hr := hr.trans (if_neg c_27)
      refine lv_iconst (v := (1 : Int32)) hx hb dX5_subtract_41 ic_1 ?_
      refine lv_goto (tgt := 46) hx hb dX5_subtract_42 (by decide) ?_
      subst hr
      exact kp3 _ _ ls hP hS (lv_sub hl [0, 1, 2, 3, 4, 5] rfl)
    · replace hr := hr.trans (if_pos c_27)
      refine lv_iload hx hb dX5_subtract_30 (lv_at hl 4 rfl) ?_
      refine lv_if_eq (tgt := 45) hx hb dX5_subtract_32 (by decide) (fun c_32 => ?_) (fun c_32 => ?_)
      · replace hr := hr.trans (if_pos c_32)
        refine lv_iconst (v := (0 : Int32)) hx hb dX5_subtract_45 ic_0 ?_
        subst hr
        exact kp3 _ _ ls hP hS (lv_sub hl [0, 1, 2, 3, 4, 5] rfl)
      · replace hr := hr.trans (if_neg c_32)
        refine lv_lload_n hx hb dX5_subtract_35 rfl (lv_at hl 2 rfl) ?_
        refine lv_lload_n hx hb dX5_subtract_36 rfl (lv_at hl 3 rfl) ?_
        refine lq_ne (tgt := 45) hx hb dX5_subtract_37 dX5_subtract_38 (by decide) (fun c_37 => ?_) (fun c_37 => ?_)
        · replace hr := hr.trans (if_neg c_37)
          refine lv_iconst (v := (0 : Int32)) hx hb dX5_subtract_45 ic_0 ?_
          subst hr
          exact kp3 _ _ ls hP hS (lv_sub hl [0, 1, 2, 3, 4, 5] rfl)
        · replace hr := hr.trans (if_pos c_37)
          refine lv_iconst (v := (1 : Int32)) hx hb dX5_subtract_41 ic_1 ?_
          refine lv_goto (tgt := 46) hx hb dX5_subtract_42 (by decide) ?_
          subst hr
          exact kp3 _ _ ls hP hS (lv_sub hl [0, 1, 2, 3, 4, 5] rfl)
  replace hr := ep1
  refine lv_if_eq (tgt := 12) hx hb dX5_subtract_5 (by decide) (fun c_5 => ?_) (fun c_5 => ?_)
  · replace hr := hr.trans (if_pos c_5)
    refine lv_lconst (v := (0 : Int64)) hx hb dX5_subtract_12 lc_0 ?_
    subst hr
    exact kp1 _ _ ls hP hS (lv_sub hl [0, 1, 2, 3, 4] rfl)
  · replace hr := hr.trans (if_neg c_5)
    refine lv_lconst (v := (1 : Int64)) hx hb dX5_subtract_8 lc_1 ?_
    refine lv_goto (tgt := 13) hx hb dX5_subtract_9 (by decide) ?_
    subst hr
    exact kp1 _ _ ls hP hS (lv_sub hl [0, 1, 2, 3, 4] rfl)
def m_isMet (cd : Int32) (d : MD) : Bool := bnd (α := Int32) ((cd >>> ((1 : Int32) &&& 31))) fun v1 => bnd (α := Bool) (if (b2i (dm_negative d)) = (b2i (dm_over d)) then false else true) fun p2 => bnd (α := Bool) (if v1 = 0 then (dm_over d) else (if v1 = (1 : Int32) then (dm_carry d) else (if v1 = (2 : Int32) then (dm_zero d) else (if v1 = (3 : Int32) then (if (b2i (dm_carry d)) = 0 then (if (b2i (dm_zero d)) = 0 then false else true) else true) else (if v1 = (4 : Int32) then (dm_negative d) else (if v1 = (5 : Int32) then (dm_parity d) else (if v1 = (6 : Int32) then p2 else (if (b2i (dm_zero d)) = 0 then (if (b2i p2) = 0 then false else true) else true)))))))) fun p3 => bnd (α := Bool) (if (cd &&& (1 : Int32)) = 0 then true else false) fun p4 => if (b2i p3) = (b2i p4) then true else false
abbrev rm_X5_isMet : Room := { frames := 0, cells := 0, slots := 0, locals := 0 }
set_option maxHeartbeats 4000000 in
set_option maxRecDepth 100000 in
theorem m_X5_isMet {l : Launch} {D : va_G} {ad : Nat → Nat} {ca : Nat → ClassId} {K : MK} {d : MD} (cd : Int32) (RES : Bool) (hr : RES = m_isMet cd d) : g_R l yX5_isMet (ws_ yX5_isMet cX5_isMet 5 (some .boolean)) rm_X5_isMet [.ref (ad 0), .int cd] (mKp D ca) (mB D ad ca K d) (.int (b2i RES)) := by
  refine g_ofR (by decide) (Nat.le_of_ble_eq_true rfl) ?_
  intro p e s m args below meth c ls Q hF hB hKp hl hQ
  obtain ⟨hx, hb, -, -, hml, hown, hts⟩ := id hF
  have hown : s.vm.findClass RX5 = some m.cls := hown
  have hC : CallFix p m c cX5_isMet 5 s args lw_all RX5 := ⟨hx, hb, hml, hown, hts⟩
  have hK : va_K D xcl (mtys ca) s := hKp
  have hP : va_P D xcl (MW ad ca K d) s.heap := hB
  have hl : lv_has ls 5 [(0, .ref (ad 0)), (1, .int cd)] := hl
  unfold m_isMet at hr
  refine lv_iload_n hx hb dX5_isMet_0 rfl (lv_at hl 1 rfl) ?_
  refine lv_iconst (v := (1 : Int32)) hx hb dX5_isMet_1 ic_1 ?_
  refine lv_ishr hx hb dX5_isMet_2 ?_
  refine lv_topi (fun v1 ev1 => ?_)
  replace hr := hr.trans (bnd_eq ev1)
  refine lv_istore_n (lv' := [(2, .int v1), (0, .ref (ad 0)), (1, .int cd)]) hx hb dX5_isMet_3 rfl hl (by decide) rfl (fun ls hl => ?_)
  refine lv_aload_n hx hb dX5_isMet_4 rfl (lv_at hl 1 rfl) ?_
  refine mg_0_24 hx hb hts hown hK hP (hts _ q695) dX5_isMet_5 ?_
  refine lv_aload_n hx hb dX5_isMet_8 rfl (lv_at hl 1 rfl) ?_
  refine mg_0_25 hx hb hts hown hK hP (hts _ q696) dX5_isMet_9 ?_
  obtain ⟨p2, ep2⟩ : ∃ z : Bool, z = (if (b2i (dm_negative d)) = (b2i (dm_over d)) then false else true) := ⟨_, rfl⟩
  replace hr := hr.trans (bnd_eq ep2)
  have kp2 : ∀ (ls : Array Slot), lv_has ls 5 [(2, .int v1), (0, .ref (ad 0)), (1, .int cd)] → W p l e rm_X5_isMet s m args below meth c s.heap [] 0 0 Q (F0 m 20 ls [.int (b2i p2)]) := by
    intro ls hl
    refine lv_istore_n (lv' := [(3, .int (b2i p2)), (2, .int v1), (0, .ref (ad 0)), (1, .int cd)]) hx hb dX5_isMet_20 rfl hl (by decide) rfl (fun ls hl => ?_)
    refine lv_iload_n hx hb dX5_isMet_21 rfl (lv_at hl 1 rfl) ?_
    obtain ⟨p3, ep3⟩ : ∃ z : Bool, z = (if v1 = 0 then (dm_over d) else (if v1 = (1 : Int32) then (dm_carry d) else (if v1 = (2 : Int32) then (dm_zero d) else (if v1 = (3 : Int32) then (if (b2i (dm_carry d)) = 0 then (if (b2i (dm_zero d)) = 0 then false else true) else true) else (if v1 = (4 : Int32) then (dm_negative d) else (if v1 = (5 : Int32) then (dm_parity d) else (if v1 = (6 : Int32) then p2 else (if (b2i (dm_zero d)) = 0 then (if (b2i p2) = 0 then false else true) else true)))))))) := ⟨_, rfl⟩
    replace hr := hr.trans (bnd_eq ep3)
    have kp3 : ∀ (ls : Array Slot), lv_has ls 5 [(3, .int (b2i p2)), (2, .int v1), (0, .ref (ad 0)), (1, .int cd)] → W p l e rm_X5_isMet s m args below meth c s.heap [] 0 0 Q (F0 m 133 ls [.int (b2i p3)]) := by
      intro ls hl
      refine lv_istore (lv' := [(4, .int (b2i p3)), (3, .int (b2i p2)), (2, .int v1), (0, .ref (ad 0)), (1, .int cd)]) hx hb dX5_isMet_133 hl (by decide) rfl (fun ls hl => ?_)
      refine lv_iload hx hb dX5_isMet_135 (lv_at hl 0 rfl) ?_
      refine lv_iload_n hx hb dX5_isMet_137 rfl (lv_at hl 4 rfl) ?_
      refine lv_iconst (v := (1 : Int32)) hx hb dX5_isMet_138 ic_1 ?_
      refine lv_iand hx hb dX5_isMet_139 ?_
      obtain ⟨p4, ep4⟩ : ∃ z : Bool, z = (if (cd &&& (1 : Int32)) = 0 then true else false) := ⟨_, rfl⟩
      replace hr := hr.trans (bnd_eq ep4)
      have kp4 : ∀ (ls : Array Slot), lv_has ls 5 [(4, .int (b2i p3)), (3, .int (b2i p2)), (2, .int v1), (0, .ref (ad 0)), (1, .int cd)] → W p l e rm_X5_isMet s m args below meth c s.heap [] 0 0 Q (F0 m 148 ls [.int (b2i p4), .int (b2i p3)]) := by
        intro ls hl
        refine lv_icmp_ne (tgt := 155) hx hb dX5_isMet_148 (by decide) (fun c_148 => ?_) (fun c_148 => ?_)
        · replace hr := hr.trans (if_neg c_148)
          refine lv_iconst (v := (0 : Int32)) hx hb dX5_isMet_155 ic_0 ?_
          exact g_endRz hF hQ hr rfl dX5_isMet_156
        · replace hr := hr.trans (if_pos c_148)
          refine lv_iconst (v := (1 : Int32)) hx hb dX5_isMet_151 ic_1 ?_
          refine lv_goto (tgt := 156) hx hb dX5_isMet_152 (by decide) ?_
          exact g_endRz hF hQ hr rfl dX5_isMet_156
      replace hr := ep4
      refine lv_if_ne (tgt := 147) hx hb dX5_isMet_140 (by decide) (fun c_140 => ?_) (fun c_140 => ?_)
      · replace hr := hr.trans (if_neg c_140)
        refine lv_iconst (v := (0 : Int32)) hx hb dX5_isMet_147 ic_0 ?_
        subst hr
        exact kp4 ls (lv_sub hl [0, 1, 2, 3, 4] rfl)
      · replace hr := hr.trans (if_pos c_140)
        refine lv_iconst (v := (1 : Int32)) hx hb dX5_isMet_143 ic_1 ?_
        refine lv_goto (tgt := 148) hx hb dX5_isMet_144 (by decide) ?_
        subst hr
        exact kp4 ls (lv_sub hl [0, 1, 2, 3, 4] rfl)
    replace hr := ep3
    refine lv_if_ne (tgt := 32) hx hb dX5_isMet_22 (by decide) (fun c_22 => ?_) (fun c_22 => ?_)
    · replace hr := hr.trans (if_neg c_22)
      refine lv_iload_n hx hb dX5_isMet_32 rfl (lv_at hl 1 rfl) ?_
      refine lv_iconst (v := (1 : Int32)) hx hb dX5_isMet_33 ic_1 ?_
      refine lv_icmp_ne (tgt := 44) hx hb dX5_isMet_34 (by decide) (fun c_34 => ?_) (fun c_34 => ?_)
      · replace hr := hr.trans (if_neg c_34)
        refine lv_iload_n hx hb dX5_isMet_44 rfl (lv_at hl 1 rfl) ?_
        refine lv_iconst (v := (2 : Int32)) hx hb dX5_isMet_45 ic_2 ?_
        refine lv_icmp_ne (tgt := 56) hx hb dX5_isMet_46 (by decide) (fun c_46 => ?_) (fun c_46 => ?_)
        · replace hr := hr.trans (if_neg c_46)
          refine lv_iload_n hx hb dX5_isMet_56 rfl (lv_at hl 1 rfl) ?_
          refine lv_iconst (v := (3 : Int32)) hx hb dX5_isMet_57 ic_3 ?_
          refine lv_icmp_ne (tgt := 83) hx hb dX5_isMet_58 (by decide) (fun c_58 => ?_) (fun c_58 => ?_)
          · replace hr := hr.trans (if_neg c_58)
            refine lv_iload_n hx hb dX5_isMet_83 rfl (lv_at hl 1 rfl) ?_
            refine lv_iconst (v := (4 : Int32)) hx hb dX5_isMet_84 ic_4 ?_
            refine lv_icmp_ne (tgt := 95) hx hb dX5_isMet_85 (by decide) (fun c_85 => ?_) (fun c_85 => ?_)
            · replace hr := hr.trans (if_neg c_85)
              refine lv_iload_n hx hb dX5_isMet_95 rfl (lv_at hl 1 rfl) ?_
              refine lv_iconst (v := (5 : Int32)) hx hb dX5_isMet_96 ic_5 ?_
              refine lv_icmp_ne (tgt := 107) hx hb dX5_isMet_97 (by decide) (fun c_97 => ?_) (fun c_97 => ?_)
              · replace hr := hr.trans (if_neg c_97)
                refine lv_iload_n hx hb dX5_isMet_107 rfl (lv_at hl 1 rfl) ?_
                refine lv_bipush (v := (6 : Int32)) hx hb dX5_isMet_108 bp_6 ?_
                refine lv_icmp_ne (tgt := 117) hx hb dX5_isMet_110 (by decide) (fun c_110 => ?_) (fun c_110 => ?_)
                · replace hr := hr.trans (if_neg c_110)
                  refine lv_aload_n hx hb dX5_isMet_117 rfl (lv_at hl 2 rfl) ?_
                  refine mg_0_23 hx hb hts hown hK hP (hts _ q694) dX5_isMet_118 ?_
                  refine lv_if_ne (tgt := 128) hx hb dX5_isMet_121 (by decide) (fun c_121 => ?_) (fun c_121 => ?_)
                  · replace hr := hr.trans (if_neg c_121)
                    refine lv_iconst (v := (1 : Int32)) hx hb dX5_isMet_128 ic_1 ?_
                    refine lv_goto (tgt := 133) hx hb dX5_isMet_129 (by decide) ?_
                    subst hr
                    exact kp3 ls (lv_sub hl [0, 1, 2, 3] rfl)
                  · replace hr := hr.trans (if_pos c_121)
                    refine lv_iload_n hx hb dX5_isMet_124 rfl (lv_at hl 0 rfl) ?_
                    refine lv_if_eq (tgt := 132) hx hb dX5_isMet_125 (by decide) (fun c_125 => ?_) (fun c_125 => ?_)
                    · replace hr := hr.trans (if_pos c_125)
                      refine lv_iconst (v := (0 : Int32)) hx hb dX5_isMet_132 ic_0 ?_
                      subst hr
                      exact kp3 ls (lv_sub hl [0, 1, 2, 3] rfl)
                    · replace hr := hr.trans (if_neg c_125)
                      refine lv_iconst (v := (1 : Int32)) hx hb dX5_isMet_128 ic_1 ?_
                      refine lv_goto (tgt := 133) hx hb dX5_isMet_129 (by decide) ?_
                      subst hr
                      exact kp3 ls (lv_sub hl [0, 1, 2, 3] rfl)
                · replace hr := hr.trans (if_pos c_110)
                  refine lv_iload_n hx hb dX5_isMet_113 rfl (lv_at hl 0 rfl) ?_
                  refine lv_goto (tgt := 133) hx hb dX5_isMet_114 (by decide) ?_
                  subst hr
                  exact kp3 ls (lv_sub hl [0, 1, 2, 3] rfl)
              · replace hr := hr.trans (if_pos c_97)
                refine lv_aload_n hx hb dX5_isMet_100 rfl (lv_at hl 2 rfl) ?_
                refine mg_0_22 hx hb hts hown hK hP (hts _ q693) dX5_isMet_101 ?_
                refine lv_goto (tgt := 133) hx hb dX5_isMet_104 (by decide) ?_
                subst hr
                exact kp3 ls (lv_sub hl [0, 1, 2, 3] rfl)
            · replace hr := hr.trans (if_pos c_85)
              refine lv_aload_n hx hb dX5_isMet_88 rfl (lv_at hl 2 rfl) ?_
              refine mg_0_24 hx hb hts hown hK hP (hts _ q695) dX5_isMet_89 ?_
              refine lv_goto (tgt := 133) hx hb dX5_isMet_92 (by decide) ?_
              subst hr
              exact kp3 ls (lv_sub hl [0, 1, 2, 3] rfl)
          · replace hr := hr.trans (if_pos c_58)
            refine lv_aload_n hx hb dX5_isMet_61 rfl (lv_at hl 2 rfl) ?_
            refine mg_0_21 hx hb hts hown hK hP (hts _ q692) dX5_isMet_62 ?_
            refine lv_if_ne (tgt := 75) hx hb dX5_isMet_65 (by decide) (fun c_65 => ?_) (fun c_65 => ?_)
            · replace hr := hr.trans (if_neg c_65)
              refine lv_iconst (v := (1 : Int32)) hx hb dX5_isMet_75 ic_1 ?_
              refine lv_goto (tgt := 133) hx hb dX5_isMet_76 (by decide) ?_
              subst hr
              exact kp3 ls (lv_sub hl [0, 1, 2, 3] rfl)
            · replace hr := hr.trans (if_pos c_65)
              refine lv_aload_n hx hb dX5_isMet_68 rfl (lv_at hl 2 rfl) ?_
              refine mg_0_23 hx hb hts hown hK hP (hts _ q694) dX5_isMet_69 ?_
              refine lv_if_eq (tgt := 79) hx hb dX5_isMet_72 (by decide) (fun c_72 => ?_) (fun c_72 => ?_)
              · replace hr := hr.trans (if_pos c_72)
                refine lv_iconst (v := (0 : Int32)) hx hb dX5_isMet_79 ic_0 ?_
                refine lv_goto (tgt := 133) hx hb dX5_isMet_80 (by decide) ?_
                subst hr
                exact kp3 ls (lv_sub hl [0, 1, 2, 3] rfl)
              · replace hr := hr.trans (if_neg c_72)
                refine lv_iconst (v := (1 : Int32)) hx hb dX5_isMet_75 ic_1 ?_
                refine lv_goto (tgt := 133) hx hb dX5_isMet_76 (by decide) ?_
                subst hr
                exact kp3 ls (lv_sub hl [0, 1, 2, 3] rfl)
        · replace hr := hr.trans (if_pos c_46)
          refine lv_aload_n hx hb dX5_isMet_49 rfl (lv_at hl 2 rfl) ?_
          refine mg_0_23 hx hb hts hown hK hP (hts _ q694) dX5_isMet_50 ?_
          refine lv_goto (tgt := 133) hx hb dX5_isMet_53 (by decide) ?_
          subst hr
          exact kp3 ls (lv_sub hl [0, 1, 2, 3] rfl)
      · replace hr := hr.trans (if_pos c_34)
        refine lv_aload_n hx hb dX5_isMet_37 rfl (lv_at hl 2 rfl) ?_
        refine mg_0_21 hx hb hts hown hK hP (hts _ q692) dX5_isMet_38 ?_
        refine lv_goto (tgt := 133) hx hb dX5_isMet_41 (by decide) ?_
        subst hr
        exact kp3 ls (lv_sub hl [0, 1, 2, 3] rfl)
    · replace hr := hr.trans (if_pos c_22)
      refine lv_aload_n hx hb dX5_isMet_25 rfl (lv_at hl 2 rfl) ?_
      refine mg_0_25 hx hb hts hown hK hP (hts _ q696) dX5_isMet_26 ?_
      refine lv_goto (tgt := 133) hx hb dX5_isMet_29 (by decide) ?_
      subst hr
      exact kp3 ls (lv_sub hl [0, 1, 2, 3] rfl)
  replace hr := ep2
  refine lv_icmp_eq (tgt := 19) hx hb dX5_isMet_12 (by decide) (fun c_12 => ?_) (fun c_12 => ?_)
  · replace hr := hr.trans (if_pos c_12)
    refine lv_iconst (v := (0 : Int32)) hx hb dX5_isMet_19 ic_0 ?_
    subst hr
    exact kp2 ls (lv_sub hl [0, 1, 2] rfl)
  · replace hr := hr.trans (if_neg c_12)
    refine lv_iconst (v := (1 : Int32)) hx hb dX5_isMet_15 ic_1 ?_
    refine lv_goto (tgt := 20) hx hb dX5_isMet_16 (by decide) ?_
    subst hr
    exact kp2 ls (lv_sub hl [0, 1, 2] rfl)
def m_flags (d : MD) : Int64 := bnd (α := Int64) (if (b2i (dm_carry d)) = 0 then (0 : Int64) else (1 : Int64)) fun p1 => bnd (α := Int64) (if (b2i (dm_parity d)) = 0 then (0 : Int64) else (4 : Int64)) fun p2 => bnd (α := Int64) (if (b2i (dm_zero d)) = 0 then (0 : Int64) else (64 : Int64)) fun p3 => bnd (α := Int64) (if (b2i (dm_negative d)) = 0 then (0 : Int64) else (128 : Int64)) fun p4 => if (b2i (dm_over d)) = 0 then ((((((2 : Int64) + p1) + p2) + p3) + p4) + (0 : Int64)) else ((((((2 : Int64) + p1) + p2) + p3) + p4) + (2048 : Int64))
abbrev rm_X5_flags : Room := { frames := 0, cells := 0, slots := 0, locals := 0 }
set_option maxHeartbeats 4000000 in
set_option maxRecDepth 100000 in
theorem m_X5_flags {l : Launch} {D : va_G} {ad : Nat → Nat} {ca : Nat → ClassId} {K : MK} {d : MD} (RES : Int64) (hr : RES = m_flags d) : g_R l yX5_flags (ws_ yX5_flags cX5_flags 1 (some .long)) rm_X5_flags [.ref (ad 0)] (mKp D ca) (mB D ad ca K d) (.long RES) := by
  refine g_ofR (by decide) (Nat.le_of_ble_eq_true rfl) ?_
  intro p e s m args below meth c ls Q hF hB hKp hl hQ
  obtain ⟨hx, hb, -, -, hml, hown, hts⟩ := id hF
  have hown : s.vm.findClass RX5 = some m.cls := hown
  have hC : CallFix p m c cX5_flags 1 s args lw_all RX5 := ⟨hx, hb, hml, hown, hts⟩
  have hK : va_K D xcl (mtys ca) s := hKp
  have hP : va_P D xcl (MW ad ca K d) s.heap := hB
  have hl : lv_has ls 1 [(0, .ref (ad 0))] := hl
  unfold m_flags at hr
  refine lv_ldc2 hx hb hown (hts _ q862) dX5_flags_0 ?_
  refine lv_aload_n hx hb dX5_flags_3 rfl (lv_at hl 0 rfl) ?_
  refine mg_0_21 hx hb hts hown hK hP (hts _ q692) dX5_flags_4 ?_
  obtain ⟨p1, ep1⟩ : ∃ z : Int64, z = (if (b2i (dm_carry d)) = 0 then (0 : Int64) else (1 : Int64)) := ⟨_, rfl⟩
  replace hr := hr.trans (bnd_eq ep1)
  have kp1 : ∀ (ls : Array Slot), lv_has ls 1 [(0, .ref (ad 0))] → W p l e rm_X5_flags s m args below meth c s.heap [] 0 0 Q (F0 m 15 ls [.long p1, .long (2 : Int64)]) := by
    intro ls hl
    refine lv_ladd hx hb dX5_flags_15 ?_
    refine lv_aload_n hx hb dX5_flags_16 rfl (lv_at hl 0 rfl) ?_
    refine mg_0_22 hx hb hts hown hK hP (hts _ q693) dX5_flags_17 ?_
    obtain ⟨p2, ep2⟩ : ∃ z : Int64, z = (if (b2i (dm_parity d)) = 0 then (0 : Int64) else (4 : Int64)) := ⟨_, rfl⟩
    replace hr := hr.trans (bnd_eq ep2)
    have kp2 : ∀ (ls : Array Slot), lv_has ls 1 [(0, .ref (ad 0))] → W p l e rm_X5_flags s m args below meth c s.heap [] 0 0 Q (F0 m 30 ls [.long p2, .long ((2 : Int64) + p1)]) := by
      intro ls hl
      refine lv_ladd hx hb dX5_flags_30 ?_
      refine lv_aload_n hx hb dX5_flags_31 rfl (lv_at hl 0 rfl) ?_
      refine mg_0_23 hx hb hts hown hK hP (hts _ q694) dX5_flags_32 ?_
      obtain ⟨p3, ep3⟩ : ∃ z : Int64, z = (if (b2i (dm_zero d)) = 0 then (0 : Int64) else (64 : Int64)) := ⟨_, rfl⟩
      replace hr := hr.trans (bnd_eq ep3)
      have kp3 : ∀ (ls : Array Slot), lv_has ls 1 [(0, .ref (ad 0))] → W p l e rm_X5_flags s m args below meth c s.heap [] 0 0 Q (F0 m 45 ls [.long p3, .long (((2 : Int64) + p1) + p2)]) := by
        intro ls hl
        refine lv_ladd hx hb dX5_flags_45 ?_
        refine lv_aload_n hx hb dX5_flags_46 rfl (lv_at hl 0 rfl) ?_
        refine mg_0_24 hx hb hts hown hK hP (hts _ q695) dX5_flags_47 ?_
        obtain ⟨p4, ep4⟩ : ∃ z : Int64, z = (if (b2i (dm_negative d)) = 0 then (0 : Int64) else (128 : Int64)) := ⟨_, rfl⟩
        replace hr := hr.trans (bnd_eq ep4)
        have kp4 : ∀ (ls : Array Slot), lv_has ls 1 [(0, .ref (ad 0))] → W p l e rm_X5_flags s m args below meth c s.heap [] 0 0 Q (F0 m 60 ls [.long p4, .long ((((2 : Int64) + p1) + p2) + p3)]) := by
          intro ls hl
          refine lv_ladd hx hb dX5_flags_60 ?_
          refine lv_aload_n hx hb dX5_flags_61 rfl (lv_at hl 0 rfl) ?_
          refine mg_0_25 hx hb hts hown hK hP (hts _ q696) dX5_flags_62 ?_
          refine lv_if_eq (tgt := 74) hx hb dX5_flags_65 (by decide) (fun c_65 => ?_) (fun c_65 => ?_)
          · replace hr := hr.trans (if_pos c_65)
            refine lv_lconst (v := (0 : Int64)) hx hb dX5_flags_74 lc_0 ?_
            refine lv_ladd hx hb dX5_flags_75 ?_
            exact g_endRl hF hQ hr dX5_flags_76
          · replace hr := hr.trans (if_neg c_65)
            refine lv_ldc2 hx hb hown (hts _ q669) dX5_flags_68 ?_
            refine lv_goto (tgt := 75) hx hb dX5_flags_71 (by decide) ?_
            refine lv_ladd hx hb dX5_flags_75 ?_
            exact g_endRl hF hQ hr dX5_flags_76
        replace hr := ep4
        refine lv_if_eq (tgt := 59) hx hb dX5_flags_50 (by decide) (fun c_50 => ?_) (fun c_50 => ?_)
        · replace hr := hr.trans (if_pos c_50)
          refine lv_lconst (v := (0 : Int64)) hx hb dX5_flags_59 lc_0 ?_
          subst hr
          exact kp4 ls (lv_sub hl [0] rfl)
        · replace hr := hr.trans (if_neg c_50)
          refine lv_ldc2 hx hb hown (hts _ q668) dX5_flags_53 ?_
          refine lv_goto (tgt := 60) hx hb dX5_flags_56 (by decide) ?_
          subst hr
          exact kp4 ls (lv_sub hl [0] rfl)
      replace hr := ep3
      refine lv_if_eq (tgt := 44) hx hb dX5_flags_35 (by decide) (fun c_35 => ?_) (fun c_35 => ?_)
      · replace hr := hr.trans (if_pos c_35)
        refine lv_lconst (v := (0 : Int64)) hx hb dX5_flags_44 lc_0 ?_
        subst hr
        exact kp3 ls (lv_sub hl [0] rfl)
      · replace hr := hr.trans (if_neg c_35)
        refine lv_ldc2 hx hb hown (hts _ q667) dX5_flags_38 ?_
        refine lv_goto (tgt := 45) hx hb dX5_flags_41 (by decide) ?_
        subst hr
        exact kp3 ls (lv_sub hl [0] rfl)
    replace hr := ep2
    refine lv_if_eq (tgt := 29) hx hb dX5_flags_20 (by decide) (fun c_20 => ?_) (fun c_20 => ?_)
    · replace hr := hr.trans (if_pos c_20)
      refine lv_lconst (v := (0 : Int64)) hx hb dX5_flags_29 lc_0 ?_
      subst hr
      exact kp2 ls (lv_sub hl [0] rfl)
    · replace hr := hr.trans (if_neg c_20)
      refine lv_ldc2 hx hb hown (hts _ q666) dX5_flags_23 ?_
      refine lv_goto (tgt := 30) hx hb dX5_flags_26 (by decide) ?_
      subst hr
      exact kp2 ls (lv_sub hl [0] rfl)
  replace hr := ep1
  refine lv_if_eq (tgt := 14) hx hb dX5_flags_7 (by decide) (fun c_7 => ?_) (fun c_7 => ?_)
  · replace hr := hr.trans (if_pos c_7)
    refine lv_lconst (v := (0 : Int64)) hx hb dX5_flags_14 lc_0 ?_
    subst hr
    exact kp1 ls (lv_sub hl [0] rfl)
  · replace hr := hr.trans (if_neg c_7)
    refine lv_lconst (v := (1 : Int64)) hx hb dX5_flags_10 lc_1 ?_
    refine lv_goto (tgt := 15) hx hb dX5_flags_11 (by decide) ?_
    subst hr
    exact kp1 ls (lv_sub hl [0] rfl)
def m_setFlags (f : Int64) (d : MD) : MD := bnd (α := Bool) (if (f &&& (1 : Int64)) = (0 : Int64) then false else true) fun p1 => bnd (dm_carry_ p1 d) fun d2 => bnd (α := Bool) (if (f &&& (4 : Int64)) = (0 : Int64) then false else true) fun p3 => bnd (dm_parity_ p3 d2) fun d4 => bnd (α := Bool) (if (f &&& (64 : Int64)) = (0 : Int64) then false else true) fun p5 => bnd (dm_zero_ p5 d4) fun d6 => bnd (α := Bool) (if (f &&& (128 : Int64)) = (0 : Int64) then false else true) fun p7 => bnd (dm_negative_ p7 d6) fun d8 => if (f &&& (2048 : Int64)) = (0 : Int64) then (bnd (dm_over_ false d8) fun d9 => d9) else (bnd (dm_over_ true d8) fun d10 => d10)
abbrev rm_X5_setFlags : Room := { frames := 0, cells := 0, slots := 0, locals := 0 }
set_option maxHeartbeats 4000000 in
set_option maxRecDepth 100000 in
theorem m_X5_setFlags {l : Launch} {D : va_G} {ad : Nat → Nat} {ca : Nat → ClassId} (hI : mInj ad) {K : MK} {d : MD} (f : Int64) (RES : MD) (hr : RES = m_setFlags f d) : g_U l yX5_setFlags (ws_ yX5_setFlags cX5_setFlags 3 none) rm_X5_setFlags [.ref (ad 0), .long f] (mKp D ca) (mB D ad ca K d) none (mB D ad ca K RES) (mA ad) := by
  refine g_ofU (by decide) (Nat.le_of_ble_eq_true rfl) ?_
  intro p e s m args below meth c ls Q hF hB hKp hl hQ
  obtain ⟨hx, hb, -, -, hml, hown, hts⟩ := id hF
  have hown : s.vm.findClass RX5 = some m.cls := hown
  have hC : CallFix p m c cX5_setFlags 3 s args lw_all RX5 := ⟨hx, hb, hml, hown, hts⟩
  have hK : va_K D xcl (mtys ca) s := hKp
  have hP : va_P D xcl (MW ad ca K d) s.heap := hB
  have hS : va_S (mA ad) s.heap s.heap [] := va_S.rf
  have hl : lv_has ls 3 [(0, .ref (ad 0)), (1, .long f)] := hl
  unfold m_setFlags at hr
  refine lv_aload_n hx hb dX5_setFlags_0 rfl (lv_at hl 0 rfl) ?_
  refine lv_lload_n hx hb dX5_setFlags_1 rfl (lv_at hl 1 rfl) ?_
  refine lv_lconst (v := (1 : Int64)) hx hb dX5_setFlags_2 lc_1 ?_
  refine lv_land hx hb dX5_setFlags_3 ?_
  refine lv_lconst (v := (0 : Int64)) hx hb dX5_setFlags_4 lc_0 ?_
  obtain ⟨p1, ep1⟩ : ∃ z : Bool, z = (if (f &&& (1 : Int64)) = (0 : Int64) then false else true) := ⟨_, rfl⟩
  replace hr := hr.trans (bnd_eq ep1)
  have kp1 : ∀ (H : Heap) (locs : List Loc) (ls : Array Slot), va_P D xcl (MW ad ca K d) H → va_S (mA ad) s.heap H locs → lv_has ls 3 [(0, .ref (ad 0)), (1, .long f)] → W p l e rm_X5_setFlags s m args below meth c H locs 0 0 Q (F0 m 14 ls [.int (b2i p1), .ref (ad 0)]) := by
    intro H locs ls hP hS hl
    refine mp_0_21 (v := p1) hx hb hts hown hK hI hP hS (hts _ q692) dX5_setFlags_14 (fun d2 ed2 H locs hP hS => ?_)
    replace hr := hr.trans (bnd_eq ed2)
    refine lv_aload_n hx hb dX5_setFlags_17 rfl (lv_at hl 0 rfl) ?_
    refine lv_lload_n hx hb dX5_setFlags_18 rfl (lv_at hl 1 rfl) ?_
    refine lv_ldc2 hx hb hown (hts _ q666) dX5_setFlags_19 ?_
    refine lv_land hx hb dX5_setFlags_22 ?_
    refine lv_lconst (v := (0 : Int64)) hx hb dX5_setFlags_23 lc_0 ?_
    obtain ⟨p3, ep3⟩ : ∃ z : Bool, z = (if (f &&& (4 : Int64)) = (0 : Int64) then false else true) := ⟨_, rfl⟩
    replace hr := hr.trans (bnd_eq ep3)
    have kp3 : ∀ (H : Heap) (locs : List Loc) (ls : Array Slot), va_P D xcl (MW ad ca K d2) H → va_S (mA ad) s.heap H locs → lv_has ls 3 [(0, .ref (ad 0)), (1, .long f)] → W p l e rm_X5_setFlags s m args below meth c H locs 0 0 Q (F0 m 33 ls [.int (b2i p3), .ref (ad 0)]) := by
      intro H locs ls hP hS hl
      refine mp_0_22 (v := p3) hx hb hts hown hK hI hP hS (hts _ q693) dX5_setFlags_33 (fun d4 ed4 H locs hP hS => ?_)
      replace hr := hr.trans (bnd_eq ed4)
      refine lv_aload_n hx hb dX5_setFlags_36 rfl (lv_at hl 0 rfl) ?_
      refine lv_lload_n hx hb dX5_setFlags_37 rfl (lv_at hl 1 rfl) ?_
      refine lv_ldc2 hx hb hown (hts _ q667) dX5_setFlags_38 ?_
      refine lv_land hx hb dX5_setFlags_41 ?_
      refine lv_lconst (v := (0 : Int64)) hx hb dX5_setFlags_42 lc_0 ?_
      obtain ⟨p5, ep5⟩ : ∃ z : Bool, z = (if (f &&& (64 : Int64)) = (0 : Int64) then false else true) := ⟨_, rfl⟩
      replace hr := hr.trans (bnd_eq ep5)
      have kp5 : ∀ (H : Heap) (locs : List Loc) (ls : Array Slot), va_P D xcl (MW ad ca K d4) H → va_S (mA ad) s.heap H locs → lv_has ls 3 [(0, .ref (ad 0)), (1, .long f)] → W p l e rm_X5_setFlags s m args below meth c H locs 0 0 Q (F0 m 52 ls [.int (b2i p5), .ref (ad 0)]) := by
        intro H locs ls hP hS hl
        refine mp_0_23 (v := p5) hx hb hts hown hK hI hP hS (hts _ q694) dX5_setFlags_52 (fun d6 ed6 H locs hP hS => ?_)
        replace hr := hr.trans (bnd_eq ed6)
        refine lv_aload_n hx hb dX5_setFlags_55 rfl (lv_at hl 0 rfl) ?_
        refine lv_lload_n hx hb dX5_setFlags_56 rfl (lv_at hl 1 rfl) ?_
        refine lv_ldc2 hx hb hown (hts _ q668) dX5_setFlags_57 ?_
        refine lv_land hx hb dX5_setFlags_60 ?_
        refine lv_lconst (v := (0 : Int64)) hx hb dX5_setFlags_61 lc_0 ?_
        obtain ⟨p7, ep7⟩ : ∃ z : Bool, z = (if (f &&& (128 : Int64)) = (0 : Int64) then false else true) := ⟨_, rfl⟩
        replace hr := hr.trans (bnd_eq ep7)
        have kp7 : ∀ (H : Heap) (locs : List Loc) (ls : Array Slot), va_P D xcl (MW ad ca K d6) H → va_S (mA ad) s.heap H locs → lv_has ls 3 [(0, .ref (ad 0)), (1, .long f)] → W p l e rm_X5_setFlags s m args below meth c H locs 0 0 Q (F0 m 71 ls [.int (b2i p7), .ref (ad 0)]) := by
          intro H locs ls hP hS hl
          refine mp_0_24 (v := p7) hx hb hts hown hK hI hP hS (hts _ q695) dX5_setFlags_71 (fun d8 ed8 H locs hP hS => ?_)
          replace hr := hr.trans (bnd_eq ed8)
          refine lv_aload_n hx hb dX5_setFlags_74 rfl (lv_at hl 0 rfl) ?_
          refine lv_lload_n hx hb dX5_setFlags_75 rfl (lv_at hl 1 rfl) ?_
          refine lv_ldc2 hx hb hown (hts _ q669) dX5_setFlags_76 ?_
          refine lv_land hx hb dX5_setFlags_79 ?_
          refine lv_lconst (v := (0 : Int64)) hx hb dX5_setFlags_80 lc_0 ?_
          refine lq_eq (tgt := 89) hx hb dX5_setFlags_81 dX5_setFlags_82 (by decide) (fun c_81 => ?_) (fun c_81 => ?_)
          · replace hr := hr.trans (if_pos c_81)
            refine lv_iconst (v := (0 : Int32)) hx hb dX5_setFlags_89 ic_0 ?_
            refine mp_0_25 (v := false) hx hb hts hown hK hI hP hS (hts _ q696) dX5_setFlags_90 (fun d9 ed9 H locs hP hS => ?_)
            replace hr := hr.trans (bnd_eq ed9)
            exact g_endUv (Pic := (fun u => mB D ad ca K u)) (u := d9) hF hQ hr hP hS dX5_setFlags_93
          · replace hr := hr.trans (if_neg c_81)
            refine lv_iconst (v := (1 : Int32)) hx hb dX5_setFlags_85 ic_1 ?_
            refine lv_goto (tgt := 90) hx hb dX5_setFlags_86 (by decide) ?_
            refine mp_0_25 (v := true) hx hb hts hown hK hI hP hS (hts _ q696) dX5_setFlags_90 (fun d10 ed10 H locs hP hS => ?_)
            replace hr := hr.trans (bnd_eq ed10)
            exact g_endUv (Pic := (fun u => mB D ad ca K u)) (u := d10) hF hQ hr hP hS dX5_setFlags_93
        replace hr := ep7
        refine lq_eq (tgt := 70) hx hb dX5_setFlags_62 dX5_setFlags_63 (by decide) (fun c_62 => ?_) (fun c_62 => ?_)
        · replace hr := hr.trans (if_pos c_62)
          refine lv_iconst (v := (0 : Int32)) hx hb dX5_setFlags_70 ic_0 ?_
          subst hr
          exact kp7 _ _ ls hP hS (lv_sub hl [0, 1] rfl)
        · replace hr := hr.trans (if_neg c_62)
          refine lv_iconst (v := (1 : Int32)) hx hb dX5_setFlags_66 ic_1 ?_
          refine lv_goto (tgt := 71) hx hb dX5_setFlags_67 (by decide) ?_
          subst hr
          exact kp7 _ _ ls hP hS (lv_sub hl [0, 1] rfl)
      replace hr := ep5
      refine lq_eq (tgt := 51) hx hb dX5_setFlags_43 dX5_setFlags_44 (by decide) (fun c_43 => ?_) (fun c_43 => ?_)
      · replace hr := hr.trans (if_pos c_43)
        refine lv_iconst (v := (0 : Int32)) hx hb dX5_setFlags_51 ic_0 ?_
        subst hr
        exact kp5 _ _ ls hP hS (lv_sub hl [0, 1] rfl)
      · replace hr := hr.trans (if_neg c_43)
        refine lv_iconst (v := (1 : Int32)) hx hb dX5_setFlags_47 ic_1 ?_
        refine lv_goto (tgt := 52) hx hb dX5_setFlags_48 (by decide) ?_
        subst hr
        exact kp5 _ _ ls hP hS (lv_sub hl [0, 1] rfl)
    replace hr := ep3
    refine lq_eq (tgt := 32) hx hb dX5_setFlags_24 dX5_setFlags_25 (by decide) (fun c_24 => ?_) (fun c_24 => ?_)
    · replace hr := hr.trans (if_pos c_24)
      refine lv_iconst (v := (0 : Int32)) hx hb dX5_setFlags_32 ic_0 ?_
      subst hr
      exact kp3 _ _ ls hP hS (lv_sub hl [0, 1] rfl)
    · replace hr := hr.trans (if_neg c_24)
      refine lv_iconst (v := (1 : Int32)) hx hb dX5_setFlags_28 ic_1 ?_
      refine lv_goto (tgt := 33) hx hb dX5_setFlags_29 (by decide) ?_
      subst hr
      exact kp3 _ _ ls hP hS (lv_sub hl [0, 1] rfl)
  replace hr := ep1
  refine lq_eq (tgt := 13) hx hb dX5_setFlags_5 dX5_setFlags_6 (by decide) (fun c_5 => ?_) (fun c_5 => ?_)
  · replace hr := hr.trans (if_pos c_5)
    refine lv_iconst (v := (0 : Int32)) hx hb dX5_setFlags_13 ic_0 ?_
    subst hr
    exact kp1 _ _ ls hP hS (lv_sub hl [0, 1] rfl)
  · replace hr := hr.trans (if_neg c_5)
    refine lv_iconst (v := (1 : Int32)) hx hb dX5_setFlags_9 ic_1 ?_
    refine lv_goto (tgt := 14) hx hb dX5_setFlags_10 (by decide) ?_
    subst hr
    exact kp1 _ _ ls hP hS (lv_sub hl [0, 1] rfl)
