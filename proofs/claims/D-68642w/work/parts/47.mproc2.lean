def m_push (K : MK) (v : Int64) (d : MD) : MD := bnd (m_store K (((dm_regs d) (4 : Int32).toNatClampNeg) - (8 : Int64)) (8 : Int32) v d) fun g1 => bnd (dm_regs_ (vp_updL (dm_regs g1) (4 : Int32).toNatClampNeg (((dm_regs g1) (4 : Int32).toNatClampNeg) - (8 : Int64))) g1) fun d2 => d2
abbrev rm_X5_push : Room := { frames := 3, cells := 0, slots := 0, locals := 75 }
set_option maxHeartbeats 4000000 in
set_option maxRecDepth 100000 in
theorem m_X5_push {l : Launch} {D : va_G} {ad : Nat → Nat} {ca : Nat → ClassId} (hI : mInj ad) {K : MK} {d : MD} (v : Int64) (RES : MD) (hr : RES = m_push K v d) (hgd : MGd K) : g_U l yX5_push (ws_ yX5_push cX5_push 3 none) rm_X5_push [.ref (ad 0), .long v] (mKp D ca) (mB D ad ca K d) none (mB D ad ca K RES) (mA ad) := by
  refine g_ofU (by decide) (Nat.le_of_ble_eq_true rfl) ?_
  intro p e s m args below meth c ls Q hF hB hKp hl hQ
  obtain ⟨hx, hb, -, -, hml, hown, hts⟩ := id hF
  have hown : s.vm.findClass RX5 = some m.cls := hown
  have hC : CallFix p m c cX5_push 3 s args lw_all RX5 := ⟨hx, hb, hml, hown, hts⟩
  have hK : va_K D xcl (mtys ca) s := hKp
  have hP : va_P D xcl (MW ad ca K d) s.heap := hB
  have hS : va_S (mA ad) s.heap s.heap [] := va_S.rf
  have hl : lv_has ls 3 [(0, .ref (ad 0)), (1, .long v)] := hl
  unfold m_push at hr
  refine lv_aload_n hx hb dX5_push_0 rfl (lv_at hl 0 rfl) ?_
  refine lv_aload_n hx hb dX5_push_1 rfl (lv_at hl 0 rfl) ?_
  refine mg_0_16 hx hb hts hown hK hP (hts _ q687) dX5_push_2 ?_
  refine lv_iconst (v := (4 : Int32)) hx hb dX5_push_5 ic_4 ?_
  refine ml_7 hx hb hK hP (show ¬ ((4 : Int32) < 0 ∨ 16 ≤ (4 : Int32).toNatClampNeg) by decide) dX5_push_6 ?_
  refine lv_ldc2 hx hb hown (hts _ q999) dX5_push_7 ?_
  refine lv_lsub hx hb dX5_push_10 ?_
  refine lv_bipush (v := (8 : Int32)) hx hb dX5_push_11 bp_8 ?_
  refine lv_lload_n hx hb dX5_push_13 rfl (lv_at hl 1 rfl) ?_
  obtain ⟨g1, eg1⟩ : ∃ z, z = m_store K (((dm_regs d) (4 : Int32).toNatClampNeg) - (8 : Int64)) (8 : Int32) v d := ⟨_, rfl⟩
  replace hr := hr.trans (bnd_eq eg1)
  refine g_UV0 (As := [.long (((dm_regs d) (4 : Int32).toNatClampNeg) - (8 : Int64)), .int (8 : Int32), .long v]) (rest := []) hC (m_X5_store hI (K := K) (d := d) (((dm_regs d) (4 : Int32).toNatClampNeg) - (8 : Int64)) (8 : Int32) v g1 eg1 hgd.1) (cwV 3 hts cw_X5_216 rfl rfl rfl hd_X5_store ⟨Nat.le_of_ble_eq_true rfl, Nat.le_of_ble_eq_true rfl⟩) mKst (va_recv hK hP (ci := 5) (q0 := 0) rfl rfl) hP hKp ⟨Nat.zero_le _, Nat.zero_le _⟩ hS (fun _ h => h) rfl hl.1 rfl (Nat.le_of_ble_eq_true rfl) dX5_push_14 (fun H locs hP hS => ?_)
  have hP : va_P D xcl (MW ad ca K g1) H := hP
  refine lv_aload_n hx hb dX5_push_17 rfl (lv_at hl 0 rfl) ?_
  refine mg_0_16 hx hb hts hown hK hP (hts _ q687) dX5_push_18 ?_
  refine lv_iconst (v := (4 : Int32)) hx hb dX5_push_21 ic_4 ?_
  refine lv_dup2_11 hx hb dX5_push_22 rfl rfl ?_
  refine ml_7 hx hb hK hP (show ¬ ((4 : Int32) < 0 ∨ 16 ≤ (4 : Int32).toNatClampNeg) by decide) dX5_push_23 ?_
  refine lv_ldc2 hx hb hown (hts _ q999) dX5_push_24 ?_
  refine lv_lsub hx hb dX5_push_27 ?_
  refine ms_7 hx hb hK hI hP hS (show ¬ ((4 : Int32) < 0 ∨ 16 ≤ (4 : Int32).toNatClampNeg) by decide) dX5_push_28 (fun d2 ed2 H locs hP hS => ?_)
  replace hr := hr.trans (bnd_eq ed2)
  exact g_endUv (Pic := (fun u => mB D ad ca K u)) (u := d2) hF hQ hr hP hS dX5_push_29
def m_pop (K : MK) (d : MD) : Int64 × MD := bnd (m_load K ((dm_regs d) (4 : Int32).toNatClampNeg) (8 : Int32) d) fun g1 => bnd (dm_regs_ (vp_updL (dm_regs g1.2) (4 : Int32).toNatClampNeg (((dm_regs g1.2) (4 : Int32).toNatClampNeg) + (8 : Int64))) g1.2) fun d2 => (g1.1, d2)
abbrev rm_X5_pop : Room := { frames := 3, cells := 0, slots := 0, locals := 76 }
set_option maxHeartbeats 4000000 in
set_option maxRecDepth 100000 in
theorem m_X5_pop {l : Launch} {D : va_G} {ad : Nat → Nat} {ca : Nat → ClassId} (hI : mInj ad) {K : MK} {d : MD} (RES : Int64 × MD) (hr : RES = m_pop K d) (hgd : MGd K) : g_U l yX5_pop (ws_ yX5_pop cX5_pop 3 (some .long)) rm_X5_pop [.ref (ad 0)] (mKp D ca) (mB D ad ca K d) (some (.long RES.1)) (mB D ad ca K RES.2) (mA ad) := by
  refine g_ofU (by decide) (Nat.le_of_ble_eq_true rfl) ?_
  intro p e s m args below meth c ls Q hF hB hKp hl hQ
  obtain ⟨hx, hb, -, -, hml, hown, hts⟩ := id hF
  have hown : s.vm.findClass RX5 = some m.cls := hown
  have hC : CallFix p m c cX5_pop 3 s args lw_all RX5 := ⟨hx, hb, hml, hown, hts⟩
  have hK : va_K D xcl (mtys ca) s := hKp
  have hP : va_P D xcl (MW ad ca K d) s.heap := hB
  have hS : va_S (mA ad) s.heap s.heap [] := va_S.rf
  have hl : lv_has ls 3 [(0, .ref (ad 0))] := hl
  unfold m_pop at hr
  refine lv_aload_n hx hb dX5_pop_0 rfl (lv_at hl 0 rfl) ?_
  refine lv_aload_n hx hb dX5_pop_1 rfl (lv_at hl 0 rfl) ?_
  refine mg_0_16 hx hb hts hown hK hP (hts _ q687) dX5_pop_2 ?_
  refine lv_iconst (v := (4 : Int32)) hx hb dX5_pop_5 ic_4 ?_
  refine ml_7 hx hb hK hP (show ¬ ((4 : Int32) < 0 ∨ 16 ≤ (4 : Int32).toNatClampNeg) by decide) dX5_pop_6 ?_
  refine lv_bipush (v := (8 : Int32)) hx hb dX5_pop_7 bp_8 ?_
  obtain ⟨g1, eg1⟩ : ∃ z, z = m_load K ((dm_regs d) (4 : Int32).toNatClampNeg) (8 : Int32) d := ⟨_, rfl⟩
  replace hr := hr.trans (bnd_eq eg1)
  refine g_UV1 (As := [.long ((dm_regs d) (4 : Int32).toNatClampNeg), .int (8 : Int32)]) (rest := []) hC (m_X5_load hI (K := K) (d := d) ((dm_regs d) (4 : Int32).toNatClampNeg) (8 : Int32) g1 eg1 hgd.1) (cwV 2 hts cw_X5_207 rfl rfl rfl hd_X5_load ⟨Nat.le_of_ble_eq_true rfl, Nat.le_of_ble_eq_true rfl⟩) mKst (va_recv hK hP (ci := 5) (q0 := 0) rfl rfl) hP hKp ⟨Nat.zero_le _, Nat.zero_le _⟩ hS (fun _ h => h) rfl hl.1 rfl (Nat.le_of_ble_eq_true rfl) dX5_pop_9 (fun H locs hP hS => ?_)
  have hP : va_P D xcl (MW ad ca K g1.2) H := hP
  refine lv_lstore_n (lv' := [(1, .long g1.1), (0, .ref (ad 0))]) hx hb dX5_pop_12 rfl hl (by decide) rfl (fun ls hl => ?_)
  refine lv_aload_n hx hb dX5_pop_13 rfl (lv_at hl 1 rfl) ?_
  refine mg_0_16 hx hb hts hown hK hP (hts _ q687) dX5_pop_14 ?_
  refine lv_iconst (v := (4 : Int32)) hx hb dX5_pop_17 ic_4 ?_
  refine lv_dup2_11 hx hb dX5_pop_18 rfl rfl ?_
  refine ml_7 hx hb hK hP (show ¬ ((4 : Int32) < 0 ∨ 16 ≤ (4 : Int32).toNatClampNeg) by decide) dX5_pop_19 ?_
  refine lv_ldc2 hx hb hown (hts _ q999) dX5_pop_20 ?_
  refine lv_ladd hx hb dX5_pop_23 ?_
  refine ms_7 hx hb hK hI hP hS (show ¬ ((4 : Int32) < 0 ∨ 16 ≤ (4 : Int32).toNatClampNeg) by decide) dX5_pop_24 (fun d2 ed2 H locs hP hS => ?_)
  replace hr := hr.trans (bnd_eq ed2)
  refine lv_lload_n hx hb dX5_pop_25 rfl (lv_at hl 0 rfl) ?_
  exact g_endUl (Pic := (fun u => mB D ad ca K u)) (u := d2) hF hQ hr hP hS dX5_pop_26
def m_goes (K : MK) (o : Int32) (d : MD) : MD := if o = (29 : Int32) then (if (m_kindAt K (0 : Int32)) = (3 : Int32) then (bnd (m_push K (km_number K) d) fun g18 => g18) else (bnd (m_take K (0 : Int32) (8 : Int32) d) fun g16 => bnd (m_push K g16.1 g16.2) fun g17 => g17)) else (if o = (30 : Int32) then (bnd (m_pop K d) fun g12 => bnd (α := MD) (if (m_kindAt K (0 : Int32)) = (2 : Int32) then (bnd (dm_operandAt_ (m_addressNow K g12.2) g12.2) fun d14 => d14) else g12.2) fun p13 => bnd (m_put K (0 : Int32) (8 : Int32) g12.1 p13) fun g15 => g15) else (if o = (33 : Int32) then (bnd (m_pop K d) fun g8 => bnd (dm_ip_ g8.1 g8.2) fun d9 => if (m_kindAt K (0 : Int32)) = (3 : Int32) then (bnd (dm_regs_ (vp_updL (dm_regs d9) (4 : Int32).toNatClampNeg (((dm_regs d9) (4 : Int32).toNatClampNeg) + (km_number K))) d9) fun d11 => d11) else (bnd (dm_regs_ (vp_updL (dm_regs d9) (4 : Int32).toNatClampNeg (((dm_regs d9) (4 : Int32).toNatClampNeg) + (0 : Int64))) d9) fun d10 => d10)) else (if o = (34 : Int32) then (if (b2i (m_isMet (km_condition K) d)) = 0 then (bnd (dm_ip_ ((dm_ip d) + (0 : Int64)) d) fun d6 => d6) else (bnd (dm_ip_ ((dm_ip d) + (km_number K)) d) fun d7 => d7)) else (bnd (α := Int64 × MD) (if (m_kindAt K (0 : Int32)) = (3 : Int32) then (((dm_ip d) + (km_number K)), d) else (bnd (m_take K (0 : Int32) (8 : Int32) d) fun g2 => (g2.1, g2.2))) fun p1 => if o = (32 : Int32) then (bnd (m_push K (dm_ip p1.2) p1.2) fun g4 => bnd (dm_ip_ p1.1 g4) fun d5 => d5) else (bnd (dm_ip_ p1.1 p1.2) fun d3 => d3)))))
abbrev rm_X5_goes : Room := { frames := 4, cells := 0, slots := 0, locals := 99 }
set_option maxHeartbeats 4000000 in
set_option maxRecDepth 100000 in
theorem m_X5_goes {l : Launch} {D : va_G} {ad : Nat → Nat} {ca : Nat → ClassId} (hI : mInj ad) {K : MK} {d : MD} (o : Int32) (RES : MD) (hr : RES = m_goes K o d) (hgd : MGd K) : g_U l yX5_goes (ws_ yX5_goes cX5_goes 4 none) rm_X5_goes [.ref (ad 0), .int o] (mKp D ca) (mB D ad ca K d) none (mB D ad ca K RES) (mA ad) := by
  refine g_ofU (by decide) (Nat.le_of_ble_eq_true rfl) ?_
  intro p e s m args below meth c ls Q hF hB hKp hl hQ
  obtain ⟨hx, hb, -, -, hml, hown, hts⟩ := id hF
  have hown : s.vm.findClass RX5 = some m.cls := hown
  have hC : CallFix p m c cX5_goes 4 s args lw_all RX5 := ⟨hx, hb, hml, hown, hts⟩
  have hK : va_K D xcl (mtys ca) s := hKp
  have hP : va_P D xcl (MW ad ca K d) s.heap := hB
  have hS : va_S (mA ad) s.heap s.heap [] := va_S.rf
  have hl : lv_has ls 4 [(0, .ref (ad 0)), (1, .int o)] := hl
  unfold m_goes at hr
  refine lv_iload_n hx hb dX5_goes_0 rfl (lv_at hl 1 rfl) ?_
  refine lv_bipush (v := (29 : Int32)) hx hb dX5_goes_1 bp_29 ?_
  refine lv_icmp_ne (tgt := 36) hx hb dX5_goes_3 (by decide) (fun c_3 => ?_) (fun c_3 => ?_)
  · replace hr := hr.trans (if_neg c_3)
    refine lv_iload_n hx hb dX5_goes_36 rfl (lv_at hl 1 rfl) ?_
    refine lv_bipush (v := (30 : Int32)) hx hb dX5_goes_37 bp_30 ?_
    refine lv_icmp_ne (tgt := 75) hx hb dX5_goes_39 (by decide) (fun c_39 => ?_) (fun c_39 => ?_)
    · replace hr := hr.trans (if_neg c_39)
      refine lv_iload_n hx hb dX5_goes_75 rfl (lv_at hl 1 rfl) ?_
      refine lv_bipush (v := (33 : Int32)) hx hb dX5_goes_76 bp_33 ?_
      refine lv_icmp_ne (tgt := 118) hx hb dX5_goes_78 (by decide) (fun c_78 => ?_) (fun c_78 => ?_)
      · replace hr := hr.trans (if_neg c_78)
        refine lv_iload_n hx hb dX5_goes_118 rfl (lv_at hl 1 rfl) ?_
        refine lv_bipush (v := (34 : Int32)) hx hb dX5_goes_119 bp_34 ?_
        refine lv_icmp_ne (tgt := 155) hx hb dX5_goes_121 (by decide) (fun c_121 => ?_) (fun c_121 => ?_)
        · replace hr := hr.trans (if_neg c_121)
          refine lv_aload_n hx hb dX5_goes_155 rfl (lv_at hl 0 rfl) ?_
          refine lv_iconst (v := (0 : Int32)) hx hb dX5_goes_156 ic_0 ?_
          refine g_RV (As := [.int (0 : Int32)]) (rest := []) hC (m_X5_kindAt (K := K) (d := d) (0 : Int32) _ rfl (show ¬ ((0 : Int32) < 0 ∨ 3 ≤ (0 : Int32).toNatClampNeg) by decide)) (cwV 1 hts cw_X5_194 rfl rfl rfl hd_X5_kindAt ⟨Nat.le_of_ble_eq_true rfl, Nat.le_of_ble_eq_true rfl⟩) mKst (va_recv hK hP (ci := 5) (q0 := 0) rfl rfl) hP hKp ⟨Nat.zero_le _, Nat.zero_le _⟩ rfl hl.1 rfl (Nat.le_of_ble_eq_true rfl) dX5_goes_157 ?_
          refine lv_iconst (v := (3 : Int32)) hx hb dX5_goes_160 ic_3 ?_
          obtain ⟨p1, ep1⟩ : ∃ z : Int64 × MD, z = (if (m_kindAt K (0 : Int32)) = (3 : Int32) then (((dm_ip d) + (km_number K)), d) else (bnd (m_take K (0 : Int32) (8 : Int32) d) fun g2 => (g2.1, g2.2))) := ⟨_, rfl⟩
          replace hr := hr.trans (bnd_eq ep1)
          have kp1 : ∀ (H : Heap) (locs : List Loc) (ls : Array Slot), va_P D xcl (MW ad ca K p1.2) H → va_S (mA ad) s.heap H locs → lv_has ls 4 [(0, .ref (ad 0)), (1, .int o)] → W p l e rm_X5_goes s m args below meth c H locs 0 0 Q (F0 m 183 ls [.long p1.1]) := by
            intro H locs ls hP hS hl
            refine lv_lstore_n (lv' := [(2, .long p1.1), (0, .ref (ad 0)), (1, .int o)]) hx hb dX5_goes_183 rfl hl (by decide) rfl (fun ls hl => ?_)
            refine lv_iload_n hx hb dX5_goes_184 rfl (lv_at hl 2 rfl) ?_
            refine lv_bipush (v := (32 : Int32)) hx hb dX5_goes_185 bp_32 ?_
            refine lv_icmp_ne (tgt := 198) hx hb dX5_goes_187 (by decide) (fun c_187 => ?_) (fun c_187 => ?_)
            · replace hr := hr.trans (if_neg c_187)
              refine lv_aload_n hx hb dX5_goes_198 rfl (lv_at hl 1 rfl) ?_
              refine lv_lload_n hx hb dX5_goes_199 rfl (lv_at hl 0 rfl) ?_
              refine mp_0_18 (v := p1.1) hx hb hts hown hK hI hP hS (hts _ q689) dX5_goes_200 (fun d3 ed3 H locs hP hS => ?_)
              replace hr := hr.trans (bnd_eq ed3)
              exact g_endUv (Pic := (fun u => mB D ad ca K u)) (u := d3) hF hQ hr hP hS dX5_goes_203
            · replace hr := hr.trans (if_pos c_187)
              refine lv_aload_n hx hb dX5_goes_190 rfl (lv_at hl 1 rfl) ?_
              refine lv_aload_n hx hb dX5_goes_191 rfl (lv_at hl 1 rfl) ?_
              refine mg_0_18 hx hb hts hown hK hP (hts _ q689) dX5_goes_192 ?_
              obtain ⟨g4, eg4⟩ : ∃ z, z = m_push K (dm_ip p1.2) p1.2 := ⟨_, rfl⟩
              replace hr := hr.trans (bnd_eq eg4)
              refine g_UV0 (As := [.long (dm_ip p1.2)]) (rest := []) hC (m_X5_push hI (K := K) (d := p1.2) (dm_ip p1.2) g4 eg4 hgd) (cwV 1 hts cw_X5_296 rfl rfl rfl hd_X5_push ⟨Nat.le_of_ble_eq_true rfl, Nat.le_of_ble_eq_true rfl⟩) mKst (va_recv hK hP (ci := 5) (q0 := 0) rfl rfl) hP hKp ⟨Nat.zero_le _, Nat.zero_le _⟩ hS (fun _ h => h) rfl hl.1 rfl (Nat.le_of_ble_eq_true rfl) dX5_goes_195 (fun H locs hP hS => ?_)
              have hP : va_P D xcl (MW ad ca K g4) H := hP
              refine lv_aload_n hx hb dX5_goes_198 rfl (lv_at hl 1 rfl) ?_
              refine lv_lload_n hx hb dX5_goes_199 rfl (lv_at hl 0 rfl) ?_
              refine mp_0_18 (v := p1.1) hx hb hts hown hK hI hP hS (hts _ q689) dX5_goes_200 (fun d5 ed5 H locs hP hS => ?_)
              replace hr := hr.trans (bnd_eq ed5)
              exact g_endUv (Pic := (fun u => mB D ad ca K u)) (u := d5) hF hQ hr hP hS dX5_goes_203
          replace hr := ep1
          refine lv_icmp_ne (tgt := 176) hx hb dX5_goes_161 (by decide) (fun c_161 => ?_) (fun c_161 => ?_)
          · replace hr := hr.trans (if_neg c_161)
            refine lv_aload_n hx hb dX5_goes_176 rfl (lv_at hl 0 rfl) ?_
            refine lv_iconst (v := (0 : Int32)) hx hb dX5_goes_177 ic_0 ?_
            refine lv_bipush (v := (8 : Int32)) hx hb dX5_goes_178 bp_8 ?_
            obtain ⟨g2, eg2⟩ : ∃ z, z = m_take K (0 : Int32) (8 : Int32) d := ⟨_, rfl⟩
            replace hr := hr.trans (bnd_eq eg2)
            refine g_UV1 (As := [.int (0 : Int32), .int (8 : Int32)]) (rest := []) hC (m_X5_take hI (K := K) (d := d) (0 : Int32) (8 : Int32) g2 eg2 (show ¬ ((0 : Int32) < 0 ∨ 3 ≤ (0 : Int32).toNatClampNeg) by decide) hgd) (cwV 2 hts cw_X5_257 rfl rfl rfl hd_X5_take ⟨Nat.le_of_ble_eq_true rfl, Nat.le_of_ble_eq_true rfl⟩) mKst (va_recv hK hP (ci := 5) (q0 := 0) rfl rfl) hP hKp ⟨Nat.zero_le _, Nat.zero_le _⟩ hS (fun _ h => h) rfl hl.1 rfl (Nat.le_of_ble_eq_true rfl) dX5_goes_180 (fun H locs hP hS => ?_)
            have hP : va_P D xcl (MW ad ca K g2.2) H := hP
            subst hr
            exact kp1 _ _ ls hP hS (lv_sub hl [0, 1] rfl)
          · replace hr := hr.trans (if_pos c_161)
            refine lv_aload_n hx hb dX5_goes_164 rfl (lv_at hl 0 rfl) ?_
            refine mg_0_18 hx hb hts hown hK hP (hts _ q689) dX5_goes_165 ?_
            refine lv_aload_n hx hb dX5_goes_168 rfl (lv_at hl 0 rfl) ?_
            refine mg_0_38 hx hb hts hown hK hP (hts _ q709) dX5_goes_169 ?_
            refine lv_ladd hx hb dX5_goes_172 ?_
            refine lv_goto (tgt := 183) hx hb dX5_goes_173 (by decide) ?_
            subst hr
            exact kp1 _ _ ls hP hS (lv_sub hl [0, 1] rfl)
        · replace hr := hr.trans (if_pos c_121)
          refine lv_aload_n hx hb dX5_goes_124 rfl (lv_at hl 0 rfl) ?_
          refine lv_dup hx hb dX5_goes_125 rfl ?_
          refine mg_0_18 hx hb hts hown hK hP (hts _ q689) dX5_goes_126 ?_
          refine lv_aload_n hx hb dX5_goes_129 rfl (lv_at hl 0 rfl) ?_
          refine lv_aload_n hx hb dX5_goes_130 rfl (lv_at hl 0 rfl) ?_
          refine mg_0_32 hx hb hts hown hK hP (hts _ q703) dX5_goes_131 ?_
          refine g_RV (As := [.int (km_condition K)]) (rest := [.long (dm_ip d), .ref (ad 0)]) hC (m_X5_isMet (K := K) (d := d) (km_condition K) _ rfl) (cwV 1 hts cw_X5_302 rfl rfl rfl hd_X5_isMet ⟨Nat.le_of_ble_eq_true rfl, Nat.le_of_ble_eq_true rfl⟩) mKst (va_recv hK hP (ci := 5) (q0 := 0) rfl rfl) hP hKp ⟨Nat.zero_le _, Nat.zero_le _⟩ rfl hl.1 rfl (Nat.le_of_ble_eq_true rfl) dX5_goes_134 ?_
          refine lv_if_eq (tgt := 147) hx hb dX5_goes_137 (by decide) (fun c_137 => ?_) (fun c_137 => ?_)
          · replace hr := hr.trans (if_pos c_137)
            refine lv_lconst (v := (0 : Int64)) hx hb dX5_goes_147 lc_0 ?_
            refine lv_ladd hx hb dX5_goes_148 ?_
            refine mp_0_18 (v := ((dm_ip d) + (0 : Int64))) hx hb hts hown hK hI hP hS (hts _ q689) dX5_goes_149 (fun d6 ed6 H locs hP hS => ?_)
            replace hr := hr.trans (bnd_eq ed6)
            refine lv_goto (tgt := 203) hx hb dX5_goes_152 (by decide) ?_
            exact g_endUv (Pic := (fun u => mB D ad ca K u)) (u := d6) hF hQ hr hP hS dX5_goes_203
          · replace hr := hr.trans (if_neg c_137)
            refine lv_aload_n hx hb dX5_goes_140 rfl (lv_at hl 0 rfl) ?_
            refine mg_0_38 hx hb hts hown hK hP (hts _ q709) dX5_goes_141 ?_
            refine lv_goto (tgt := 148) hx hb dX5_goes_144 (by decide) ?_
            refine lv_ladd hx hb dX5_goes_148 ?_
            refine mp_0_18 (v := ((dm_ip d) + (km_number K))) hx hb hts hown hK hI hP hS (hts _ q689) dX5_goes_149 (fun d7 ed7 H locs hP hS => ?_)
            replace hr := hr.trans (bnd_eq ed7)
            refine lv_goto (tgt := 203) hx hb dX5_goes_152 (by decide) ?_
            exact g_endUv (Pic := (fun u => mB D ad ca K u)) (u := d7) hF hQ hr hP hS dX5_goes_203
      · replace hr := hr.trans (if_pos c_78)
        refine lv_aload_n hx hb dX5_goes_81 rfl (lv_at hl 0 rfl) ?_
        refine lv_aload_n hx hb dX5_goes_82 rfl (lv_at hl 0 rfl) ?_
        obtain ⟨g8, eg8⟩ : ∃ z, z = m_pop K d := ⟨_, rfl⟩
        replace hr := hr.trans (bnd_eq eg8)
        refine g_UV1 (As := []) (rest := [.ref (ad 0)]) hC (m_X5_pop hI (K := K) (d := d)  g8 eg8 hgd) (cwV 0 hts cw_X5_299 rfl rfl rfl hd_X5_pop ⟨Nat.le_of_ble_eq_true rfl, Nat.le_of_ble_eq_true rfl⟩) mKst (va_recv hK hP (ci := 5) (q0 := 0) rfl rfl) hP hKp ⟨Nat.zero_le _, Nat.zero_le _⟩ hS (fun _ h => h) rfl hl.1 rfl (Nat.le_of_ble_eq_true rfl) dX5_goes_83 (fun H locs hP hS => ?_)
        have hP : va_P D xcl (MW ad ca K g8.2) H := hP
        refine mp_0_18 (v := g8.1) hx hb hts hown hK hI hP hS (hts _ q689) dX5_goes_86 (fun d9 ed9 H locs hP hS => ?_)
        replace hr := hr.trans (bnd_eq ed9)
        refine lv_aload_n hx hb dX5_goes_89 rfl (lv_at hl 0 rfl) ?_
        refine mg_0_16 hx hb hts hown hK hP (hts _ q687) dX5_goes_90 ?_
        refine lv_iconst (v := (4 : Int32)) hx hb dX5_goes_93 ic_4 ?_
        refine lv_dup2_11 hx hb dX5_goes_94 rfl rfl ?_
        refine ml_7 hx hb hK hP (show ¬ ((4 : Int32) < 0 ∨ 16 ≤ (4 : Int32).toNatClampNeg) by decide) dX5_goes_95 ?_
        refine lv_aload_n hx hb dX5_goes_96 rfl (lv_at hl 0 rfl) ?_
        refine lv_iconst (v := (0 : Int32)) hx hb dX5_goes_97 ic_0 ?_
        refine g_RV (As := [.int (0 : Int32)]) (rest := [.long ((dm_regs d9) (4 : Int32).toNatClampNeg), .int (4 : Int32), .ref (ad 7)]) hC (m_X5_kindAt (K := K) (d := d9) (0 : Int32) _ rfl (show ¬ ((0 : Int32) < 0 ∨ 3 ≤ (0 : Int32).toNatClampNeg) by decide)) (cwV 1 hts cw_X5_194 rfl rfl rfl hd_X5_kindAt ⟨Nat.le_of_ble_eq_true rfl, Nat.le_of_ble_eq_true rfl⟩) mKst (va_recv hK hP (ci := 5) (q0 := 0) rfl rfl) hP hKp ⟨Nat.zero_le _, Nat.zero_le _⟩ rfl hl.1 rfl (Nat.le_of_ble_eq_true rfl) dX5_goes_98 ?_
        refine lv_iconst (v := (3 : Int32)) hx hb dX5_goes_101 ic_3 ?_
        refine lv_icmp_ne (tgt := 112) hx hb dX5_goes_102 (by decide) (fun c_102 => ?_) (fun c_102 => ?_)
        · replace hr := hr.trans (if_neg c_102)
          refine lv_lconst (v := (0 : Int64)) hx hb dX5_goes_112 lc_0 ?_
          refine lv_ladd hx hb dX5_goes_113 ?_
          refine ms_7 hx hb hK hI hP hS (show ¬ ((4 : Int32) < 0 ∨ 16 ≤ (4 : Int32).toNatClampNeg) by decide) dX5_goes_114 (fun d10 ed10 H locs hP hS => ?_)
          replace hr := hr.trans (bnd_eq ed10)
          refine lv_goto (tgt := 203) hx hb dX5_goes_115 (by decide) ?_
          exact g_endUv (Pic := (fun u => mB D ad ca K u)) (u := d10) hF hQ hr hP hS dX5_goes_203
        · replace hr := hr.trans (if_pos c_102)
          refine lv_aload_n hx hb dX5_goes_105 rfl (lv_at hl 0 rfl) ?_
          refine mg_0_38 hx hb hts hown hK hP (hts _ q709) dX5_goes_106 ?_
          refine lv_goto (tgt := 113) hx hb dX5_goes_109 (by decide) ?_
          refine lv_ladd hx hb dX5_goes_113 ?_
          refine ms_7 hx hb hK hI hP hS (show ¬ ((4 : Int32) < 0 ∨ 16 ≤ (4 : Int32).toNatClampNeg) by decide) dX5_goes_114 (fun d11 ed11 H locs hP hS => ?_)
          replace hr := hr.trans (bnd_eq ed11)
          refine lv_goto (tgt := 203) hx hb dX5_goes_115 (by decide) ?_
          exact g_endUv (Pic := (fun u => mB D ad ca K u)) (u := d11) hF hQ hr hP hS dX5_goes_203
    · replace hr := hr.trans (if_pos c_39)
      refine lv_aload_n hx hb dX5_goes_42 rfl (lv_at hl 0 rfl) ?_
      obtain ⟨g12, eg12⟩ : ∃ z, z = m_pop K d := ⟨_, rfl⟩
      replace hr := hr.trans (bnd_eq eg12)
      refine g_UV1 (As := []) (rest := []) hC (m_X5_pop hI (K := K) (d := d)  g12 eg12 hgd) (cwV 0 hts cw_X5_299 rfl rfl rfl hd_X5_pop ⟨Nat.le_of_ble_eq_true rfl, Nat.le_of_ble_eq_true rfl⟩) mKst (va_recv hK hP (ci := 5) (q0 := 0) rfl rfl) hP hKp ⟨Nat.zero_le _, Nat.zero_le _⟩ hS (fun _ h => h) rfl hl.1 rfl (Nat.le_of_ble_eq_true rfl) dX5_goes_43 (fun H locs hP hS => ?_)
      have hP : va_P D xcl (MW ad ca K g12.2) H := hP
      refine lv_lstore_n (lv' := [(2, .long g12.1), (0, .ref (ad 0)), (1, .int o)]) hx hb dX5_goes_46 rfl hl (by decide) rfl (fun ls hl => ?_)
      refine lv_aload_n hx hb dX5_goes_47 rfl (lv_at hl 1 rfl) ?_
      refine lv_iconst (v := (0 : Int32)) hx hb dX5_goes_48 ic_0 ?_
      refine g_RV (As := [.int (0 : Int32)]) (rest := []) hC (m_X5_kindAt (K := K) (d := g12.2) (0 : Int32) _ rfl (show ¬ ((0 : Int32) < 0 ∨ 3 ≤ (0 : Int32).toNatClampNeg) by decide)) (cwV 1 hts cw_X5_194 rfl rfl rfl hd_X5_kindAt ⟨Nat.le_of_ble_eq_true rfl, Nat.le_of_ble_eq_true rfl⟩) mKst (va_recv hK hP (ci := 5) (q0 := 0) rfl rfl) hP hKp ⟨Nat.zero_le _, Nat.zero_le _⟩ rfl hl.1 rfl (Nat.le_of_ble_eq_true rfl) dX5_goes_49 ?_
      refine lv_iconst (v := (2 : Int32)) hx hb dX5_goes_52 ic_2 ?_
      obtain ⟨p13, ep13⟩ : ∃ z : MD, z = (if (m_kindAt K (0 : Int32)) = (2 : Int32) then (bnd (dm_operandAt_ (m_addressNow K g12.2) g12.2) fun d14 => d14) else g12.2) := ⟨_, rfl⟩
      replace hr := hr.trans (bnd_eq ep13)
      have kp13 : ∀ (H : Heap) (locs : List Loc) (ls : Array Slot), va_P D xcl (MW ad ca K p13) H → va_S (mA ad) s.heap H locs → lv_has ls 4 [(2, .long g12.1), (0, .ref (ad 0)), (1, .int o)] → W p l e rm_X5_goes s m args below meth c H locs 0 0 Q (F0 m 64 ls []) := by
        intro H locs ls hP hS hl
        refine lv_aload_n hx hb dX5_goes_64 rfl (lv_at hl 1 rfl) ?_
        refine lv_iconst (v := (0 : Int32)) hx hb dX5_goes_65 ic_0 ?_
        refine lv_bipush (v := (8 : Int32)) hx hb dX5_goes_66 bp_8 ?_
        refine lv_lload_n hx hb dX5_goes_68 rfl (lv_at hl 0 rfl) ?_
        obtain ⟨g15, eg15⟩ : ∃ z, z = m_put K (0 : Int32) (8 : Int32) g12.1 p13 := ⟨_, rfl⟩
        replace hr := hr.trans (bnd_eq eg15)
        refine g_UV0 (As := [.int (0 : Int32), .int (8 : Int32), .long g12.1]) (rest := []) hC (m_X5_put hI (K := K) (d := p13) (0 : Int32) (8 : Int32) g12.1 g15 eg15 (show ¬ ((0 : Int32) < 0 ∨ 3 ≤ (0 : Int32).toNatClampNeg) by decide) hgd) (cwV 3 hts cw_X5_268 rfl rfl rfl hd_X5_put ⟨Nat.le_of_ble_eq_true rfl, Nat.le_of_ble_eq_true rfl⟩) mKst (va_recv hK hP (ci := 5) (q0 := 0) rfl rfl) hP hKp ⟨Nat.zero_le _, Nat.zero_le _⟩ hS (fun _ h => h) rfl hl.1 rfl (Nat.le_of_ble_eq_true rfl) dX5_goes_69 (fun H locs hP hS => ?_)
        have hP : va_P D xcl (MW ad ca K g15) H := hP
        refine lv_goto (tgt := 203) hx hb dX5_goes_72 (by decide) ?_
        exact g_endUv (Pic := (fun u => mB D ad ca K u)) (u := g15) hF hQ hr hP hS dX5_goes_203
      replace hr := ep13
      refine lv_icmp_ne (tgt := 64) hx hb dX5_goes_53 (by decide) (fun c_53 => ?_) (fun c_53 => ?_)
      · replace hr := hr.trans (if_neg c_53)
        subst hr
        exact kp13 _ _ ls hP hS (lv_sub hl [0, 1, 2] rfl)
      · replace hr := hr.trans (if_pos c_53)
        refine lv_aload_n hx hb dX5_goes_56 rfl (lv_at hl 1 rfl) ?_
        refine lv_aload_n hx hb dX5_goes_57 rfl (lv_at hl 1 rfl) ?_
        refine g_RV (As := []) (rest := [.ref (ad 0)]) hC (m_X5_addressNow (K := K) (d := g12.2)  _ rfl (hgd.2.2 0 v3_0 c_53)) (cwV 0 hts cw_X5_271 rfl rfl rfl hd_X5_addressNow ⟨Nat.le_of_ble_eq_true rfl, Nat.le_of_ble_eq_true rfl⟩) mKst (va_recv hK hP (ci := 5) (q0 := 0) rfl rfl) hP hKp ⟨Nat.zero_le _, Nat.zero_le _⟩ rfl hl.1 rfl (Nat.le_of_ble_eq_true rfl) dX5_goes_58 ?_
        refine mp_0_29 (v := (m_addressNow K g12.2)) hx hb hts hown hK hI hP hS (hts _ q700) dX5_goes_61 (fun d14 ed14 H locs hP hS => ?_)
        replace hr := hr.trans (bnd_eq ed14)
        subst hr
        exact kp13 _ _ ls hP hS (lv_sub hl [0, 1, 2] rfl)
  · replace hr := hr.trans (if_pos c_3)
    refine lv_aload_n hx hb dX5_goes_6 rfl (lv_at hl 0 rfl) ?_
    refine lv_aload_n hx hb dX5_goes_7 rfl (lv_at hl 0 rfl) ?_
    refine lv_iconst (v := (0 : Int32)) hx hb dX5_goes_8 ic_0 ?_
    refine g_RV (As := [.int (0 : Int32)]) (rest := [.ref (ad 0)]) hC (m_X5_kindAt (K := K) (d := d) (0 : Int32) _ rfl (show ¬ ((0 : Int32) < 0 ∨ 3 ≤ (0 : Int32).toNatClampNeg) by decide)) (cwV 1 hts cw_X5_194 rfl rfl rfl hd_X5_kindAt ⟨Nat.le_of_ble_eq_true rfl, Nat.le_of_ble_eq_true rfl⟩) mKst (va_recv hK hP (ci := 5) (q0 := 0) rfl rfl) hP hKp ⟨Nat.zero_le _, Nat.zero_le _⟩ rfl hl.1 rfl (Nat.le_of_ble_eq_true rfl) dX5_goes_9 ?_
    refine lv_iconst (v := (3 : Int32)) hx hb dX5_goes_12 ic_3 ?_
    refine lv_icmp_ne (tgt := 23) hx hb dX5_goes_13 (by decide) (fun c_13 => ?_) (fun c_13 => ?_)
    · replace hr := hr.trans (if_neg c_13)
      refine lv_aload_n hx hb dX5_goes_23 rfl (lv_at hl 0 rfl) ?_
      refine lv_iconst (v := (0 : Int32)) hx hb dX5_goes_24 ic_0 ?_
      refine lv_bipush (v := (8 : Int32)) hx hb dX5_goes_25 bp_8 ?_
      obtain ⟨g16, eg16⟩ : ∃ z, z = m_take K (0 : Int32) (8 : Int32) d := ⟨_, rfl⟩
      replace hr := hr.trans (bnd_eq eg16)
      refine g_UV1 (As := [.int (0 : Int32), .int (8 : Int32)]) (rest := [.ref (ad 0)]) hC (m_X5_take hI (K := K) (d := d) (0 : Int32) (8 : Int32) g16 eg16 (show ¬ ((0 : Int32) < 0 ∨ 3 ≤ (0 : Int32).toNatClampNeg) by decide) hgd) (cwV 2 hts cw_X5_257 rfl rfl rfl hd_X5_take ⟨Nat.le_of_ble_eq_true rfl, Nat.le_of_ble_eq_true rfl⟩) mKst (va_recv hK hP (ci := 5) (q0 := 0) rfl rfl) hP hKp ⟨Nat.zero_le _, Nat.zero_le _⟩ hS (fun _ h => h) rfl hl.1 rfl (Nat.le_of_ble_eq_true rfl) dX5_goes_27 (fun H locs hP hS => ?_)
      have hP : va_P D xcl (MW ad ca K g16.2) H := hP
      obtain ⟨g17, eg17⟩ : ∃ z, z = m_push K g16.1 g16.2 := ⟨_, rfl⟩
      replace hr := hr.trans (bnd_eq eg17)
      refine g_UV0 (As := [.long g16.1]) (rest := []) hC (m_X5_push hI (K := K) (d := g16.2) g16.1 g17 eg17 hgd) (cwV 1 hts cw_X5_296 rfl rfl rfl hd_X5_push ⟨Nat.le_of_ble_eq_true rfl, Nat.le_of_ble_eq_true rfl⟩) mKst (va_recv hK hP (ci := 5) (q0 := 0) rfl rfl) hP hKp ⟨Nat.zero_le _, Nat.zero_le _⟩ hS (fun _ h => h) rfl hl.1 rfl (Nat.le_of_ble_eq_true rfl) dX5_goes_30 (fun H locs hP hS => ?_)
      have hP : va_P D xcl (MW ad ca K g17) H := hP
      refine lv_goto (tgt := 203) hx hb dX5_goes_33 (by decide) ?_
      exact g_endUv (Pic := (fun u => mB D ad ca K u)) (u := g17) hF hQ hr hP hS dX5_goes_203
    · replace hr := hr.trans (if_pos c_13)
      refine lv_aload_n hx hb dX5_goes_16 rfl (lv_at hl 0 rfl) ?_
      refine mg_0_38 hx hb hts hown hK hP (hts _ q709) dX5_goes_17 ?_
      refine lv_goto (tgt := 30) hx hb dX5_goes_20 (by decide) ?_
      obtain ⟨g18, eg18⟩ : ∃ z, z = m_push K (km_number K) d := ⟨_, rfl⟩
      replace hr := hr.trans (bnd_eq eg18)
      refine g_UV0 (As := [.long (km_number K)]) (rest := []) hC (m_X5_push hI (K := K) (d := d) (km_number K) g18 eg18 hgd) (cwV 1 hts cw_X5_296 rfl rfl rfl hd_X5_push ⟨Nat.le_of_ble_eq_true rfl, Nat.le_of_ble_eq_true rfl⟩) mKst (va_recv hK hP (ci := 5) (q0 := 0) rfl rfl) hP hKp ⟨Nat.zero_le _, Nat.zero_le _⟩ hS (fun _ h => h) rfl hl.1 rfl (Nat.le_of_ble_eq_true rfl) dX5_goes_30 (fun H locs hP hS => ?_)
      have hP : va_P D xcl (MW ad ca K g18) H := hP
      refine lv_goto (tgt := 203) hx hb dX5_goes_33 (by decide) ?_
      exact g_endUv (Pic := (fun u => mB D ad ca K u)) (u := g18) hF hQ hr hP hS dX5_goes_203
def m_spread (o : Int32) (sz : Int32) (d : MD) : MD := bnd (α := Int64) (((dm_regs d) (0 : Int32).toNatClampNeg)) fun v1 => if o = (37 : Int32) then (if (m_upper v1 sz) = (1 : Int64) then (bnd (m_setRegister (2 : Int32) sz (-1 : Int64) d) fun g5 => g5) else (bnd (m_setRegister (2 : Int32) sz (0 : Int64) d) fun g4 => g4)) else (if sz = (4 : Int32) then (bnd (m_setRegister (0 : Int32) sz (((v1.toInt32).toInt16.toInt32).toInt64) d) fun g3 => g3) else (bnd (m_setRegister (0 : Int32) sz ((v1.toInt32).toInt64) d) fun g2 => g2))
abbrev rm_X5_spread : Room := { frames := 1, cells := 0, slots := 0, locals := 24 }
set_option maxHeartbeats 4000000 in
set_option maxRecDepth 100000 in
theorem m_X5_spread {l : Launch} {D : va_G} {ad : Nat → Nat} {ca : Nat → ClassId} (hI : mInj ad) {K : MK} {d : MD} (o : Int32) (sz : Int32) (RES : MD) (hr : RES = m_spread o sz d) : g_U l yX5_spread (ws_ yX5_spread cX5_spread 5 none) rm_X5_spread [.ref (ad 0), .int o, .int sz] (mKp D ca) (mB D ad ca K d) none (mB D ad ca K RES) (mA ad) := by
  refine g_ofU (by decide) (Nat.le_of_ble_eq_true rfl) ?_
  intro p e s m args below meth c ls Q hF hB hKp hl hQ
  obtain ⟨hx, hb, -, -, hml, hown, hts⟩ := id hF
  have hown : s.vm.findClass RX5 = some m.cls := hown
  have hC : CallFix p m c cX5_spread 5 s args lw_all RX5 := ⟨hx, hb, hml, hown, hts⟩
  have hK : va_K D xcl (mtys ca) s := hKp
  have hP : va_P D xcl (MW ad ca K d) s.heap := hB
  have hS : va_S (mA ad) s.heap s.heap [] := va_S.rf
  have hl : lv_has ls 5 [(0, .ref (ad 0)), (1, .int o), (2, .int sz)] := hl
  unfold m_spread at hr
  refine lv_aload_n hx hb dX5_spread_0 rfl (lv_at hl 0 rfl) ?_
  refine mg_0_16 hx hb hts hown hK hP (hts _ q687) dX5_spread_1 ?_
  refine lv_iconst (v := (0 : Int32)) hx hb dX5_spread_4 ic_0 ?_
  refine ml_7 hx hb hK hP (show ¬ ((0 : Int32) < 0 ∨ 16 ≤ (0 : Int32).toNatClampNeg) by decide) dX5_spread_5 ?_
  refine lv_topl (fun v1 ev1 => ?_)
  replace hr := hr.trans (bnd_eq ev1)
  refine lv_lstore_n (lv' := [(3, .long v1), (0, .ref (ad 0)), (1, .int o), (2, .int sz)]) hx hb dX5_spread_6 rfl hl (by decide) rfl (fun ls hl => ?_)
  refine lv_iload_n hx hb dX5_spread_7 rfl (lv_at hl 2 rfl) ?_
  refine lv_bipush (v := (37 : Int32)) hx hb dX5_spread_8 bp_37 ?_
  refine lv_icmp_ne (tgt := 39) hx hb dX5_spread_10 (by decide) (fun c_10 => ?_) (fun c_10 => ?_)
  · replace hr := hr.trans (if_neg c_10)
    refine lv_aload_n hx hb dX5_spread_39 rfl (lv_at hl 1 rfl) ?_
    refine lv_iconst (v := (0 : Int32)) hx hb dX5_spread_40 ic_0 ?_
    refine lv_iload_n hx hb dX5_spread_41 rfl (lv_at hl 3 rfl) ?_
    refine lv_iload_n hx hb dX5_spread_42 rfl (lv_at hl 3 rfl) ?_
    refine lv_iconst (v := (4 : Int32)) hx hb dX5_spread_43 ic_4 ?_
    refine lv_icmp_ne (tgt := 54) hx hb dX5_spread_44 (by decide) (fun c_44 => ?_) (fun c_44 => ?_)
    · replace hr := hr.trans (if_neg c_44)
      refine lv_lload_n hx hb dX5_spread_54 rfl (lv_at hl 0 rfl) ?_
      refine lv_l2i (v := v1.toInt32) hx hb dX5_spread_55 rfl ?_
      refine lv_i2l (v := (v1.toInt32).toInt64) hx hb dX5_spread_56 rfl ?_
      obtain ⟨g2, eg2⟩ : ∃ z, z = m_setRegister (0 : Int32) sz ((v1.toInt32).toInt64) d := ⟨_, rfl⟩
      replace hr := hr.trans (bnd_eq eg2)
      refine g_UV0 (As := [.int (0 : Int32), .int sz, .long ((v1.toInt32).toInt64)]) (rest := []) hC (m_X5_setRegister hI (K := K) (d := d) (0 : Int32) sz ((v1.toInt32).toInt64) g2 eg2 (show ¬ ((0 : Int32) < 0 ∨ 16 ≤ (0 : Int32).toNatClampNeg) by decide)) (cwV 3 hts cw_X5_212 rfl rfl rfl hd_X5_setRegister ⟨Nat.le_of_ble_eq_true rfl, Nat.le_of_ble_eq_true rfl⟩) mKst (va_recv hK hP (ci := 5) (q0 := 0) rfl rfl) hP hKp ⟨Nat.zero_le _, Nat.zero_le _⟩ hS (fun _ h => h) rfl hl.1 rfl (Nat.le_of_ble_eq_true rfl) dX5_spread_57 (fun H locs hP hS => ?_)
      have hP : va_P D xcl (MW ad ca K g2) H := hP
      exact g_endUv (Pic := (fun u => mB D ad ca K u)) (u := g2) hF hQ hr hP hS dX5_spread_60
    · replace hr := hr.trans (if_pos c_44)
      refine lv_lload_n hx hb dX5_spread_47 rfl (lv_at hl 0 rfl) ?_
      refine lv_l2i (v := v1.toInt32) hx hb dX5_spread_48 rfl ?_
      refine lv_i2s (v := (v1.toInt32).toInt16.toInt32) hx hb dX5_spread_49 rfl ?_
      refine lv_i2l (v := ((v1.toInt32).toInt16.toInt32).toInt64) hx hb dX5_spread_50 rfl ?_
      refine lv_goto (tgt := 57) hx hb dX5_spread_51 (by decide) ?_
      obtain ⟨g3, eg3⟩ : ∃ z, z = m_setRegister (0 : Int32) sz (((v1.toInt32).toInt16.toInt32).toInt64) d := ⟨_, rfl⟩
      replace hr := hr.trans (bnd_eq eg3)
      refine g_UV0 (As := [.int (0 : Int32), .int sz, .long (((v1.toInt32).toInt16.toInt32).toInt64)]) (rest := []) hC (m_X5_setRegister hI (K := K) (d := d) (0 : Int32) sz (((v1.toInt32).toInt16.toInt32).toInt64) g3 eg3 (show ¬ ((0 : Int32) < 0 ∨ 16 ≤ (0 : Int32).toNatClampNeg) by decide)) (cwV 3 hts cw_X5_212 rfl rfl rfl hd_X5_setRegister ⟨Nat.le_of_ble_eq_true rfl, Nat.le_of_ble_eq_true rfl⟩) mKst (va_recv hK hP (ci := 5) (q0 := 0) rfl rfl) hP hKp ⟨Nat.zero_le _, Nat.zero_le _⟩ hS (fun _ h => h) rfl hl.1 rfl (Nat.le_of_ble_eq_true rfl) dX5_spread_57 (fun H locs hP hS => ?_)
      have hP : va_P D xcl (MW ad ca K g3) H := hP
      exact g_endUv (Pic := (fun u => mB D ad ca K u)) (u := g3) hF hQ hr hP hS dX5_spread_60
  · replace hr := hr.trans (if_pos c_10)
    refine lv_aload_n hx hb dX5_spread_13 rfl (lv_at hl 1 rfl) ?_
    refine lv_iconst (v := (2 : Int32)) hx hb dX5_spread_14 ic_2 ?_
    refine lv_iload_n hx hb dX5_spread_15 rfl (lv_at hl 3 rfl) ?_
    refine lv_lload_n hx hb dX5_spread_16 rfl (lv_at hl 0 rfl) ?_
    refine lv_iload_n hx hb dX5_spread_17 rfl (lv_at hl 3 rfl) ?_
    refine g_RS (As := [.long v1, .int sz]) (rest := [.int sz, .int (2 : Int32), .ref (ad 0)]) hC (m_X5_upper v1 sz _ rfl) (va_cwS 2 hts cw_X5_224 rfl rfl rfl hd_X5_upper ⟨Nat.le_of_ble_eq_true rfl, Nat.le_of_ble_eq_true rfl⟩) g_Kst0 trivial trivial ⟨Nat.zero_le _, Nat.zero_le _⟩ rfl hl.1 rfl (Nat.le_of_ble_eq_true rfl) dX5_spread_18 ?_
    refine lv_lconst (v := (1 : Int64)) hx hb dX5_spread_21 lc_1 ?_
    refine lq_ne (tgt := 32) hx hb dX5_spread_22 dX5_spread_23 (by decide) (fun c_22 => ?_) (fun c_22 => ?_)
    · replace hr := hr.trans (if_neg c_22)
      refine lv_lconst (v := (0 : Int64)) hx hb dX5_spread_32 lc_0 ?_
      obtain ⟨g4, eg4⟩ : ∃ z, z = m_setRegister (2 : Int32) sz (0 : Int64) d := ⟨_, rfl⟩
      replace hr := hr.trans (bnd_eq eg4)
      refine g_UV0 (As := [.int (2 : Int32), .int sz, .long (0 : Int64)]) (rest := []) hC (m_X5_setRegister hI (K := K) (d := d) (2 : Int32) sz (0 : Int64) g4 eg4 (show ¬ ((2 : Int32) < 0 ∨ 16 ≤ (2 : Int32).toNatClampNeg) by decide)) (cwV 3 hts cw_X5_212 rfl rfl rfl hd_X5_setRegister ⟨Nat.le_of_ble_eq_true rfl, Nat.le_of_ble_eq_true rfl⟩) mKst (va_recv hK hP (ci := 5) (q0 := 0) rfl rfl) hP hKp ⟨Nat.zero_le _, Nat.zero_le _⟩ hS (fun _ h => h) rfl hl.1 rfl (Nat.le_of_ble_eq_true rfl) dX5_spread_33 (fun H locs hP hS => ?_)
      have hP : va_P D xcl (MW ad ca K g4) H := hP
      refine lv_goto (tgt := 60) hx hb dX5_spread_36 (by decide) ?_
      exact g_endUv (Pic := (fun u => mB D ad ca K u)) (u := g4) hF hQ hr hP hS dX5_spread_60
    · replace hr := hr.trans (if_pos c_22)
      refine lv_ldc2 hx hb hown (hts _ q963) dX5_spread_26 ?_
      refine lv_goto (tgt := 33) hx hb dX5_spread_29 (by decide) ?_
      obtain ⟨g5, eg5⟩ : ∃ z, z = m_setRegister (2 : Int32) sz (-1 : Int64) d := ⟨_, rfl⟩
      replace hr := hr.trans (bnd_eq eg5)
      refine g_UV0 (As := [.int (2 : Int32), .int sz, .long (-1 : Int64)]) (rest := []) hC (m_X5_setRegister hI (K := K) (d := d) (2 : Int32) sz (-1 : Int64) g5 eg5 (show ¬ ((2 : Int32) < 0 ∨ 16 ≤ (2 : Int32).toNatClampNeg) by decide)) (cwV 3 hts cw_X5_212 rfl rfl rfl hd_X5_setRegister ⟨Nat.le_of_ble_eq_true rfl, Nat.le_of_ble_eq_true rfl⟩) mKst (va_recv hK hP (ci := 5) (q0 := 0) rfl rfl) hP hKp ⟨Nat.zero_le _, Nat.zero_le _⟩ hS (fun _ h => h) rfl hl.1 rfl (Nat.le_of_ble_eq_true rfl) dX5_spread_33 (fun H locs hP hS => ?_)
      have hP : va_P D xcl (MW ad ca K g5) H := hP
      refine lv_goto (tgt := 60) hx hb dX5_spread_36 (by decide) ?_
      exact g_endUv (Pic := (fun u => mB D ad ca K u)) (u := g5) hF hQ hr hP hS dX5_spread_60
def m_bits_L150 (K : MK) (o : Int32) (sz : Int32) (g1 : Int64 × MD) : Nat → Int32 → Int32 → MD → MD
  | 0, w150_5, w150_6, dl150 => dl150
  | n + 1, w150_5, w150_6, dl150 => bnd (α := Bool) (if (64 : Int32) ≤ w150_6 then false else (if ((lushr_ g1.1 w150_5) &&& (1 : Int64)) = (0 : Int64) then true else false)) fun b5 => if b5 = true then (if o = (44 : Int32) then (bnd (α := Int32) ((w150_5 + (1 : Int32))) fun v8 => bnd (α := Int32) ((w150_6 + (1 : Int32))) fun v9 => m_bits_L150 K o sz g1 n v8 v9 dl150) else (bnd (α := Int32) ((w150_5 + (-1 : Int32))) fun v6 => bnd (α := Int32) ((w150_6 + (1 : Int32))) fun v7 => m_bits_L150 K o sz g1 n v6 v7 dl150)) else (bnd (m_put K (0 : Int32) sz (w150_5.toInt64) dl150) fun g10 => g10)
theorem m_bits_L150_s (K : MK) (o : Int32) (sz : Int32) (g1 : Int64 × MD) (n : Nat) (w150_5 : Int32) (w150_6 : Int32) (dl150 : MD) : m_bits_L150 K o sz g1 (n + 1) w150_5 w150_6 dl150 = bnd (α := Bool) (if (64 : Int32) ≤ w150_6 then false else (if ((lushr_ g1.1 w150_5) &&& (1 : Int64)) = (0 : Int64) then true else false)) fun b5 => if b5 = true then (if o = (44 : Int32) then (bnd (α := Int32) ((w150_5 + (1 : Int32))) fun v8 => bnd (α := Int32) ((w150_6 + (1 : Int32))) fun v9 => m_bits_L150 K o sz g1 n v8 v9 dl150) else (bnd (α := Int32) ((w150_5 + (-1 : Int32))) fun v6 => bnd (α := Int32) ((w150_6 + (1 : Int32))) fun v7 => m_bits_L150 K o sz g1 n v6 v7 dl150)) else (bnd (m_put K (0 : Int32) sz (w150_5.toInt64) dl150) fun g10 => g10) := rfl
def m_bits_L19 (K : MK) (sz : Int32) (g14 : Int64 × MD) : Nat → Int64 → Int32 → MD → MD
  | 0, w19_5, w19_7, dl19 => dl19
  | n + 1, w19_5, w19_7, dl19 => if sz ≤ w19_7 then (bnd (m_put K (0 : Int32) sz w19_5 dl19) fun g15 => g15) else (bnd (α := Int64) (((lshl_ w19_5 (8 : Int32)) ||| ((lshr_ g14.1 ((8 : Int32) * w19_7)) &&& (255 : Int64)))) fun v16 => bnd (α := Int32) ((w19_7 + (1 : Int32))) fun v17 => m_bits_L19 K sz g14 n v16 v17 dl19)
theorem m_bits_L19_s (K : MK) (sz : Int32) (g14 : Int64 × MD) (n : Nat) (w19_5 : Int64) (w19_7 : Int32) (dl19 : MD) : m_bits_L19 K sz g14 (n + 1) w19_5 w19_7 dl19 = if sz ≤ w19_7 then (bnd (m_put K (0 : Int32) sz w19_5 dl19) fun g15 => g15) else (bnd (α := Int64) (((lshl_ w19_5 (8 : Int32)) ||| ((lshr_ g14.1 ((8 : Int32) * w19_7)) &&& (255 : Int64)))) fun v16 => bnd (α := Int32) ((w19_7 + (1 : Int32))) fun v17 => m_bits_L19 K sz g14 n v16 v17 dl19) := rfl
def m_bits (K : MK) (o : Int32) (sz : Int32) (d : MD) : MD := if o = (46 : Int32) then (bnd (m_take K (0 : Int32) sz d) fun g14 => m_bits_L19 K sz g14 (mI (0 : Int32) sz + 1) (0 : Int64) (0 : Int32) g14.2) else (bnd (m_take K (1 : Int32) sz d) fun g1 => if o = (47 : Int32) then (bnd (m_take K (0 : Int32) sz g1.2) fun g11 => if ((lushr_ g11.1 ((g1.1 &&& ((((8 : Int32) * sz) - (1 : Int32)).toInt64)).toInt32)) &&& (1 : Int64)) = (1 : Int64) then (bnd (dm_carry_ true g11.2) fun d13 => d13) else (bnd (dm_carry_ false g11.2) fun d12 => d12)) else (bnd (α := Bool) (if g1.1 = (0 : Int64) then true else false) fun p2 => bnd (dm_zero_ p2 g1.2) fun d3 => if (b2i (dm_zero d3)) = 0 then (bnd (α := Int32) (if o = (44 : Int32) then (0 : Int32) else (63 : Int32)) fun p4 => m_bits_L150 K o sz g1 (mI (0 : Int32) (64 : Int32) + 1) p4 (0 : Int32) d3) else d3))
abbrev rm_X5_bits : Room := { frames := 4, cells := 0, slots := 0, locals := 99 }
set_option maxHeartbeats 4000000 in
set_option maxRecDepth 100000 in
theorem m_X5_bits {l : Launch} {D : va_G} {ad : Nat → Nat} {ca : Nat → ClassId} (hI : mInj ad) {K : MK} {d : MD} (o : Int32) (sz : Int32) (RES : MD) (hr : RES = m_bits K o sz d) (hgd : MGd K) : g_U l yX5_bits (ws_ yX5_bits cX5_bits 8 none) rm_X5_bits [.ref (ad 0), .int o, .int sz] (mKp D ca) (mB D ad ca K d) none (mB D ad ca K RES) (mA ad) := by
  refine g_ofU (by decide) (Nat.le_of_ble_eq_true rfl) ?_
  intro p e s m args below meth c ls Q hF hB hKp hl hQ
  obtain ⟨hx, hb, -, -, hml, hown, hts⟩ := id hF
  have hown : s.vm.findClass RX5 = some m.cls := hown
  have hC : CallFix p m c cX5_bits 8 s args lw_all RX5 := ⟨hx, hb, hml, hown, hts⟩
  have hK : va_K D xcl (mtys ca) s := hKp
  have hP : va_P D xcl (MW ad ca K d) s.heap := hB
  have hS : va_S (mA ad) s.heap s.heap [] := va_S.rf
  have hl : lv_has ls 8 [(0, .ref (ad 0)), (1, .int o), (2, .int sz)] := hl
  unfold m_bits at hr
  refine lv_iload_n hx hb dX5_bits_0 rfl (lv_at hl 1 rfl) ?_
  refine lv_bipush (v := (46 : Int32)) hx hb dX5_bits_1 bp_46 ?_
  refine lv_icmp_ne (tgt := 59) hx hb dX5_bits_3 (by decide) (fun c_3 => ?_) (fun c_3 => ?_)
  · replace hr := hr.trans (if_neg c_3)
    refine lv_aload_n hx hb dX5_bits_59 rfl (lv_at hl 0 rfl) ?_
    refine lv_iconst (v := (1 : Int32)) hx hb dX5_bits_60 ic_1 ?_
    refine lv_iload_n hx hb dX5_bits_61 rfl (lv_at hl 2 rfl) ?_
    obtain ⟨g1, eg1⟩ : ∃ z, z = m_take K (1 : Int32) sz d := ⟨_, rfl⟩
    replace hr := hr.trans (bnd_eq eg1)
    refine g_UV1 (As := [.int (1 : Int32), .int sz]) (rest := []) hC (m_X5_take hI (K := K) (d := d) (1 : Int32) sz g1 eg1 (show ¬ ((1 : Int32) < 0 ∨ 3 ≤ (1 : Int32).toNatClampNeg) by decide) hgd) (cwV 2 hts cw_X5_257 rfl rfl rfl hd_X5_take ⟨Nat.le_of_ble_eq_true rfl, Nat.le_of_ble_eq_true rfl⟩) mKst (va_recv hK hP (ci := 5) (q0 := 0) rfl rfl) hP hKp ⟨Nat.zero_le _, Nat.zero_le _⟩ hS (fun _ h => h) rfl hl.1 rfl (Nat.le_of_ble_eq_true rfl) dX5_bits_62 (fun H locs hP hS => ?_)
    have hP : va_P D xcl (MW ad ca K g1.2) H := hP
    refine lv_lstore_n (lv' := [(3, .long g1.1), (0, .ref (ad 0)), (1, .int o), (2, .int sz)]) hx hb dX5_bits_65 rfl hl (by decide) rfl (fun ls hl => ?_)
    refine lv_iload_n hx hb dX5_bits_66 rfl (lv_at hl 2 rfl) ?_
    refine lv_bipush (v := (47 : Int32)) hx hb dX5_bits_67 bp_47 ?_
    refine lv_icmp_ne (tgt := 110) hx hb dX5_bits_69 (by decide) (fun c_69 => ?_) (fun c_69 => ?_)
    · replace hr := hr.trans (if_neg c_69)
      refine lv_aload_n hx hb dX5_bits_110 rfl (lv_at hl 1 rfl) ?_
      refine lv_lload_n hx hb dX5_bits_111 rfl (lv_at hl 0 rfl) ?_
      refine lv_lconst (v := (0 : Int64)) hx hb dX5_bits_112 lc_0 ?_
      obtain ⟨p2, ep2⟩ : ∃ z : Bool, z = (if g1.1 = (0 : Int64) then true else false) := ⟨_, rfl⟩
      replace hr := hr.trans (bnd_eq ep2)
      have kp2 : ∀ (H : Heap) (locs : List Loc) (ls : Array Slot), va_P D xcl (MW ad ca K g1.2) H → va_S (mA ad) s.heap H locs → lv_has ls 8 [(3, .long g1.1), (0, .ref (ad 0)), (1, .int o), (2, .int sz)] → W p l e rm_X5_bits s m args below meth c H locs 0 0 Q (F0 m 122 ls [.int (b2i p2), .ref (ad 0)]) := by
        intro H locs ls hP hS hl
        refine mp_0_23 (v := p2) hx hb hts hown hK hI hP hS (hts _ q694) dX5_bits_122 (fun d3 ed3 H locs hP hS => ?_)
        replace hr := hr.trans (bnd_eq ed3)
        refine lv_aload_n hx hb dX5_bits_125 rfl (lv_at hl 1 rfl) ?_
        refine mg_0_23 hx hb hts hown hK hP (hts _ q694) dX5_bits_126 ?_
        refine lv_if_eq (tgt := 133) hx hb dX5_bits_129 (by decide) (fun c_129 => ?_) (fun c_129 => ?_)
        · replace hr := hr.trans (if_pos c_129)
          refine lv_iload_n hx hb dX5_bits_133 rfl (lv_at hl 2 rfl) ?_
          refine lv_bipush (v := (44 : Int32)) hx hb dX5_bits_134 bp_44 ?_
          obtain ⟨p4, ep4⟩ : ∃ z : Int32, z = (if o = (44 : Int32) then (0 : Int32) else (63 : Int32)) := ⟨_, rfl⟩
          replace hr := hr.trans (bnd_eq ep4)
          have kp4 : ∀ (H : Heap) (locs : List Loc) (ls : Array Slot), va_P D xcl (MW ad ca K d3) H → va_S (mA ad) s.heap H locs → lv_has ls 8 [(3, .long g1.1), (0, .ref (ad 0)), (1, .int o), (2, .int sz)] → W p l e rm_X5_bits s m args below meth c H locs 0 0 Q (F0 m 145 ls [.int p4]) := by
            intro H locs ls hP hS hl
            refine lv_istore (lv' := [(5, .int p4), (3, .long g1.1), (0, .ref (ad 0)), (1, .int o), (2, .int sz)]) hx hb dX5_bits_145 hl (by decide) rfl (fun ls hl => ?_)
            refine lv_iconst (v := (0 : Int32)) hx hb dX5_bits_147 ic_0 ?_
            refine lv_istore (lv' := [(6, .int (0 : Int32)), (5, .int p4), (3, .long g1.1), (0, .ref (ad 0)), (1, .int o), (2, .int sz)]) hx hb dX5_bits_148 hl (by decide) rfl (fun ls hl => ?_)
            have lp150 : ∀ (n : Nat) (w150_5 : Int32) (w150_6 : Int32) (dl150 : MD) (H : Heap) (locs : List Loc) (ls : Array Slot), mI w150_6 (64 : Int32) < n → RES = m_bits_L150 K o sz g1 n w150_5 w150_6 dl150 → va_P D xcl (MW ad ca K dl150) H → va_S (mA ad) s.heap H locs → lv_has ls 8 [(6, .int w150_6), (5, .int w150_5), (3, .long g1.1), (0, .ref (ad 0)), (1, .int o), (2, .int sz)] → W p l e rm_X5_bits s m args below meth c H locs 0 0 Q (F0 m 150 ls []) := by
              intro n
              induction n with
              | zero =>
                intro w150_5 w150_6 dl150 H locs ls hm
                exact absurd hm (Nat.not_lt_zero _)
              | succ n ih =>
                intro w150_5 w150_6 dl150 H locs ls hm  hr hP hS hl
                replace hr := hr.trans (m_bits_L150_s K o sz g1 n w150_5 w150_6 dl150)
                refine lv_iload hx hb dX5_bits_150 (lv_at hl 0 rfl) ?_
                refine lv_bipush (v := (64 : Int32)) hx hb dX5_bits_152 bp_64 ?_
                obtain ⟨b5, eb5⟩ : ∃ z : Bool, z = (if (64 : Int32) ≤ w150_6 then false else (if ((lushr_ g1.1 w150_5) &&& (1 : Int64)) = (0 : Int64) then true else false)) := ⟨_, rfl⟩
                replace hr := hr.trans (bnd_eq eb5)
                have kb5T : b5 = true → W p l e rm_X5_bits s m args below meth c H locs 0 0 Q (F0 m 168 ls []) := by
                  intro hb5
                  replace hr := hr.trans (if_pos hb5)
                  have er := eb5
                  have c_154 : ¬ ((64 : Int32) ≤ w150_6) := fun q => absurd (hb5.symm.trans (er.trans (if_pos q))) (by decide)
                  have er := er.trans (if_neg c_154)
                  have c_164 : ((lushr_ g1.1 w150_5) &&& (1 : Int64)) = (0 : Int64) := Decidable.byContradiction (fun q => absurd (hb5.symm.trans (er.trans (if_neg q))) (by decide))
                  have er := er.trans (if_pos c_164)
                  clear er
                  refine lv_iload hx hb dX5_bits_168 (lv_at hl 1 rfl) ?_
                  refine lv_iload_n hx hb dX5_bits_170 rfl (lv_at hl 4 rfl) ?_
                  refine lv_bipush (v := (44 : Int32)) hx hb dX5_bits_171 bp_44 ?_
                  refine lv_icmp_ne (tgt := 180) hx hb dX5_bits_173 (by decide) (fun c_173 => ?_) (fun c_173 => ?_)
                  · replace hr := hr.trans (if_neg c_173)
                    refine lv_iconst (v := (-1 : Int32)) hx hb dX5_bits_180 ic_m1 ?_
                    refine lv_iadd hx hb dX5_bits_181 ?_
                    refine lv_topi (fun v6 ev6 => ?_)
                    replace hr := hr.trans (bnd_eq ev6)
                    refine lv_istore (lv' := [(5, .int v6), (6, .int w150_6), (3, .long g1.1), (0, .ref (ad 0)), (1, .int o), (2, .int sz)]) hx hb dX5_bits_182 hl (by decide) rfl (fun ls hl => ?_)
                    obtain ⟨v7, ev7⟩ : ∃ z : Int32, z = (w150_6 + (1 : Int32)) := ⟨_, rfl⟩
                    replace hr := hr.trans (bnd_eq ev7)
                    refine lv_iinc (v := v7) (lv' := [(6, .int v7), (5, .int v6), (3, .long g1.1), (0, .ref (ad 0)), (1, .int o), (2, .int sz)]) hx hb dX5_bits_184 hl (k := 1) rfl (by rw [ev7, ← ic_1]) (by decide) rfl (fun ls hl => ?_)
                    refine lv_goto (tgt := 150) hx hb dX5_bits_187 (by decide) ?_
                    exact ih v6 v7 dl150 _ _ ls (mI_dec c_154 hm ev7) hr hP hS (lv_sub hl [0, 1, 2, 3, 4, 5] rfl)
                  · replace hr := hr.trans (if_pos c_173)
                    refine lv_iconst (v := (1 : Int32)) hx hb dX5_bits_176 ic_1 ?_
                    refine lv_goto (tgt := 181) hx hb dX5_bits_177 (by decide) ?_
                    refine lv_iadd hx hb dX5_bits_181 ?_
                    refine lv_topi (fun v8 ev8 => ?_)
                    replace hr := hr.trans (bnd_eq ev8)
                    refine lv_istore (lv' := [(5, .int v8), (6, .int w150_6), (3, .long g1.1), (0, .ref (ad 0)), (1, .int o), (2, .int sz)]) hx hb dX5_bits_182 hl (by decide) rfl (fun ls hl => ?_)
                    obtain ⟨v9, ev9⟩ : ∃ z : Int32, z = (w150_6 + (1 : Int32)) := ⟨_, rfl⟩
                    replace hr := hr.trans (bnd_eq ev9)
                    refine lv_iinc (v := v9) (lv' := [(6, .int v9), (5, .int v8), (3, .long g1.1), (0, .ref (ad 0)), (1, .int o), (2, .int sz)]) hx hb dX5_bits_184 hl (k := 1) rfl (by rw [ev9, ← ic_1]) (by decide) rfl (fun ls hl => ?_)
                    refine lv_goto (tgt := 150) hx hb dX5_bits_187 (by decide) ?_
                    exact ih v8 v9 dl150 _ _ ls (mI_dec c_154 hm ev9) hr hP hS (lv_sub hl [0, 1, 2, 3, 4, 5] rfl)
                have kb5F : ¬ b5 = true → W p l e rm_X5_bits s m args below meth c H locs 0 0 Q (F0 m 190 ls []) := by
                  intro hb5
                  replace hr := hr.trans (if_neg hb5)
                  refine lv_aload_n hx hb dX5_bits_190 rfl (lv_at hl 3 rfl) ?_
                  refine lv_iconst (v := (0 : Int32)) hx hb dX5_bits_191 ic_0 ?_
                  refine lv_iload_n hx hb dX5_bits_192 rfl (lv_at hl 5 rfl) ?_
                  refine lv_iload hx hb dX5_bits_193 (lv_at hl 1 rfl) ?_
                  refine lv_i2l (v := w150_5.toInt64) hx hb dX5_bits_195 rfl ?_
                  obtain ⟨g10, eg10⟩ : ∃ z, z = m_put K (0 : Int32) sz (w150_5.toInt64) dl150 := ⟨_, rfl⟩
                  replace hr := hr.trans (bnd_eq eg10)
                  refine g_UV0 (As := [.int (0 : Int32), .int sz, .long (w150_5.toInt64)]) (rest := []) hC (m_X5_put hI (K := K) (d := dl150) (0 : Int32) sz (w150_5.toInt64) g10 eg10 (show ¬ ((0 : Int32) < 0 ∨ 3 ≤ (0 : Int32).toNatClampNeg) by decide) hgd) (cwV 3 hts cw_X5_268 rfl rfl rfl hd_X5_put ⟨Nat.le_of_ble_eq_true rfl, Nat.le_of_ble_eq_true rfl⟩) mKst (va_recv hK hP (ci := 5) (q0 := 0) rfl rfl) hP hKp ⟨Nat.zero_le _, Nat.zero_le _⟩ hS (fun _ h => h) rfl hl.1 rfl (Nat.le_of_ble_eq_true rfl) dX5_bits_196 (fun H locs hP hS => ?_)
                  have hP : va_P D xcl (MW ad ca K g10) H := hP
                  exact g_endUv (Pic := (fun u => mB D ad ca K u)) (u := g10) hF hQ hr hP hS dX5_bits_199
                replace hr := eb5
                refine lv_icmp_ge (tgt := 190) hx hb dX5_bits_154 (by decide) (fun c_154 => ?_) (fun c_154 => ?_)
                · replace hr := hr.trans (if_pos c_154)
                  exact kb5F (by rw [hr]; decide)
                · replace hr := hr.trans (if_neg c_154)
                  refine lv_lload_n hx hb dX5_bits_157 rfl (lv_at hl 2 rfl) ?_
                  refine lv_iload hx hb dX5_bits_158 (lv_at hl 1 rfl) ?_
                  refine lv_lushr (v := (lushr_ g1.1 w150_5)) hx hb dX5_bits_160 rfl ?_
                  refine lv_lconst (v := (1 : Int64)) hx hb dX5_bits_161 lc_1 ?_
                  refine lv_land hx hb dX5_bits_162 ?_
                  refine lv_lconst (v := (0 : Int64)) hx hb dX5_bits_163 lc_0 ?_
                  refine lq_ne (tgt := 190) hx hb dX5_bits_164 dX5_bits_165 (by decide) (fun c_164 => ?_) (fun c_164 => ?_)
                  · replace hr := hr.trans (if_neg c_164)
                    exact kb5F (by rw [hr]; decide)
                  · replace hr := hr.trans (if_pos c_164)
                    exact kb5T hr
            exact lp150 (mI (0 : Int32) (64 : Int32) + 1) p4 (0 : Int32) d3 _ _ ls (Nat.lt_succ_self _) hr hP hS (lv_sub hl [0, 1, 2, 3, 4, 5] rfl)
          replace hr := ep4
          refine lv_icmp_ne (tgt := 143) hx hb dX5_bits_136 (by decide) (fun c_136 => ?_) (fun c_136 => ?_)
          · replace hr := hr.trans (if_neg c_136)
            refine lv_bipush (v := (63 : Int32)) hx hb dX5_bits_143 bp_63 ?_
            subst hr
            exact kp4 _ _ ls hP hS (lv_sub hl [0, 1, 2, 3] rfl)
          · replace hr := hr.trans (if_pos c_136)
            refine lv_iconst (v := (0 : Int32)) hx hb dX5_bits_139 ic_0 ?_
            refine lv_goto (tgt := 145) hx hb dX5_bits_140 (by decide) ?_
            subst hr
            exact kp4 _ _ ls hP hS (lv_sub hl [0, 1, 2, 3] rfl)
        · replace hr := hr.trans (if_neg c_129)
          exact g_endUv (Pic := (fun u => mB D ad ca K u)) (u := d3) hF hQ hr hP hS dX5_bits_132
      replace hr := ep2
      refine lq_ne (tgt := 121) hx hb dX5_bits_113 dX5_bits_114 (by decide) (fun c_113 => ?_) (fun c_113 => ?_)
      · replace hr := hr.trans (if_neg c_113)
        refine lv_iconst (v := (0 : Int32)) hx hb dX5_bits_121 ic_0 ?_
        subst hr
        exact kp2 _ _ ls hP hS (lv_sub hl [0, 1, 2, 3] rfl)
      · replace hr := hr.trans (if_pos c_113)
        refine lv_iconst (v := (1 : Int32)) hx hb dX5_bits_117 ic_1 ?_
        refine lv_goto (tgt := 122) hx hb dX5_bits_118 (by decide) ?_
        subst hr
        exact kp2 _ _ ls hP hS (lv_sub hl [0, 1, 2, 3] rfl)
    · replace hr := hr.trans (if_pos c_69)
      refine lv_aload_n hx hb dX5_bits_72 rfl (lv_at hl 1 rfl) ?_
      refine lv_iconst (v := (0 : Int32)) hx hb dX5_bits_73 ic_0 ?_
      refine lv_iload_n hx hb dX5_bits_74 rfl (lv_at hl 3 rfl) ?_
      obtain ⟨g11, eg11⟩ : ∃ z, z = m_take K (0 : Int32) sz g1.2 := ⟨_, rfl⟩
      replace hr := hr.trans (bnd_eq eg11)
      refine g_UV1 (As := [.int (0 : Int32), .int sz]) (rest := []) hC (m_X5_take hI (K := K) (d := g1.2) (0 : Int32) sz g11 eg11 (show ¬ ((0 : Int32) < 0 ∨ 3 ≤ (0 : Int32).toNatClampNeg) by decide) hgd) (cwV 2 hts cw_X5_257 rfl rfl rfl hd_X5_take ⟨Nat.le_of_ble_eq_true rfl, Nat.le_of_ble_eq_true rfl⟩) mKst (va_recv hK hP (ci := 5) (q0 := 0) rfl rfl) hP hKp ⟨Nat.zero_le _, Nat.zero_le _⟩ hS (fun _ h => h) rfl hl.1 rfl (Nat.le_of_ble_eq_true rfl) dX5_bits_75 (fun H locs hP hS => ?_)
      have hP : va_P D xcl (MW ad ca K g11.2) H := hP
      refine lv_lstore (lv' := [(5, .long g11.1), (3, .long g1.1), (0, .ref (ad 0)), (1, .int o), (2, .int sz)]) hx hb dX5_bits_78 hl (by decide) rfl (fun ls hl => ?_)
      refine lv_aload_n hx hb dX5_bits_80 rfl (lv_at hl 2 rfl) ?_
      refine lv_lload hx hb dX5_bits_81 (lv_at hl 0 rfl) ?_
      refine lv_lload_n hx hb dX5_bits_83 rfl (lv_at hl 1 rfl) ?_
      refine lv_bipush (v := (8 : Int32)) hx hb dX5_bits_84 bp_8 ?_
      refine lv_iload_n hx hb dX5_bits_86 rfl (lv_at hl 4 rfl) ?_
      refine lv_imul hx hb dX5_bits_87 ?_
      refine lv_iconst (v := (1 : Int32)) hx hb dX5_bits_88 ic_1 ?_
      refine lv_isub hx hb dX5_bits_89 ?_
      refine lv_i2l (v := (((8 : Int32) * sz) - (1 : Int32)).toInt64) hx hb dX5_bits_90 rfl ?_
      refine lv_land hx hb dX5_bits_91 ?_
      refine lv_l2i (v := (g1.1 &&& ((((8 : Int32) * sz) - (1 : Int32)).toInt64)).toInt32) hx hb dX5_bits_92 rfl ?_
      refine lv_lushr (v := (lushr_ g11.1 ((g1.1 &&& ((((8 : Int32) * sz) - (1 : Int32)).toInt64)).toInt32))) hx hb dX5_bits_93 rfl ?_
      refine lv_lconst (v := (1 : Int64)) hx hb dX5_bits_94 lc_1 ?_
      refine lv_land hx hb dX5_bits_95 ?_
      refine lv_lconst (v := (1 : Int64)) hx hb dX5_bits_96 lc_1 ?_
      refine lq_ne (tgt := 105) hx hb dX5_bits_97 dX5_bits_98 (by decide) (fun c_97 => ?_) (fun c_97 => ?_)
      · replace hr := hr.trans (if_neg c_97)
        refine lv_iconst (v := (0 : Int32)) hx hb dX5_bits_105 ic_0 ?_
        refine mp_0_21 (v := false) hx hb hts hown hK hI hP hS (hts _ q692) dX5_bits_106 (fun d12 ed12 H locs hP hS => ?_)
        replace hr := hr.trans (bnd_eq ed12)
        exact g_endUv (Pic := (fun u => mB D ad ca K u)) (u := d12) hF hQ hr hP hS dX5_bits_109
      · replace hr := hr.trans (if_pos c_97)
        refine lv_iconst (v := (1 : Int32)) hx hb dX5_bits_101 ic_1 ?_
        refine lv_goto (tgt := 106) hx hb dX5_bits_102 (by decide) ?_
        refine mp_0_21 (v := true) hx hb hts hown hK hI hP hS (hts _ q692) dX5_bits_106 (fun d13 ed13 H locs hP hS => ?_)
        replace hr := hr.trans (bnd_eq ed13)
        exact g_endUv (Pic := (fun u => mB D ad ca K u)) (u := d13) hF hQ hr hP hS dX5_bits_109
  · replace hr := hr.trans (if_pos c_3)
    refine lv_aload_n hx hb dX5_bits_6 rfl (lv_at hl 0 rfl) ?_
    refine lv_iconst (v := (0 : Int32)) hx hb dX5_bits_7 ic_0 ?_
    refine lv_iload_n hx hb dX5_bits_8 rfl (lv_at hl 2 rfl) ?_
    obtain ⟨g14, eg14⟩ : ∃ z, z = m_take K (0 : Int32) sz d := ⟨_, rfl⟩
    replace hr := hr.trans (bnd_eq eg14)
    refine g_UV1 (As := [.int (0 : Int32), .int sz]) (rest := []) hC (m_X5_take hI (K := K) (d := d) (0 : Int32) sz g14 eg14 (show ¬ ((0 : Int32) < 0 ∨ 3 ≤ (0 : Int32).toNatClampNeg) by decide) hgd) (cwV 2 hts cw_X5_257 rfl rfl rfl hd_X5_take ⟨Nat.le_of_ble_eq_true rfl, Nat.le_of_ble_eq_true rfl⟩) mKst (va_recv hK hP (ci := 5) (q0 := 0) rfl rfl) hP hKp ⟨Nat.zero_le _, Nat.zero_le _⟩ hS (fun _ h => h) rfl hl.1 rfl (Nat.le_of_ble_eq_true rfl) dX5_bits_9 (fun H locs hP hS => ?_)
    have hP : va_P D xcl (MW ad ca K g14.2) H := hP
    refine lv_lstore_n (lv' := [(3, .long g14.1), (0, .ref (ad 0)), (1, .int o), (2, .int sz)]) hx hb dX5_bits_12 rfl hl (by decide) rfl (fun ls hl => ?_)
    refine lv_lconst (v := (0 : Int64)) hx hb dX5_bits_13 lc_0 ?_
    refine lv_lstore (lv' := [(5, .long (0 : Int64)), (3, .long g14.1), (0, .ref (ad 0)), (1, .int o), (2, .int sz)]) hx hb dX5_bits_14 hl (by decide) rfl (fun ls hl => ?_)
    refine lv_iconst (v := (0 : Int32)) hx hb dX5_bits_16 ic_0 ?_
    refine lv_istore (lv' := [(7, .int (0 : Int32)), (5, .long (0 : Int64)), (3, .long g14.1), (0, .ref (ad 0)), (1, .int o), (2, .int sz)]) hx hb dX5_bits_17 hl (by decide) rfl (fun ls hl => ?_)
    have lp19 : ∀ (n : Nat) (w19_5 : Int64) (w19_7 : Int32) (dl19 : MD) (H : Heap) (locs : List Loc) (ls : Array Slot), mI w19_7 sz < n → RES = m_bits_L19 K sz g14 n w19_5 w19_7 dl19 → va_P D xcl (MW ad ca K dl19) H → va_S (mA ad) s.heap H locs → lv_has ls 8 [(7, .int w19_7), (5, .long w19_5), (3, .long g14.1), (0, .ref (ad 0)), (1, .int o), (2, .int sz)] → W p l e rm_X5_bits s m args below meth c H locs 0 0 Q (F0 m 19 ls []) := by
      intro n
      induction n with
      | zero =>
        intro w19_5 w19_7 dl19 H locs ls hm
        exact absurd hm (Nat.not_lt_zero _)
      | succ n ih =>
        intro w19_5 w19_7 dl19 H locs ls hm  hr hP hS hl
        replace hr := hr.trans (m_bits_L19_s K sz g14 n w19_5 w19_7 dl19)
        refine lv_iload hx hb dX5_bits_19 (lv_at hl 0 rfl) ?_
        refine lv_iload_n hx hb dX5_bits_21 rfl (lv_at hl 5 rfl) ?_
        refine lv_icmp_ge (tgt := 50) hx hb dX5_bits_22 (by decide) (fun c_22 => ?_) (fun c_22 => ?_)
        · replace hr := hr.trans (if_pos c_22)
          refine lv_aload_n hx hb dX5_bits_50 rfl (lv_at hl 3 rfl) ?_
          refine lv_iconst (v := (0 : Int32)) hx hb dX5_bits_51 ic_0 ?_
          refine lv_iload_n hx hb dX5_bits_52 rfl (lv_at hl 5 rfl) ?_
          refine lv_lload hx hb dX5_bits_53 (lv_at hl 1 rfl) ?_
          obtain ⟨g15, eg15⟩ : ∃ z, z = m_put K (0 : Int32) sz w19_5 dl19 := ⟨_, rfl⟩
          replace hr := hr.trans (bnd_eq eg15)
          refine g_UV0 (As := [.int (0 : Int32), .int sz, .long w19_5]) (rest := []) hC (m_X5_put hI (K := K) (d := dl19) (0 : Int32) sz w19_5 g15 eg15 (show ¬ ((0 : Int32) < 0 ∨ 3 ≤ (0 : Int32).toNatClampNeg) by decide) hgd) (cwV 3 hts cw_X5_268 rfl rfl rfl hd_X5_put ⟨Nat.le_of_ble_eq_true rfl, Nat.le_of_ble_eq_true rfl⟩) mKst (va_recv hK hP (ci := 5) (q0 := 0) rfl rfl) hP hKp ⟨Nat.zero_le _, Nat.zero_le _⟩ hS (fun _ h => h) rfl hl.1 rfl (Nat.le_of_ble_eq_true rfl) dX5_bits_55 (fun H locs hP hS => ?_)
          have hP : va_P D xcl (MW ad ca K g15) H := hP
          exact g_endUv (Pic := (fun u => mB D ad ca K u)) (u := g15) hF hQ hr hP hS dX5_bits_58
        · replace hr := hr.trans (if_neg c_22)
          refine lv_lload hx hb dX5_bits_25 (lv_at hl 1 rfl) ?_
          refine lv_bipush (v := (8 : Int32)) hx hb dX5_bits_27 bp_8 ?_
          refine lv_lshl (v := (lshl_ w19_5 (8 : Int32))) hx hb dX5_bits_29 rfl ?_
          refine lv_lload_n hx hb dX5_bits_30 rfl (lv_at hl 2 rfl) ?_
          refine lv_bipush (v := (8 : Int32)) hx hb dX5_bits_31 bp_8 ?_
          refine lv_iload hx hb dX5_bits_33 (lv_at hl 0 rfl) ?_
          refine lv_imul hx hb dX5_bits_35 ?_
          refine lv_lshr (v := (lshr_ g14.1 ((8 : Int32) * w19_7))) hx hb dX5_bits_36 rfl ?_
          refine lv_ldc2 hx hb hown (hts _ q852) dX5_bits_37 ?_
          refine lv_land hx hb dX5_bits_40 ?_
          refine lv_lor hx hb dX5_bits_41 ?_
          refine lv_topl (fun v16 ev16 => ?_)
          replace hr := hr.trans (bnd_eq ev16)
          refine lv_lstore (lv' := [(5, .long v16), (7, .int w19_7), (3, .long g14.1), (0, .ref (ad 0)), (1, .int o), (2, .int sz)]) hx hb dX5_bits_42 hl (by decide) rfl (fun ls hl => ?_)
          obtain ⟨v17, ev17⟩ : ∃ z : Int32, z = (w19_7 + (1 : Int32)) := ⟨_, rfl⟩
          replace hr := hr.trans (bnd_eq ev17)
          refine lv_iinc (v := v17) (lv' := [(7, .int v17), (5, .long v16), (3, .long g14.1), (0, .ref (ad 0)), (1, .int o), (2, .int sz)]) hx hb dX5_bits_44 hl (k := 1) rfl (by rw [ev17, ← ic_1]) (by decide) rfl (fun ls hl => ?_)
          refine lv_goto (tgt := 19) hx hb dX5_bits_47 (by decide) ?_
          exact ih v16 v17 dl19 _ _ ls (mI_dec c_22 hm ev17) hr hP hS (lv_sub hl [0, 1, 2, 3, 4, 5] rfl)
    exact lp19 (mI (0 : Int32) sz + 1) (0 : Int64) (0 : Int32) g14.2 _ _ ls (Nat.lt_succ_self _) hr hP hS (lv_sub hl [0, 1, 2, 3, 4, 5] rfl)
def m_together (K : MK) (o : Int32) (sz : Int32) (d : MD) : MD := bnd (m_take K (0 : Int32) sz d) fun g1 => bnd (m_take K (1 : Int32) sz g1.2) fun g2 => if o = (48 : Int32) then (bnd (m_add g1.1 g2.1 false sz g2.2) fun g7 => bnd (m_put K (1 : Int32) sz g1.1 g7.2) fun g8 => bnd (m_put K (0 : Int32) sz g7.1 g8) fun g9 => g9) else (bnd (α := Int64) ((m_cut ((dm_regs g2.2) (0 : Int32).toNatClampNeg) sz)) fun v3 => bnd (m_subtract v3 g1.1 false sz g2.2) fun g4 => if v3 = g1.1 then (bnd (m_put K (0 : Int32) sz g2.1 g4.2) fun g6 => g6) else (bnd (m_setRegister (0 : Int32) sz g1.1 g4.2) fun g5 => g5))
abbrev rm_X5_together : Room := { frames := 4, cells := 0, slots := 0, locals := 99 }
set_option maxHeartbeats 4000000 in
set_option maxRecDepth 100000 in
theorem m_X5_together {l : Launch} {D : va_G} {ad : Nat → Nat} {ca : Nat → ClassId} (hI : mInj ad) {K : MK} {d : MD} (o : Int32) (sz : Int32) (RES : MD) (hr : RES = m_together K o sz d) (hgd : MGd K) : g_U l yX5_together (ws_ yX5_together cX5_together 9 none) rm_X5_together [.ref (ad 0), .int o, .int sz] (mKp D ca) (mB D ad ca K d) none (mB D ad ca K RES) (mA ad) := by
  refine g_ofU (by decide) (Nat.le_of_ble_eq_true rfl) ?_
  intro p e s m args below meth c ls Q hF hB hKp hl hQ
  obtain ⟨hx, hb, -, -, hml, hown, hts⟩ := id hF
  have hown : s.vm.findClass RX5 = some m.cls := hown
  have hC : CallFix p m c cX5_together 9 s args lw_all RX5 := ⟨hx, hb, hml, hown, hts⟩
  have hK : va_K D xcl (mtys ca) s := hKp
  have hP : va_P D xcl (MW ad ca K d) s.heap := hB
  have hS : va_S (mA ad) s.heap s.heap [] := va_S.rf
  have hl : lv_has ls 9 [(0, .ref (ad 0)), (1, .int o), (2, .int sz)] := hl
  unfold m_together at hr
  refine lv_aload_n hx hb dX5_together_0 rfl (lv_at hl 0 rfl) ?_
  refine lv_iconst (v := (0 : Int32)) hx hb dX5_together_1 ic_0 ?_
  refine lv_iload_n hx hb dX5_together_2 rfl (lv_at hl 2 rfl) ?_
  obtain ⟨g1, eg1⟩ : ∃ z, z = m_take K (0 : Int32) sz d := ⟨_, rfl⟩
  replace hr := hr.trans (bnd_eq eg1)
  refine g_UV1 (As := [.int (0 : Int32), .int sz]) (rest := []) hC (m_X5_take hI (K := K) (d := d) (0 : Int32) sz g1 eg1 (show ¬ ((0 : Int32) < 0 ∨ 3 ≤ (0 : Int32).toNatClampNeg) by decide) hgd) (cwV 2 hts cw_X5_257 rfl rfl rfl hd_X5_take ⟨Nat.le_of_ble_eq_true rfl, Nat.le_of_ble_eq_true rfl⟩) mKst (va_recv hK hP (ci := 5) (q0 := 0) rfl rfl) hP hKp ⟨Nat.zero_le _, Nat.zero_le _⟩ hS (fun _ h => h) rfl hl.1 rfl (Nat.le_of_ble_eq_true rfl) dX5_together_3 (fun H locs hP hS => ?_)
  have hP : va_P D xcl (MW ad ca K g1.2) H := hP
  refine lv_lstore_n (lv' := [(3, .long g1.1), (0, .ref (ad 0)), (1, .int o), (2, .int sz)]) hx hb dX5_together_6 rfl hl (by decide) rfl (fun ls hl => ?_)
  refine lv_aload_n hx hb dX5_together_7 rfl (lv_at hl 1 rfl) ?_
  refine lv_iconst (v := (1 : Int32)) hx hb dX5_together_8 ic_1 ?_
  refine lv_iload_n hx hb dX5_together_9 rfl (lv_at hl 3 rfl) ?_
  obtain ⟨g2, eg2⟩ : ∃ z, z = m_take K (1 : Int32) sz g1.2 := ⟨_, rfl⟩
  replace hr := hr.trans (bnd_eq eg2)
  refine g_UV1 (As := [.int (1 : Int32), .int sz]) (rest := []) hC (m_X5_take hI (K := K) (d := g1.2) (1 : Int32) sz g2 eg2 (show ¬ ((1 : Int32) < 0 ∨ 3 ≤ (1 : Int32).toNatClampNeg) by decide) hgd) (cwV 2 hts cw_X5_257 rfl rfl rfl hd_X5_take ⟨Nat.le_of_ble_eq_true rfl, Nat.le_of_ble_eq_true rfl⟩) mKst (va_recv hK hP (ci := 5) (q0 := 0) rfl rfl) hP hKp ⟨Nat.zero_le _, Nat.zero_le _⟩ hS (fun _ h => h) rfl hl.1 rfl (Nat.le_of_ble_eq_true rfl) dX5_together_10 (fun H locs hP hS => ?_)
  have hP : va_P D xcl (MW ad ca K g2.2) H := hP
  refine lv_lstore (lv' := [(5, .long g2.1), (3, .long g1.1), (0, .ref (ad 0)), (1, .int o), (2, .int sz)]) hx hb dX5_together_13 hl (by decide) rfl (fun ls hl => ?_)
  refine lv_iload_n hx hb dX5_together_15 rfl (lv_at hl 3 rfl) ?_
  refine lv_bipush (v := (48 : Int32)) hx hb dX5_together_16 bp_48 ?_
  refine lv_icmp_ne (tgt := 48) hx hb dX5_together_18 (by decide) (fun c_18 => ?_) (fun c_18 => ?_)
  · replace hr := hr.trans (if_neg c_18)
    refine lv_aload_n hx hb dX5_together_48 rfl (lv_at hl 2 rfl) ?_
    refine mg_0_16 hx hb hts hown hK hP (hts _ q687) dX5_together_49 ?_
    refine lv_iconst (v := (0 : Int32)) hx hb dX5_together_52 ic_0 ?_
    refine ml_7 hx hb hK hP (show ¬ ((0 : Int32) < 0 ∨ 16 ≤ (0 : Int32).toNatClampNeg) by decide) dX5_together_53 ?_
    refine lv_iload_n hx hb dX5_together_54 rfl (lv_at hl 4 rfl) ?_
    refine g_RS (As := [.long ((dm_regs g2.2) (0 : Int32).toNatClampNeg), .int sz]) (rest := []) hC (m_X5_cut ((dm_regs g2.2) (0 : Int32).toNatClampNeg) sz _ rfl) (va_cwS 2 hts cw_X5_200 rfl rfl rfl hd_X5_cut ⟨Nat.le_of_ble_eq_true rfl, Nat.le_of_ble_eq_true rfl⟩) g_Kst0 trivial trivial ⟨Nat.zero_le _, Nat.zero_le _⟩ rfl hl.1 rfl (Nat.le_of_ble_eq_true rfl) dX5_together_55 ?_
    refine lv_topl (fun v3 ev3 => ?_)
    replace hr := hr.trans (bnd_eq ev3)
    refine lv_lstore (lv' := [(7, .long v3), (5, .long g2.1), (3, .long g1.1), (0, .ref (ad 0)), (1, .int o), (2, .int sz)]) hx hb dX5_together_58 hl (by decide) rfl (fun ls hl => ?_)
    refine lv_aload_n hx hb dX5_together_60 rfl (lv_at hl 3 rfl) ?_
    refine lv_lload hx hb dX5_together_61 (lv_at hl 0 rfl) ?_
    refine lv_lload_n hx hb dX5_together_63 rfl (lv_at hl 2 rfl) ?_
    refine lv_iconst (v := (0 : Int32)) hx hb dX5_together_64 ic_0 ?_
    refine lv_iload_n hx hb dX5_together_65 rfl (lv_at hl 5 rfl) ?_
    obtain ⟨g4, eg4⟩ : ∃ z, z = m_subtract v3 g1.1 false sz g2.2 := ⟨_, rfl⟩
    replace hr := hr.trans (bnd_eq eg4)
    refine g_UV1 (As := [.long v3, .long g1.1, .int (b2i false), .int sz]) (rest := []) hC (m_X5_subtract hI (K := K) (d := g2.2) v3 g1.1 false sz g4 eg4) (cwV 4 hts cw_X5_265 rfl rfl rfl hd_X5_subtract ⟨Nat.le_of_ble_eq_true rfl, Nat.le_of_ble_eq_true rfl⟩) mKst (va_recv hK hP (ci := 5) (q0 := 0) rfl rfl) hP hKp ⟨Nat.zero_le _, Nat.zero_le _⟩ hS (fun _ h => h) rfl hl.1 rfl (Nat.le_of_ble_eq_true rfl) dX5_together_66 (fun H locs hP hS => ?_)
    have hP : va_P D xcl (MW ad ca K g4.2) H := hP
    refine lv_pop2_2 hx hb dX5_together_69 rfl ?_
    refine lv_lload hx hb dX5_together_70 (lv_at hl 0 rfl) ?_
    refine lv_lload_n hx hb dX5_together_72 rfl (lv_at hl 2 rfl) ?_
    refine lq_ne (tgt := 88) hx hb dX5_together_73 dX5_together_74 (by decide) (fun c_73 => ?_) (fun c_73 => ?_)
    · replace hr := hr.trans (if_neg c_73)
      refine lv_aload_n hx hb dX5_together_88 rfl (lv_at hl 3 rfl) ?_
      refine lv_iconst (v := (0 : Int32)) hx hb dX5_together_89 ic_0 ?_
      refine lv_iload_n hx hb dX5_together_90 rfl (lv_at hl 5 rfl) ?_
      refine lv_lload_n hx hb dX5_together_91 rfl (lv_at hl 2 rfl) ?_
      obtain ⟨g5, eg5⟩ : ∃ z, z = m_setRegister (0 : Int32) sz g1.1 g4.2 := ⟨_, rfl⟩
      replace hr := hr.trans (bnd_eq eg5)
      refine g_UV0 (As := [.int (0 : Int32), .int sz, .long g1.1]) (rest := []) hC (m_X5_setRegister hI (K := K) (d := g4.2) (0 : Int32) sz g1.1 g5 eg5 (show ¬ ((0 : Int32) < 0 ∨ 16 ≤ (0 : Int32).toNatClampNeg) by decide)) (cwV 3 hts cw_X5_212 rfl rfl rfl hd_X5_setRegister ⟨Nat.le_of_ble_eq_true rfl, Nat.le_of_ble_eq_true rfl⟩) mKst (va_recv hK hP (ci := 5) (q0 := 0) rfl rfl) hP hKp ⟨Nat.zero_le _, Nat.zero_le _⟩ hS (fun _ h => h) rfl hl.1 rfl (Nat.le_of_ble_eq_true rfl) dX5_together_92 (fun H locs hP hS => ?_)
      have hP : va_P D xcl (MW ad ca K g5) H := hP
      exact g_endUv (Pic := (fun u => mB D ad ca K u)) (u := g5) hF hQ hr hP hS dX5_together_95
    · replace hr := hr.trans (if_pos c_73)
      refine lv_aload_n hx hb dX5_together_77 rfl (lv_at hl 3 rfl) ?_
      refine lv_iconst (v := (0 : Int32)) hx hb dX5_together_78 ic_0 ?_
      refine lv_iload_n hx hb dX5_together_79 rfl (lv_at hl 5 rfl) ?_
      refine lv_lload hx hb dX5_together_80 (lv_at hl 1 rfl) ?_
      obtain ⟨g6, eg6⟩ : ∃ z, z = m_put K (0 : Int32) sz g2.1 g4.2 := ⟨_, rfl⟩
      replace hr := hr.trans (bnd_eq eg6)
      refine g_UV0 (As := [.int (0 : Int32), .int sz, .long g2.1]) (rest := []) hC (m_X5_put hI (K := K) (d := g4.2) (0 : Int32) sz g2.1 g6 eg6 (show ¬ ((0 : Int32) < 0 ∨ 3 ≤ (0 : Int32).toNatClampNeg) by decide) hgd) (cwV 3 hts cw_X5_268 rfl rfl rfl hd_X5_put ⟨Nat.le_of_ble_eq_true rfl, Nat.le_of_ble_eq_true rfl⟩) mKst (va_recv hK hP (ci := 5) (q0 := 0) rfl rfl) hP hKp ⟨Nat.zero_le _, Nat.zero_le _⟩ hS (fun _ h => h) rfl hl.1 rfl (Nat.le_of_ble_eq_true rfl) dX5_together_82 (fun H locs hP hS => ?_)
      have hP : va_P D xcl (MW ad ca K g6) H := hP
      refine lv_goto (tgt := 95) hx hb dX5_together_85 (by decide) ?_
      exact g_endUv (Pic := (fun u => mB D ad ca K u)) (u := g6) hF hQ hr hP hS dX5_together_95
  · replace hr := hr.trans (if_pos c_18)
    refine lv_aload_n hx hb dX5_together_21 rfl (lv_at hl 2 rfl) ?_
    refine lv_lload_n hx hb dX5_together_22 rfl (lv_at hl 1 rfl) ?_
    refine lv_lload hx hb dX5_together_23 (lv_at hl 0 rfl) ?_
    refine lv_iconst (v := (0 : Int32)) hx hb dX5_together_25 ic_0 ?_
    refine lv_iload_n hx hb dX5_together_26 rfl (lv_at hl 4 rfl) ?_
    obtain ⟨g7, eg7⟩ : ∃ z, z = m_add g1.1 g2.1 false sz g2.2 := ⟨_, rfl⟩
    replace hr := hr.trans (bnd_eq eg7)
    refine g_UV1 (As := [.long g1.1, .long g2.1, .int (b2i false), .int sz]) (rest := []) hC (m_X5_add hI (K := K) (d := g2.2) g1.1 g2.1 false sz g7 eg7) (cwV 4 hts cw_X5_261 rfl rfl rfl hd_X5_add ⟨Nat.le_of_ble_eq_true rfl, Nat.le_of_ble_eq_true rfl⟩) mKst (va_recv hK hP (ci := 5) (q0 := 0) rfl rfl) hP hKp ⟨Nat.zero_le _, Nat.zero_le _⟩ hS (fun _ h => h) rfl hl.1 rfl (Nat.le_of_ble_eq_true rfl) dX5_together_27 (fun H locs hP hS => ?_)
    have hP : va_P D xcl (MW ad ca K g7.2) H := hP
    refine lv_lstore (lv' := [(7, .long g7.1), (5, .long g2.1), (3, .long g1.1), (0, .ref (ad 0)), (1, .int o), (2, .int sz)]) hx hb dX5_together_30 hl (by decide) rfl (fun ls hl => ?_)
    refine lv_aload_n hx hb dX5_together_32 rfl (lv_at hl 3 rfl) ?_
    refine lv_iconst (v := (1 : Int32)) hx hb dX5_together_33 ic_1 ?_
    refine lv_iload_n hx hb dX5_together_34 rfl (lv_at hl 5 rfl) ?_
    refine lv_lload_n hx hb dX5_together_35 rfl (lv_at hl 2 rfl) ?_
    obtain ⟨g8, eg8⟩ : ∃ z, z = m_put K (1 : Int32) sz g1.1 g7.2 := ⟨_, rfl⟩
    replace hr := hr.trans (bnd_eq eg8)
    refine g_UV0 (As := [.int (1 : Int32), .int sz, .long g1.1]) (rest := []) hC (m_X5_put hI (K := K) (d := g7.2) (1 : Int32) sz g1.1 g8 eg8 (show ¬ ((1 : Int32) < 0 ∨ 3 ≤ (1 : Int32).toNatClampNeg) by decide) hgd) (cwV 3 hts cw_X5_268 rfl rfl rfl hd_X5_put ⟨Nat.le_of_ble_eq_true rfl, Nat.le_of_ble_eq_true rfl⟩) mKst (va_recv hK hP (ci := 5) (q0 := 0) rfl rfl) hP hKp ⟨Nat.zero_le _, Nat.zero_le _⟩ hS (fun _ h => h) rfl hl.1 rfl (Nat.le_of_ble_eq_true rfl) dX5_together_36 (fun H locs hP hS => ?_)
    have hP : va_P D xcl (MW ad ca K g8) H := hP
    refine lv_aload_n hx hb dX5_together_39 rfl (lv_at hl 3 rfl) ?_
    refine lv_iconst (v := (0 : Int32)) hx hb dX5_together_40 ic_0 ?_
    refine lv_iload_n hx hb dX5_together_41 rfl (lv_at hl 5 rfl) ?_
    refine lv_lload hx hb dX5_together_42 (lv_at hl 0 rfl) ?_
    obtain ⟨g9, eg9⟩ : ∃ z, z = m_put K (0 : Int32) sz g7.1 g8 := ⟨_, rfl⟩
    replace hr := hr.trans (bnd_eq eg9)
    refine g_UV0 (As := [.int (0 : Int32), .int sz, .long g7.1]) (rest := []) hC (m_X5_put hI (K := K) (d := g8) (0 : Int32) sz g7.1 g9 eg9 (show ¬ ((0 : Int32) < 0 ∨ 3 ≤ (0 : Int32).toNatClampNeg) by decide) hgd) (cwV 3 hts cw_X5_268 rfl rfl rfl hd_X5_put ⟨Nat.le_of_ble_eq_true rfl, Nat.le_of_ble_eq_true rfl⟩) mKst (va_recv hK hP (ci := 5) (q0 := 0) rfl rfl) hP hKp ⟨Nat.zero_le _, Nat.zero_le _⟩ hS (fun _ h => h) rfl hl.1 rfl (Nat.le_of_ble_eq_true rfl) dX5_together_44 (fun H locs hP hS => ?_)
    have hP : va_P D xcl (MW ad ca K g9) H := hP
    exact g_endUv (Pic := (fun u => mB D ad ca K u)) (u := g9) hF hQ hr hP hS dX5_together_47
def m_strings (K : MK) (o : Int32) (sz : Int32) (d : MD) : MD := bnd (α := Bool) (if o ≤ (51 : Int32) then false else true) fun p1 => bnd (α := Bool) (if (b2i p1) = 0 then false else (if ((dm_regs d) (1 : Int32).toNatClampNeg) = (0 : Int64) then true else false)) fun b2 => if b2 = true then d else (bnd (α := Bool) (if o = (50 : Int32) then true else (if o = (52 : Int32) then true else false)) fun p3 => bnd (α := Int64 × MD) (if (b2i p3) = 0 then ((m_cut ((dm_regs d) (0 : Int32).toNatClampNeg) sz), d) else (bnd (m_load K ((dm_regs d) (6 : Int32).toNatClampNeg) sz d) fun g5 => (g5.1, g5.2))) fun p4 => bnd (m_store K ((dm_regs p4.2) (7 : Int32).toNatClampNeg) sz p4.1 p4.2) fun g6 => bnd (α := MD) (if (b2i p3) = 0 then g6 else (bnd (dm_regs_ (vp_updL (dm_regs g6) (6 : Int32).toNatClampNeg (((dm_regs g6) (6 : Int32).toNatClampNeg) + (sz.toInt64))) g6) fun d8 => d8)) fun p7 => bnd (dm_regs_ (vp_updL (dm_regs p7) (7 : Int32).toNatClampNeg (((dm_regs p7) (7 : Int32).toNatClampNeg) + (sz.toInt64))) p7) fun d9 => if (b2i p1) = 0 then d9 else (bnd (dm_regs_ (vp_updL (dm_regs d9) (1 : Int32).toNatClampNeg (((dm_regs d9) (1 : Int32).toNatClampNeg) - (1 : Int64))) d9) fun d10 => if ((dm_regs d10) (1 : Int32).toNatClampNeg) = (0 : Int64) then d10 else (bnd (dm_ip_ ((dm_ip d10) - ((dm_length d10).toInt64)) d10) fun d11 => d11)))
abbrev rm_X5_strings : Room := { frames := 3, cells := 0, slots := 0, locals := 76 }
set_option maxHeartbeats 4000000 in
set_option maxRecDepth 100000 in
theorem m_X5_strings {l : Launch} {D : va_G} {ad : Nat → Nat} {ca : Nat → ClassId} (hI : mInj ad) {K : MK} {d : MD} (o : Int32) (sz : Int32) (RES : MD) (hr : RES = m_strings K o sz d) (hgd : MGd K) : g_U l yX5_strings (ws_ yX5_strings cX5_strings 7 none) rm_X5_strings [.ref (ad 0), .int o, .int sz] (mKp D ca) (mB D ad ca K d) none (mB D ad ca K RES) (mA ad) := by
  refine g_ofU (by decide) (Nat.le_of_ble_eq_true rfl) ?_
  intro p e s m args below meth c ls Q hF hB hKp hl hQ
  obtain ⟨hx, hb, -, -, hml, hown, hts⟩ := id hF
  have hown : s.vm.findClass RX5 = some m.cls := hown
  have hC : CallFix p m c cX5_strings 7 s args lw_all RX5 := ⟨hx, hb, hml, hown, hts⟩
  have hK : va_K D xcl (mtys ca) s := hKp
  have hP : va_P D xcl (MW ad ca K d) s.heap := hB
  have hS : va_S (mA ad) s.heap s.heap [] := va_S.rf
  have hl : lv_has ls 7 [(0, .ref (ad 0)), (1, .int o), (2, .int sz)] := hl
  unfold m_strings at hr
  refine lv_iload_n hx hb dX5_strings_0 rfl (lv_at hl 1 rfl) ?_
  refine lv_bipush (v := (51 : Int32)) hx hb dX5_strings_1 bp_51 ?_
  obtain ⟨p1, ep1⟩ : ∃ z : Bool, z = (if o ≤ (51 : Int32) then false else true) := ⟨_, rfl⟩
  replace hr := hr.trans (bnd_eq ep1)
  have kp1 : ∀ (H : Heap) (locs : List Loc) (ls : Array Slot), va_P D xcl (MW ad ca K d) H → va_S (mA ad) s.heap H locs → lv_has ls 7 [(0, .ref (ad 0)), (1, .int o), (2, .int sz)] → W p l e rm_X5_strings s m args below meth c H locs 0 0 Q (F0 m 11 ls [.int (b2i p1)]) := by
    intro H locs ls hP hS hl
    refine lv_istore_n (lv' := [(3, .int (b2i p1)), (0, .ref (ad 0)), (1, .int o), (2, .int sz)]) hx hb dX5_strings_11 rfl hl (by decide) rfl (fun ls hl => ?_)
    refine lv_iload_n hx hb dX5_strings_12 rfl (lv_at hl 0 rfl) ?_
    obtain ⟨b2, eb2⟩ : ∃ z : Bool, z = (if (b2i p1) = 0 then false else (if ((dm_regs d) (1 : Int32).toNatClampNeg) = (0 : Int64) then true else false)) := ⟨_, rfl⟩
    replace hr := hr.trans (bnd_eq eb2)
    have kb2T : b2 = true → W p l e rm_X5_strings s m args below meth c H locs 0 0 Q (F0 m 27 ls []) := by
      intro hb2
      replace hr := hr.trans (if_pos hb2)
      have er := eb2
      have c_13 : ¬ ((b2i p1) = 0) := fun q => absurd (hb2.symm.trans (er.trans (if_pos q))) (by decide)
      have er := er.trans (if_neg c_13)
      have c_23 : ((dm_regs d) (1 : Int32).toNatClampNeg) = (0 : Int64) := Decidable.byContradiction (fun q => absurd (hb2.symm.trans (er.trans (if_neg q))) (by decide))
      have er := er.trans (if_pos c_23)
      clear er
      exact g_endUv (Pic := (fun u => mB D ad ca K u)) (u := d) hF hQ hr hP hS dX5_strings_27
    have kb2F : ¬ b2 = true → W p l e rm_X5_strings s m args below meth c H locs 0 0 Q (F0 m 28 ls []) := by
      intro hb2
      replace hr := hr.trans (if_neg hb2)
      refine lv_iload_n hx hb dX5_strings_28 rfl (lv_at hl 2 rfl) ?_
      refine lv_bipush (v := (50 : Int32)) hx hb dX5_strings_29 bp_50 ?_
      obtain ⟨p3, ep3⟩ : ∃ z : Bool, z = (if o = (50 : Int32) then true else (if o = (52 : Int32) then true else false)) := ⟨_, rfl⟩
      replace hr := hr.trans (bnd_eq ep3)
      have kp3 : ∀ (H : Heap) (locs : List Loc) (ls : Array Slot), va_P D xcl (MW ad ca K d) H → va_S (mA ad) s.heap H locs → lv_has ls 7 [(3, .int (b2i p1)), (0, .ref (ad 0)), (1, .int o), (2, .int sz)] → W p l e rm_X5_strings s m args below meth c H locs 0 0 Q (F0 m 45 ls [.int (b2i p3)]) := by
        intro H locs ls hP hS hl
        refine lv_istore (lv' := [(4, .int (b2i p3)), (3, .int (b2i p1)), (0, .ref (ad 0)), (1, .int o), (2, .int sz)]) hx hb dX5_strings_45 hl (by decide) rfl (fun ls hl => ?_)
        refine lv_iload hx hb dX5_strings_47 (lv_at hl 0 rfl) ?_
        obtain ⟨p4, ep4⟩ : ∃ z : Int64 × MD, z = (if (b2i p3) = 0 then ((m_cut ((dm_regs d) (0 : Int32).toNatClampNeg) sz), d) else (bnd (m_load K ((dm_regs d) (6 : Int32).toNatClampNeg) sz d) fun g5 => (g5.1, g5.2))) := ⟨_, rfl⟩
        replace hr := hr.trans (bnd_eq ep4)
        have kp4 : ∀ (H : Heap) (locs : List Loc) (ls : Array Slot), va_P D xcl (MW ad ca K p4.2) H → va_S (mA ad) s.heap H locs → lv_has ls 7 [(4, .int (b2i p3)), (3, .int (b2i p1)), (0, .ref (ad 0)), (1, .int o), (2, .int sz)] → W p l e rm_X5_strings s m args below meth c H locs 0 0 Q (F0 m 77 ls [.long p4.1]) := by
          intro H locs ls hP hS hl
          refine lv_lstore (lv' := [(5, .long p4.1), (4, .int (b2i p3)), (3, .int (b2i p1)), (0, .ref (ad 0)), (1, .int o), (2, .int sz)]) hx hb dX5_strings_77 hl (by decide) rfl (fun ls hl => ?_)
          refine lv_aload_n hx hb dX5_strings_79 rfl (lv_at hl 3 rfl) ?_
          refine lv_aload_n hx hb dX5_strings_80 rfl (lv_at hl 3 rfl) ?_
          refine mg_0_16 hx hb hts hown hK hP (hts _ q687) dX5_strings_81 ?_
          refine lv_bipush (v := (7 : Int32)) hx hb dX5_strings_84 bp_7 ?_
          refine ml_7 hx hb hK hP (show ¬ ((7 : Int32) < 0 ∨ 16 ≤ (7 : Int32).toNatClampNeg) by decide) dX5_strings_86 ?_
          refine lv_iload_n hx hb dX5_strings_87 rfl (lv_at hl 5 rfl) ?_
          refine lv_lload hx hb dX5_strings_88 (lv_at hl 0 rfl) ?_
          obtain ⟨g6, eg6⟩ : ∃ z, z = m_store K ((dm_regs p4.2) (7 : Int32).toNatClampNeg) sz p4.1 p4.2 := ⟨_, rfl⟩
          replace hr := hr.trans (bnd_eq eg6)
          refine g_UV0 (As := [.long ((dm_regs p4.2) (7 : Int32).toNatClampNeg), .int sz, .long p4.1]) (rest := []) hC (m_X5_store hI (K := K) (d := p4.2) ((dm_regs p4.2) (7 : Int32).toNatClampNeg) sz p4.1 g6 eg6 hgd.1) (cwV 3 hts cw_X5_216 rfl rfl rfl hd_X5_store ⟨Nat.le_of_ble_eq_true rfl, Nat.le_of_ble_eq_true rfl⟩) mKst (va_recv hK hP (ci := 5) (q0 := 0) rfl rfl) hP hKp ⟨Nat.zero_le _, Nat.zero_le _⟩ hS (fun _ h => h) rfl hl.1 rfl (Nat.le_of_ble_eq_true rfl) dX5_strings_90 (fun H locs hP hS => ?_)
          have hP : va_P D xcl (MW ad ca K g6) H := hP
          refine lv_iload hx hb dX5_strings_93 (lv_at hl 1 rfl) ?_
          obtain ⟨p7, ep7⟩ : ∃ z : MD, z = (if (b2i p3) = 0 then g6 else (bnd (dm_regs_ (vp_updL (dm_regs g6) (6 : Int32).toNatClampNeg (((dm_regs g6) (6 : Int32).toNatClampNeg) + (sz.toInt64))) g6) fun d8 => d8)) := ⟨_, rfl⟩
          replace hr := hr.trans (bnd_eq ep7)
          have kp7 : ∀ (H : Heap) (locs : List Loc) (ls : Array Slot), va_P D xcl (MW ad ca K p7) H → va_S (mA ad) s.heap H locs → lv_has ls 7 [(5, .long p4.1), (4, .int (b2i p3)), (3, .int (b2i p1)), (0, .ref (ad 0)), (1, .int o), (2, .int sz)] → W p l e rm_X5_strings s m args below meth c H locs 0 0 Q (F0 m 110 ls []) := by
            intro H locs ls hP hS hl
            refine lv_aload_n hx hb dX5_strings_110 rfl (lv_at hl 3 rfl) ?_
            refine mg_0_16 hx hb hts hown hK hP (hts _ q687) dX5_strings_111 ?_
            refine lv_bipush (v := (7 : Int32)) hx hb dX5_strings_114 bp_7 ?_
            refine lv_dup2_11 hx hb dX5_strings_116 rfl rfl ?_
            refine ml_7 hx hb hK hP (show ¬ ((7 : Int32) < 0 ∨ 16 ≤ (7 : Int32).toNatClampNeg) by decide) dX5_strings_117 ?_
            refine lv_iload_n hx hb dX5_strings_118 rfl (lv_at hl 5 rfl) ?_
            refine lv_i2l (v := sz.toInt64) hx hb dX5_strings_119 rfl ?_
            refine lv_ladd hx hb dX5_strings_120 ?_
            refine ms_7 hx hb hK hI hP hS (show ¬ ((7 : Int32) < 0 ∨ 16 ≤ (7 : Int32).toNatClampNeg) by decide) dX5_strings_121 (fun d9 ed9 H locs hP hS => ?_)
            replace hr := hr.trans (bnd_eq ed9)
            refine lv_iload_n hx hb dX5_strings_122 rfl (lv_at hl 2 rfl) ?_
            refine lv_if_ne (tgt := 127) hx hb dX5_strings_123 (by decide) (fun c_123 => ?_) (fun c_123 => ?_)
            · replace hr := hr.trans (if_neg c_123)
              refine lv_aload_n hx hb dX5_strings_127 rfl (lv_at hl 3 rfl) ?_
              refine mg_0_16 hx hb hts hown hK hP (hts _ q687) dX5_strings_128 ?_
              refine lv_iconst (v := (1 : Int32)) hx hb dX5_strings_131 ic_1 ?_
              refine lv_dup2_11 hx hb dX5_strings_132 rfl rfl ?_
              refine ml_7 hx hb hK hP (show ¬ ((1 : Int32) < 0 ∨ 16 ≤ (1 : Int32).toNatClampNeg) by decide) dX5_strings_133 ?_
              refine lv_lconst (v := (1 : Int64)) hx hb dX5_strings_134 lc_1 ?_
              refine lv_lsub hx hb dX5_strings_135 ?_
              refine ms_7 hx hb hK hI hP hS (show ¬ ((1 : Int32) < 0 ∨ 16 ≤ (1 : Int32).toNatClampNeg) by decide) dX5_strings_136 (fun d10 ed10 H locs hP hS => ?_)
              replace hr := hr.trans (bnd_eq ed10)
              refine lv_aload_n hx hb dX5_strings_137 rfl (lv_at hl 3 rfl) ?_
              refine mg_0_16 hx hb hts hown hK hP (hts _ q687) dX5_strings_138 ?_
              refine lv_iconst (v := (1 : Int32)) hx hb dX5_strings_141 ic_1 ?_
              refine ml_7 hx hb hK hP (show ¬ ((1 : Int32) < 0 ∨ 16 ≤ (1 : Int32).toNatClampNeg) by decide) dX5_strings_142 ?_
              refine lv_lconst (v := (0 : Int64)) hx hb dX5_strings_143 lc_0 ?_
              refine lq_eq (tgt := 162) hx hb dX5_strings_144 dX5_strings_145 (by decide) (fun c_144 => ?_) (fun c_144 => ?_)
              · replace hr := hr.trans (if_pos c_144)
                exact g_endUv (Pic := (fun u => mB D ad ca K u)) (u := d10) hF hQ hr hP hS dX5_strings_162
              · replace hr := hr.trans (if_neg c_144)
                refine lv_aload_n hx hb dX5_strings_148 rfl (lv_at hl 3 rfl) ?_
                refine lv_dup hx hb dX5_strings_149 rfl ?_
                refine mg_0_18 hx hb hts hown hK hP (hts _ q689) dX5_strings_150 ?_
                refine lv_aload_n hx hb dX5_strings_153 rfl (lv_at hl 3 rfl) ?_
                refine mg_0_37 hx hb hts hown hK hP (hts _ q708) dX5_strings_154 ?_
                refine lv_i2l (v := (dm_length d10).toInt64) hx hb dX5_strings_157 rfl ?_
                refine lv_lsub hx hb dX5_strings_158 ?_
                refine mp_0_18 (v := ((dm_ip d10) - ((dm_length d10).toInt64))) hx hb hts hown hK hI hP hS (hts _ q689) dX5_strings_159 (fun d11 ed11 H locs hP hS => ?_)
                replace hr := hr.trans (bnd_eq ed11)
                exact g_endUv (Pic := (fun u => mB D ad ca K u)) (u := d11) hF hQ hr hP hS dX5_strings_162
            · replace hr := hr.trans (if_pos c_123)
              exact g_endUv (Pic := (fun u => mB D ad ca K u)) (u := d9) hF hQ hr hP hS dX5_strings_126
          replace hr := ep7
          refine lv_if_eq (tgt := 110) hx hb dX5_strings_95 (by decide) (fun c_95 => ?_) (fun c_95 => ?_)
          · replace hr := hr.trans (if_pos c_95)
            subst hr
            exact kp7 _ _ ls hP hS (lv_sub hl [0, 1, 2, 3, 4, 5] rfl)
          · replace hr := hr.trans (if_neg c_95)
            refine lv_aload_n hx hb dX5_strings_98 rfl (lv_at hl 3 rfl) ?_
            refine mg_0_16 hx hb hts hown hK hP (hts _ q687) dX5_strings_99 ?_
            refine lv_bipush (v := (6 : Int32)) hx hb dX5_strings_102 bp_6 ?_
            refine lv_dup2_11 hx hb dX5_strings_104 rfl rfl ?_
            refine ml_7 hx hb hK hP (show ¬ ((6 : Int32) < 0 ∨ 16 ≤ (6 : Int32).toNatClampNeg) by decide) dX5_strings_105 ?_
            refine lv_iload_n hx hb dX5_strings_106 rfl (lv_at hl 5 rfl) ?_
            refine lv_i2l (v := sz.toInt64) hx hb dX5_strings_107 rfl ?_
            refine lv_ladd hx hb dX5_strings_108 ?_
            refine ms_7 hx hb hK hI hP hS (show ¬ ((6 : Int32) < 0 ∨ 16 ≤ (6 : Int32).toNatClampNeg) by decide) dX5_strings_109 (fun d8 ed8 H locs hP hS => ?_)
            replace hr := hr.trans (bnd_eq ed8)
            subst hr
            exact kp7 _ _ ls hP hS (lv_sub hl [0, 1, 2, 3, 4, 5] rfl)
        replace hr := ep4
        refine lv_if_eq (tgt := 67) hx hb dX5_strings_49 (by decide) (fun c_49 => ?_) (fun c_49 => ?_)
        · replace hr := hr.trans (if_pos c_49)
          refine lv_aload_n hx hb dX5_strings_67 rfl (lv_at hl 2 rfl) ?_
          refine mg_0_16 hx hb hts hown hK hP (hts _ q687) dX5_strings_68 ?_
          refine lv_iconst (v := (0 : Int32)) hx hb dX5_strings_71 ic_0 ?_
          refine ml_7 hx hb hK hP (show ¬ ((0 : Int32) < 0 ∨ 16 ≤ (0 : Int32).toNatClampNeg) by decide) dX5_strings_72 ?_
          refine lv_iload_n hx hb dX5_strings_73 rfl (lv_at hl 4 rfl) ?_
          refine g_RS (As := [.long ((dm_regs d) (0 : Int32).toNatClampNeg), .int sz]) (rest := []) hC (m_X5_cut ((dm_regs d) (0 : Int32).toNatClampNeg) sz _ rfl) (va_cwS 2 hts cw_X5_200 rfl rfl rfl hd_X5_cut ⟨Nat.le_of_ble_eq_true rfl, Nat.le_of_ble_eq_true rfl⟩) g_Kst0 trivial trivial ⟨Nat.zero_le _, Nat.zero_le _⟩ rfl hl.1 rfl (Nat.le_of_ble_eq_true rfl) dX5_strings_74 ?_
          subst hr
          exact kp4 _ _ ls hP hS (lv_sub hl [0, 1, 2, 3, 4] rfl)
        · replace hr := hr.trans (if_neg c_49)
          refine lv_aload_n hx hb dX5_strings_52 rfl (lv_at hl 2 rfl) ?_
          refine lv_aload_n hx hb dX5_strings_53 rfl (lv_at hl 2 rfl) ?_
          refine mg_0_16 hx hb hts hown hK hP (hts _ q687) dX5_strings_54 ?_
          refine lv_bipush (v := (6 : Int32)) hx hb dX5_strings_57 bp_6 ?_
          refine ml_7 hx hb hK hP (show ¬ ((6 : Int32) < 0 ∨ 16 ≤ (6 : Int32).toNatClampNeg) by decide) dX5_strings_59 ?_
          refine lv_iload_n hx hb dX5_strings_60 rfl (lv_at hl 4 rfl) ?_
          obtain ⟨g5, eg5⟩ : ∃ z, z = m_load K ((dm_regs d) (6 : Int32).toNatClampNeg) sz d := ⟨_, rfl⟩
          replace hr := hr.trans (bnd_eq eg5)
          refine g_UV1 (As := [.long ((dm_regs d) (6 : Int32).toNatClampNeg), .int sz]) (rest := []) hC (m_X5_load hI (K := K) (d := d) ((dm_regs d) (6 : Int32).toNatClampNeg) sz g5 eg5 hgd.1) (cwV 2 hts cw_X5_207 rfl rfl rfl hd_X5_load ⟨Nat.le_of_ble_eq_true rfl, Nat.le_of_ble_eq_true rfl⟩) mKst (va_recv hK hP (ci := 5) (q0 := 0) rfl rfl) hP hKp ⟨Nat.zero_le _, Nat.zero_le _⟩ hS (fun _ h => h) rfl hl.1 rfl (Nat.le_of_ble_eq_true rfl) dX5_strings_61 (fun H locs hP hS => ?_)
          have hP : va_P D xcl (MW ad ca K g5.2) H := hP
          refine lv_goto (tgt := 77) hx hb dX5_strings_64 (by decide) ?_
          subst hr
          exact kp4 _ _ ls hP hS (lv_sub hl [0, 1, 2, 3, 4] rfl)
      replace hr := ep3
      refine lv_icmp_eq (tgt := 40) hx hb dX5_strings_31 (by decide) (fun c_31 => ?_) (fun c_31 => ?_)
      · replace hr := hr.trans (if_pos c_31)
        refine lv_iconst (v := (1 : Int32)) hx hb dX5_strings_40 ic_1 ?_
        refine lv_goto (tgt := 45) hx hb dX5_strings_41 (by decide) ?_
        subst hr
        exact kp3 _ _ ls hP hS (lv_sub hl [0, 1, 2, 3] rfl)
      · replace hr := hr.trans (if_neg c_31)
        refine lv_iload_n hx hb dX5_strings_34 rfl (lv_at hl 2 rfl) ?_
        refine lv_bipush (v := (52 : Int32)) hx hb dX5_strings_35 bp_52 ?_
        refine lv_icmp_ne (tgt := 44) hx hb dX5_strings_37 (by decide) (fun c_37 => ?_) (fun c_37 => ?_)
        · replace hr := hr.trans (if_neg c_37)
          refine lv_iconst (v := (0 : Int32)) hx hb dX5_strings_44 ic_0 ?_
          subst hr
          exact kp3 _ _ ls hP hS (lv_sub hl [0, 1, 2, 3] rfl)
        · replace hr := hr.trans (if_pos c_37)
          refine lv_iconst (v := (1 : Int32)) hx hb dX5_strings_40 ic_1 ?_
          refine lv_goto (tgt := 45) hx hb dX5_strings_41 (by decide) ?_
          subst hr
          exact kp3 _ _ ls hP hS (lv_sub hl [0, 1, 2, 3] rfl)
    replace hr := eb2
    refine lv_if_eq (tgt := 28) hx hb dX5_strings_13 (by decide) (fun c_13 => ?_) (fun c_13 => ?_)
    · replace hr := hr.trans (if_pos c_13)
      exact kb2F (by rw [hr]; decide)
    · replace hr := hr.trans (if_neg c_13)
      refine lv_aload_n hx hb dX5_strings_16 rfl (lv_at hl 1 rfl) ?_
      refine mg_0_16 hx hb hts hown hK hP (hts _ q687) dX5_strings_17 ?_
      refine lv_iconst (v := (1 : Int32)) hx hb dX5_strings_20 ic_1 ?_
      refine ml_7 hx hb hK hP (show ¬ ((1 : Int32) < 0 ∨ 16 ≤ (1 : Int32).toNatClampNeg) by decide) dX5_strings_21 ?_
      refine lv_lconst (v := (0 : Int64)) hx hb dX5_strings_22 lc_0 ?_
      refine lq_ne (tgt := 28) hx hb dX5_strings_23 dX5_strings_24 (by decide) (fun c_23 => ?_) (fun c_23 => ?_)
      · replace hr := hr.trans (if_neg c_23)
        exact kb2F (by rw [hr]; decide)
      · replace hr := hr.trans (if_pos c_23)
        exact kb2T hr
  replace hr := ep1
  refine lv_icmp_le (tgt := 10) hx hb dX5_strings_3 (by decide) (fun c_3 => ?_) (fun c_3 => ?_)
  · replace hr := hr.trans (if_pos c_3)
    refine lv_iconst (v := (0 : Int32)) hx hb dX5_strings_10 ic_0 ?_
    subst hr
    exact kp1 _ _ ls hP hS (lv_sub hl [0, 1, 2] rfl)
  · replace hr := hr.trans (if_neg c_3)
    refine lv_iconst (v := (1 : Int32)) hx hb dX5_strings_6 ic_1 ?_
    refine lv_goto (tgt := 11) hx hb dX5_strings_7 (by decide) ?_
    subst hr
    exact kp1 _ _ ls hP hS (lv_sub hl [0, 1, 2] rfl)
def m_choose (K : MK) (sz : Int32) (d : MD) : MD := bnd (m_take K (1 : Int32) sz d) fun g1 => bnd (m_take K (0 : Int32) sz g1.2) fun g2 => if (b2i (m_isMet (km_condition K) g2.2)) = 0 then (bnd (m_put K (0 : Int32) sz g2.1 g2.2) fun g3 => g3) else (bnd (m_put K (0 : Int32) sz g1.1 g2.2) fun g4 => g4)
abbrev rm_X5_choose : Room := { frames := 4, cells := 0, slots := 0, locals := 99 }
set_option maxHeartbeats 4000000 in
set_option maxRecDepth 100000 in
theorem m_X5_choose {l : Launch} {D : va_G} {ad : Nat → Nat} {ca : Nat → ClassId} (hI : mInj ad) {K : MK} {d : MD} (sz : Int32) (RES : MD) (hr : RES = m_choose K sz d) (hgd : MGd K) : g_U l yX5_choose (ws_ yX5_choose cX5_choose 6 none) rm_X5_choose [.ref (ad 0), .int sz] (mKp D ca) (mB D ad ca K d) none (mB D ad ca K RES) (mA ad) := by
  refine g_ofU (by decide) (Nat.le_of_ble_eq_true rfl) ?_
  intro p e s m args below meth c ls Q hF hB hKp hl hQ
  obtain ⟨hx, hb, -, -, hml, hown, hts⟩ := id hF
  have hown : s.vm.findClass RX5 = some m.cls := hown
  have hC : CallFix p m c cX5_choose 6 s args lw_all RX5 := ⟨hx, hb, hml, hown, hts⟩
  have hK : va_K D xcl (mtys ca) s := hKp
  have hP : va_P D xcl (MW ad ca K d) s.heap := hB
  have hS : va_S (mA ad) s.heap s.heap [] := va_S.rf
  have hl : lv_has ls 6 [(0, .ref (ad 0)), (1, .int sz)] := hl
  unfold m_choose at hr
  refine lv_aload_n hx hb dX5_choose_0 rfl (lv_at hl 0 rfl) ?_
  refine lv_iconst (v := (1 : Int32)) hx hb dX5_choose_1 ic_1 ?_
  refine lv_iload_n hx hb dX5_choose_2 rfl (lv_at hl 1 rfl) ?_
  obtain ⟨g1, eg1⟩ : ∃ z, z = m_take K (1 : Int32) sz d := ⟨_, rfl⟩
  replace hr := hr.trans (bnd_eq eg1)
  refine g_UV1 (As := [.int (1 : Int32), .int sz]) (rest := []) hC (m_X5_take hI (K := K) (d := d) (1 : Int32) sz g1 eg1 (show ¬ ((1 : Int32) < 0 ∨ 3 ≤ (1 : Int32).toNatClampNeg) by decide) hgd) (cwV 2 hts cw_X5_257 rfl rfl rfl hd_X5_take ⟨Nat.le_of_ble_eq_true rfl, Nat.le_of_ble_eq_true rfl⟩) mKst (va_recv hK hP (ci := 5) (q0 := 0) rfl rfl) hP hKp ⟨Nat.zero_le _, Nat.zero_le _⟩ hS (fun _ h => h) rfl hl.1 rfl (Nat.le_of_ble_eq_true rfl) dX5_choose_3 (fun H locs hP hS => ?_)
  have hP : va_P D xcl (MW ad ca K g1.2) H := hP
  refine lv_lstore_n (lv' := [(2, .long g1.1), (0, .ref (ad 0)), (1, .int sz)]) hx hb dX5_choose_6 rfl hl (by decide) rfl (fun ls hl => ?_)
  refine lv_aload_n hx hb dX5_choose_7 rfl (lv_at hl 1 rfl) ?_
  refine lv_iconst (v := (0 : Int32)) hx hb dX5_choose_8 ic_0 ?_
  refine lv_iload_n hx hb dX5_choose_9 rfl (lv_at hl 2 rfl) ?_
  obtain ⟨g2, eg2⟩ : ∃ z, z = m_take K (0 : Int32) sz g1.2 := ⟨_, rfl⟩
  replace hr := hr.trans (bnd_eq eg2)
  refine g_UV1 (As := [.int (0 : Int32), .int sz]) (rest := []) hC (m_X5_take hI (K := K) (d := g1.2) (0 : Int32) sz g2 eg2 (show ¬ ((0 : Int32) < 0 ∨ 3 ≤ (0 : Int32).toNatClampNeg) by decide) hgd) (cwV 2 hts cw_X5_257 rfl rfl rfl hd_X5_take ⟨Nat.le_of_ble_eq_true rfl, Nat.le_of_ble_eq_true rfl⟩) mKst (va_recv hK hP (ci := 5) (q0 := 0) rfl rfl) hP hKp ⟨Nat.zero_le _, Nat.zero_le _⟩ hS (fun _ h => h) rfl hl.1 rfl (Nat.le_of_ble_eq_true rfl) dX5_choose_10 (fun H locs hP hS => ?_)
  have hP : va_P D xcl (MW ad ca K g2.2) H := hP
  refine lv_lstore (lv' := [(4, .long g2.1), (2, .long g1.1), (0, .ref (ad 0)), (1, .int sz)]) hx hb dX5_choose_13 hl (by decide) rfl (fun ls hl => ?_)
  refine lv_aload_n hx hb dX5_choose_15 rfl (lv_at hl 2 rfl) ?_
  refine lv_iconst (v := (0 : Int32)) hx hb dX5_choose_16 ic_0 ?_
  refine lv_iload_n hx hb dX5_choose_17 rfl (lv_at hl 3 rfl) ?_
  refine lv_aload_n hx hb dX5_choose_18 rfl (lv_at hl 2 rfl) ?_
  refine lv_aload_n hx hb dX5_choose_19 rfl (lv_at hl 2 rfl) ?_
  refine mg_0_32 hx hb hts hown hK hP (hts _ q703) dX5_choose_20 ?_
  refine g_RV (As := [.int (km_condition K)]) (rest := [.int sz, .int (0 : Int32), .ref (ad 0)]) hC (m_X5_isMet (K := K) (d := g2.2) (km_condition K) _ rfl) (cwV 1 hts cw_X5_302 rfl rfl rfl hd_X5_isMet ⟨Nat.le_of_ble_eq_true rfl, Nat.le_of_ble_eq_true rfl⟩) mKst (va_recv hK hP (ci := 5) (q0 := 0) rfl rfl) hP hKp ⟨Nat.zero_le _, Nat.zero_le _⟩ rfl hl.1 rfl (Nat.le_of_ble_eq_true rfl) dX5_choose_23 ?_
  refine lv_if_eq (tgt := 33) hx hb dX5_choose_26 (by decide) (fun c_26 => ?_) (fun c_26 => ?_)
  · replace hr := hr.trans (if_pos c_26)
    refine lv_lload hx hb dX5_choose_33 (lv_at hl 0 rfl) ?_
    obtain ⟨g3, eg3⟩ : ∃ z, z = m_put K (0 : Int32) sz g2.1 g2.2 := ⟨_, rfl⟩
    replace hr := hr.trans (bnd_eq eg3)
    refine g_UV0 (As := [.int (0 : Int32), .int sz, .long g2.1]) (rest := []) hC (m_X5_put hI (K := K) (d := g2.2) (0 : Int32) sz g2.1 g3 eg3 (show ¬ ((0 : Int32) < 0 ∨ 3 ≤ (0 : Int32).toNatClampNeg) by decide) hgd) (cwV 3 hts cw_X5_268 rfl rfl rfl hd_X5_put ⟨Nat.le_of_ble_eq_true rfl, Nat.le_of_ble_eq_true rfl⟩) mKst (va_recv hK hP (ci := 5) (q0 := 0) rfl rfl) hP hKp ⟨Nat.zero_le _, Nat.zero_le _⟩ hS (fun _ h => h) rfl hl.1 rfl (Nat.le_of_ble_eq_true rfl) dX5_choose_35 (fun H locs hP hS => ?_)
    have hP : va_P D xcl (MW ad ca K g3) H := hP
    exact g_endUv (Pic := (fun u => mB D ad ca K u)) (u := g3) hF hQ hr hP hS dX5_choose_38
  · replace hr := hr.trans (if_neg c_26)
    refine lv_lload_n hx hb dX5_choose_29 rfl (lv_at hl 1 rfl) ?_
    refine lv_goto (tgt := 35) hx hb dX5_choose_30 (by decide) ?_
    obtain ⟨g4, eg4⟩ : ∃ z, z = m_put K (0 : Int32) sz g1.1 g2.2 := ⟨_, rfl⟩
    replace hr := hr.trans (bnd_eq eg4)
    refine g_UV0 (As := [.int (0 : Int32), .int sz, .long g1.1]) (rest := []) hC (m_X5_put hI (K := K) (d := g2.2) (0 : Int32) sz g1.1 g4 eg4 (show ¬ ((0 : Int32) < 0 ∨ 3 ≤ (0 : Int32).toNatClampNeg) by decide) hgd) (cwV 3 hts cw_X5_268 rfl rfl rfl hd_X5_put ⟨Nat.le_of_ble_eq_true rfl, Nat.le_of_ble_eq_true rfl⟩) mKst (va_recv hK hP (ci := 5) (q0 := 0) rfl rfl) hP hKp ⟨Nat.zero_le _, Nat.zero_le _⟩ hS (fun _ h => h) rfl hl.1 rfl (Nat.le_of_ble_eq_true rfl) dX5_choose_35 (fun H locs hP hS => ?_)
    have hP : va_P D xcl (MW ad ca K g4) H := hP
    exact g_endUv (Pic := (fun u => mB D ad ca K u)) (u := g4) hF hQ hr hP hS dX5_choose_38
def m_may_L19 (K : MK) (a : Int64) (cnt : Int64) (w : Bool) : Nat → Int64 → Bool
  | 0, w19_6 => false
  | n + 1, w19_6 => if cnt ≤ w19_6 then true else (if 0 ≤ (m_find K (a + w19_6) w) then (bnd (α := Int64) ((w19_6 + (1 : Int64))) fun v1 => m_may_L19 K a cnt w n v1) else false)
theorem m_may_L19_s (K : MK) (a : Int64) (cnt : Int64) (w : Bool) (n : Nat) (w19_6 : Int64) : m_may_L19 K a cnt w (n + 1) w19_6 = if cnt ≤ w19_6 then true else (if 0 ≤ (m_find K (a + w19_6) w) then (bnd (α := Int64) ((w19_6 + (1 : Int64))) fun v1 => m_may_L19 K a cnt w n v1) else false) := rfl
def m_may (K : MK) (a : Int64) (cnt : Int64) (w : Bool) : Bool := if cnt < (0 : Int64) then false else (if cnt ≤ (1048576 : Int64) then (m_may_L19 K a cnt w (mL (0 : Int64) cnt + 1) (0 : Int64)) else false)
abbrev rm_X5_may : Room := { frames := 2, cells := 0, slots := 0, locals := 49 }
set_option maxHeartbeats 4000000 in
set_option maxRecDepth 100000 in
theorem m_X5_may {l : Launch} {D : va_G} {ad : Nat → Nat} {ca : Nat → ClassId} {K : MK} {d : MD} (a : Int64) (cnt : Int64) (w : Bool) (RES : Bool) (hr : RES = m_may K a cnt w) : g_R l yX5_may (ws_ yX5_may cX5_may 8 (some .boolean)) rm_X5_may [.ref (ad 0), .long a, .long cnt, .int (b2i w)] (mKp D ca) (mB D ad ca K d) (.int (b2i RES)) := by
  refine g_ofR (by decide) (Nat.le_of_ble_eq_true rfl) ?_
  intro p e s m args below meth c ls Q hF hB hKp hl hQ
  obtain ⟨hx, hb, -, -, hml, hown, hts⟩ := id hF
  have hown : s.vm.findClass RX5 = some m.cls := hown
  have hC : CallFix p m c cX5_may 8 s args lw_all RX5 := ⟨hx, hb, hml, hown, hts⟩
  have hK : va_K D xcl (mtys ca) s := hKp
  have hP : va_P D xcl (MW ad ca K d) s.heap := hB
  have hl : lv_has ls 8 [(0, .ref (ad 0)), (1, .long a), (3, .long cnt), (5, .int (b2i w))] := hl
  unfold m_may at hr
  refine lv_lload_n hx hb dX5_may_0 rfl (lv_at hl 2 rfl) ?_
  refine lv_lconst (v := (0 : Int64)) hx hb dX5_may_1 lc_0 ?_
  refine lq_lt (tgt := 14) hx hb dX5_may_2 dX5_may_3 (by decide) (fun c_2 => ?_) (fun c_2 => ?_)
  · replace hr := hr.trans (if_pos c_2)
    refine lv_iconst (v := (0 : Int32)) hx hb dX5_may_14 ic_0 ?_
    exact g_endRz hF hQ hr rfl dX5_may_15
  · replace hr := hr.trans (if_neg c_2)
    refine lv_lload_n hx hb dX5_may_6 rfl (lv_at hl 2 rfl) ?_
    refine lv_ldc2 hx hb hown (hts _ q1024) dX5_may_7 ?_
    refine lq_le (tgt := 16) hx hb dX5_may_10 dX5_may_11 (by decide) (fun c_10 => ?_) (fun c_10 => ?_)
    · replace hr := hr.trans (if_pos c_10)
      refine lv_lconst (v := (0 : Int64)) hx hb dX5_may_16 lc_0 ?_
      refine lv_lstore (lv' := [(6, .long (0 : Int64)), (0, .ref (ad 0)), (1, .long a), (3, .long cnt), (5, .int (b2i w))]) hx hb dX5_may_17 hl (by decide) rfl (fun ls hl => ?_)
      have lp19 : ∀ (n : Nat) (w19_6 : Int64) (ls : Array Slot), mL w19_6 cnt < n → RES = m_may_L19 K a cnt w n w19_6 → lv_has ls 8 [(6, .long w19_6), (0, .ref (ad 0)), (1, .long a), (3, .long cnt), (5, .int (b2i w))] → W p l e rm_X5_may s m args below meth c s.heap [] 0 0 Q (F0 m 19 ls []) := by
        intro n
        induction n with
        | zero =>
          intro w19_6 ls hm
          exact absurd hm (Nat.not_lt_zero _)
        | succ n ih =>
          intro w19_6 ls hm  hr hl
          replace hr := hr.trans (m_may_L19_s K a cnt w n w19_6)
          refine lv_lload hx hb dX5_may_19 (lv_at hl 0 rfl) ?_
          refine lv_lload_n hx hb dX5_may_21 rfl (lv_at hl 3 rfl) ?_
          refine lq_ge (tgt := 50) hx hb dX5_may_22 dX5_may_23 (by decide) (fun c_22 => ?_) (fun c_22 => ?_)
          · replace hr := hr.trans (if_pos c_22)
            refine lv_iconst (v := (1 : Int32)) hx hb dX5_may_50 ic_1 ?_
            exact g_endRz hF hQ hr rfl dX5_may_51
          · replace hr := hr.trans (if_neg c_22)
            refine lv_aload_n hx hb dX5_may_26 rfl (lv_at hl 1 rfl) ?_
            refine lv_lload_n hx hb dX5_may_27 rfl (lv_at hl 2 rfl) ?_
            refine lv_lload hx hb dX5_may_28 (lv_at hl 0 rfl) ?_
            refine lv_ladd hx hb dX5_may_30 ?_
            refine lv_iload hx hb dX5_may_31 (lv_at hl 4 rfl) ?_
            refine g_RV (As := [.long (a + w19_6), .int (b2i w)]) (rest := []) hC (m_X5_find (K := K) (d := d) (a + w19_6) w _ rfl) (cwV 2 hts cw_X5_176 rfl rfl rfl hd_X5_find ⟨Nat.le_of_ble_eq_true rfl, Nat.le_of_ble_eq_true rfl⟩) mKst (va_recv hK hP (ci := 5) (q0 := 0) rfl rfl) hP hKp ⟨Nat.zero_le _, Nat.zero_le _⟩ rfl hl.1 rfl (Nat.le_of_ble_eq_true rfl) dX5_may_33 ?_
            refine lv_if_ge (tgt := 41) hx hb dX5_may_36 (by decide) (fun c_36 => ?_) (fun c_36 => ?_)
            · replace hr := hr.trans (if_pos c_36)
              refine lv_lload hx hb dX5_may_41 (lv_at hl 0 rfl) ?_
              refine lv_lconst (v := (1 : Int64)) hx hb dX5_may_43 lc_1 ?_
              refine lv_ladd hx hb dX5_may_44 ?_
              refine lv_topl (fun v1 ev1 => ?_)
              replace hr := hr.trans (bnd_eq ev1)
              refine lv_lstore (lv' := [(6, .long v1), (0, .ref (ad 0)), (1, .long a), (3, .long cnt), (5, .int (b2i w))]) hx hb dX5_may_45 hl (by decide) rfl (fun ls hl => ?_)
              refine lv_goto (tgt := 19) hx hb dX5_may_47 (by decide) ?_
              exact ih v1 ls (mL_dec c_22 hm ev1) hr (lv_sub hl [0, 1, 2, 3, 4] rfl)
            · replace hr := hr.trans (if_neg c_36)
              refine lv_iconst (v := (0 : Int32)) hx hb dX5_may_39 ic_0 ?_
              exact g_endRz hF hQ hr rfl dX5_may_40
      exact lp19 (mL (0 : Int64) cnt + 1) (0 : Int64) ls (Nat.lt_succ_self _) hr (lv_sub hl [0, 1, 2, 3, 4] rfl)
    · replace hr := hr.trans (if_neg c_10)
      refine lv_iconst (v := (0 : Int32)) hx hb dX5_may_14 ic_0 ?_
      exact g_endRz hF hQ hr rfl dX5_may_15
