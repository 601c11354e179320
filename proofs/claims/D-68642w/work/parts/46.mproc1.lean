def m_arithmetic (K : MK) (o : Int32) (sz : Int32) (d : MD) : MD := bnd (m_take K (0 : Int32) sz d) fun g1 => bnd (m_take K (1 : Int32) sz g1.2) fun g2 => bnd (α := Int64 × MD) (bnd (α := Bool) (if o = 0 then true else (if o = (2 : Int32) then true else false)) fun b4 => if b4 = true then (bnd (α := Bool) (if o = (2 : Int32) then (if (b2i (dm_carry g2.2)) = 0 then false else true) else false) fun b5 => if b5 = true then (bnd (m_add g1.1 g2.1 true sz g2.2) fun g6 => (g6.1, g6.2)) else (bnd (m_add g1.1 g2.1 false sz g2.2) fun g7 => (g7.1, g7.2))) else (bnd (α := Bool) (if o = (3 : Int32) then true else (if o = (5 : Int32) then true else (if o = (7 : Int32) then true else false))) fun b8 => if b8 = true then (bnd (α := Bool) (if o = (3 : Int32) then (if (b2i (dm_carry g2.2)) = 0 then false else true) else false) fun b9 => if b9 = true then (bnd (m_subtract g1.1 g2.1 true sz g2.2) fun g10 => (g10.1, g10.2)) else (bnd (m_subtract g1.1 g2.1 false sz g2.2) fun g11 => (g11.1, g11.2))) else (bnd (α := Int64) (if o = (1 : Int32) then (g1.1 ||| g2.1) else (if o = (6 : Int32) then (g1.1 ^^^ g2.1) else (g1.1 &&& g2.1))) fun p12 => bnd (dm_carry_ false g2.2) fun d13 => bnd (dm_over_ false d13) fun d14 => bnd (m_zsp p12 sz d14) fun g15 => (p12, g15)))) fun p3 => if o = (7 : Int32) then p3.2 else (if o = (9 : Int32) then p3.2 else (bnd (m_put K (0 : Int32) sz p3.1 p3.2) fun g16 => g16))
abbrev rm_X5_arithmetic : Room := { frames := 4, cells := 0, slots := 0, locals := 99 }
set_option maxHeartbeats 4000000 in
set_option maxRecDepth 100000 in
theorem m_X5_arithmetic {l : Launch} {D : va_G} {ad : Nat → Nat} {ca : Nat → ClassId} (hI : mInj ad) {K : MK} {d : MD} (o : Int32) (sz : Int32) (RES : MD) (hr : RES = m_arithmetic K o sz d) (hgd : MGd K) : g_U l yX5_arithmetic (ws_ yX5_arithmetic cX5_arithmetic 9 none) rm_X5_arithmetic [.ref (ad 0), .int o, .int sz] (mKp D ca) (mB D ad ca K d) none (mB D ad ca K RES) (mA ad) := by
  refine g_ofU (by decide) (Nat.le_of_ble_eq_true rfl) ?_
  intro p e s m args below meth c ls Q hF hB hKp hl hQ
  obtain ⟨hx, hb, -, -, hml, hown, hts⟩ := id hF
  have hown : s.vm.findClass RX5 = some m.cls := hown
  have hC : CallFix p m c cX5_arithmetic 9 s args lw_all RX5 := ⟨hx, hb, hml, hown, hts⟩
  have hK : va_K D xcl (mtys ca) s := hKp
  have hP : va_P D xcl (MW ad ca K d) s.heap := hB
  have hS : va_S (mA ad) s.heap s.heap [] := va_S.rf
  have hl : lv_has ls 9 [(0, .ref (ad 0)), (1, .int o), (2, .int sz)] := hl
  unfold m_arithmetic at hr
  refine lv_aload_n hx hb dX5_arithmetic_0 rfl (lv_at hl 0 rfl) ?_
  refine lv_iconst (v := (0 : Int32)) hx hb dX5_arithmetic_1 ic_0 ?_
  refine lv_iload_n hx hb dX5_arithmetic_2 rfl (lv_at hl 2 rfl) ?_
  obtain ⟨g1, eg1⟩ : ∃ z, z = m_take K (0 : Int32) sz d := ⟨_, rfl⟩
  replace hr := hr.trans (bnd_eq eg1)
  refine g_UV1 (As := [.int (0 : Int32), .int sz]) (rest := []) hC (m_X5_take hI (K := K) (d := d) (0 : Int32) sz g1 eg1 (show ¬ ((0 : Int32) < 0 ∨ 3 ≤ (0 : Int32).toNatClampNeg) by decide) hgd) (cwV 2 hts cw_X5_257 rfl rfl rfl hd_X5_take ⟨Nat.le_of_ble_eq_true rfl, Nat.le_of_ble_eq_true rfl⟩) mKst (va_recv hK hP (ci := 5) (q0 := 0) rfl rfl) hP hKp ⟨Nat.zero_le _, Nat.zero_le _⟩ hS (fun _ h => h) rfl hl.1 rfl (Nat.le_of_ble_eq_true rfl) dX5_arithmetic_3 (fun H locs hP hS => ?_)
  have hP : va_P D xcl (MW ad ca K g1.2) H := hP
  refine lv_lstore_n (lv' := [(3, .long g1.1), (0, .ref (ad 0)), (1, .int o), (2, .int sz)]) hx hb dX5_arithmetic_6 rfl hl (by decide) rfl (fun ls hl => ?_)
  refine lv_aload_n hx hb dX5_arithmetic_7 rfl (lv_at hl 1 rfl) ?_
  refine lv_iconst (v := (1 : Int32)) hx hb dX5_arithmetic_8 ic_1 ?_
  refine lv_iload_n hx hb dX5_arithmetic_9 rfl (lv_at hl 3 rfl) ?_
  obtain ⟨g2, eg2⟩ : ∃ z, z = m_take K (1 : Int32) sz g1.2 := ⟨_, rfl⟩
  replace hr := hr.trans (bnd_eq eg2)
  refine g_UV1 (As := [.int (1 : Int32), .int sz]) (rest := []) hC (m_X5_take hI (K := K) (d := g1.2) (1 : Int32) sz g2 eg2 (show ¬ ((1 : Int32) < 0 ∨ 3 ≤ (1 : Int32).toNatClampNeg) by decide) hgd) (cwV 2 hts cw_X5_257 rfl rfl rfl hd_X5_take ⟨Nat.le_of_ble_eq_true rfl, Nat.le_of_ble_eq_true rfl⟩) mKst (va_recv hK hP (ci := 5) (q0 := 0) rfl rfl) hP hKp ⟨Nat.zero_le _, Nat.zero_le _⟩ hS (fun _ h => h) rfl hl.1 rfl (Nat.le_of_ble_eq_true rfl) dX5_arithmetic_10 (fun H locs hP hS => ?_)
  have hP : va_P D xcl (MW ad ca K g2.2) H := hP
  refine lv_lstore (lv' := [(5, .long g2.1), (3, .long g1.1), (0, .ref (ad 0)), (1, .int o), (2, .int sz)]) hx hb dX5_arithmetic_13 hl (by decide) rfl (fun ls hl => ?_)
  refine lv_lconst (v := (0 : Int64)) hx hb dX5_arithmetic_15 lc_0 ?_
  refine lv_lstore (lv' := [(7, .long (0 : Int64)), (5, .long g2.1), (3, .long g1.1), (0, .ref (ad 0)), (1, .int o), (2, .int sz)]) hx hb dX5_arithmetic_16 hl (by decide) rfl (fun ls hl => ?_)
  refine lv_iload_n hx hb dX5_arithmetic_18 rfl (lv_at hl 4 rfl) ?_
  obtain ⟨p3, ep3⟩ : ∃ z : Int64 × MD, z = (bnd (α := Bool) (if o = 0 then true else (if o = (2 : Int32) then true else false)) fun b4 => if b4 = true then (bnd (α := Bool) (if o = (2 : Int32) then (if (b2i (dm_carry g2.2)) = 0 then false else true) else false) fun b5 => if b5 = true then (bnd (m_add g1.1 g2.1 true sz g2.2) fun g6 => (g6.1, g6.2)) else (bnd (m_add g1.1 g2.1 false sz g2.2) fun g7 => (g7.1, g7.2))) else (bnd (α := Bool) (if o = (3 : Int32) then true else (if o = (5 : Int32) then true else (if o = (7 : Int32) then true else false))) fun b8 => if b8 = true then (bnd (α := Bool) (if o = (3 : Int32) then (if (b2i (dm_carry g2.2)) = 0 then false else true) else false) fun b9 => if b9 = true then (bnd (m_subtract g1.1 g2.1 true sz g2.2) fun g10 => (g10.1, g10.2)) else (bnd (m_subtract g1.1 g2.1 false sz g2.2) fun g11 => (g11.1, g11.2))) else (bnd (α := Int64) (if o = (1 : Int32) then (g1.1 ||| g2.1) else (if o = (6 : Int32) then (g1.1 ^^^ g2.1) else (g1.1 &&& g2.1))) fun p12 => bnd (dm_carry_ false g2.2) fun d13 => bnd (dm_over_ false d13) fun d14 => bnd (m_zsp p12 sz d14) fun g15 => (p12, g15)))) := ⟨_, rfl⟩
  replace hr := hr.trans (bnd_eq ep3)
  have kp3 : ∀ (H : Heap) (locs : List Loc) (ls : Array Slot), va_P D xcl (MW ad ca K p3.2) H → va_S (mA ad) s.heap H locs → lv_has ls 9 [(7, .long p3.1), (5, .long g2.1), (3, .long g1.1), (0, .ref (ad 0)), (1, .int o), (2, .int sz)] → W p l e rm_X5_arithmetic s m args below meth c H locs 0 0 Q (F0 m 151 ls []) := by
    intro H locs ls hP hS hl
    refine lv_iload_n hx hb dX5_arithmetic_151 rfl (lv_at hl 4 rfl) ?_
    refine lv_bipush (v := (7 : Int32)) hx hb dX5_arithmetic_152 bp_7 ?_
    refine lv_icmp_eq (tgt := 171) hx hb dX5_arithmetic_154 (by decide) (fun c_154 => ?_) (fun c_154 => ?_)
    · replace hr := hr.trans (if_pos c_154)
      exact g_endUv (Pic := (fun u => mB D ad ca K u)) (u := p3.2) hF hQ hr hP hS dX5_arithmetic_171
    · replace hr := hr.trans (if_neg c_154)
      refine lv_iload_n hx hb dX5_arithmetic_157 rfl (lv_at hl 4 rfl) ?_
      refine lv_bipush (v := (9 : Int32)) hx hb dX5_arithmetic_158 bp_9 ?_
      refine lv_icmp_eq (tgt := 171) hx hb dX5_arithmetic_160 (by decide) (fun c_160 => ?_) (fun c_160 => ?_)
      · replace hr := hr.trans (if_pos c_160)
        exact g_endUv (Pic := (fun u => mB D ad ca K u)) (u := p3.2) hF hQ hr hP hS dX5_arithmetic_171
      · replace hr := hr.trans (if_neg c_160)
        refine lv_aload_n hx hb dX5_arithmetic_163 rfl (lv_at hl 3 rfl) ?_
        refine lv_iconst (v := (0 : Int32)) hx hb dX5_arithmetic_164 ic_0 ?_
        refine lv_iload_n hx hb dX5_arithmetic_165 rfl (lv_at hl 5 rfl) ?_
        refine lv_lload hx hb dX5_arithmetic_166 (lv_at hl 0 rfl) ?_
        obtain ⟨g16, eg16⟩ : ∃ z, z = m_put K (0 : Int32) sz p3.1 p3.2 := ⟨_, rfl⟩
        replace hr := hr.trans (bnd_eq eg16)
        refine g_UV0 (As := [.int (0 : Int32), .int sz, .long p3.1]) (rest := []) hC (m_X5_put hI (K := K) (d := p3.2) (0 : Int32) sz p3.1 g16 eg16 (show ¬ ((0 : Int32) < 0 ∨ 3 ≤ (0 : Int32).toNatClampNeg) by decide) hgd) (cwV 3 hts cw_X5_268 rfl rfl rfl hd_X5_put ⟨Nat.le_of_ble_eq_true rfl, Nat.le_of_ble_eq_true rfl⟩) mKst (va_recv hK hP (ci := 5) (q0 := 0) rfl rfl) hP hKp ⟨Nat.zero_le _, Nat.zero_le _⟩ hS (fun _ h => h) rfl hl.1 rfl (Nat.le_of_ble_eq_true rfl) dX5_arithmetic_168 (fun H locs hP hS => ?_)
        have hP : va_P D xcl (MW ad ca K g16) H := hP
        exact g_endUv (Pic := (fun u => mB D ad ca K u)) (u := g16) hF hQ hr hP hS dX5_arithmetic_171
  replace hr := ep3
  obtain ⟨b4, eb4⟩ : ∃ z : Bool, z = (if o = 0 then true else (if o = (2 : Int32) then true else false)) := ⟨_, rfl⟩
  replace hr := hr.trans (bnd_eq eb4)
  have kb4T : b4 = true → W p l e rm_X5_arithmetic s m args below meth c H locs 0 0 Q (F0 m 27 ls []) := by
    intro hb4
    replace hr := hr.trans (if_pos hb4)
    refine lv_aload_n hx hb dX5_arithmetic_27 rfl (lv_at hl 3 rfl) ?_
    refine lv_lload_n hx hb dX5_arithmetic_28 rfl (lv_at hl 2 rfl) ?_
    refine lv_lload hx hb dX5_arithmetic_29 (lv_at hl 1 rfl) ?_
    refine lv_iload_n hx hb dX5_arithmetic_31 rfl (lv_at hl 4 rfl) ?_
    refine lv_iconst (v := (2 : Int32)) hx hb dX5_arithmetic_32 ic_2 ?_
    obtain ⟨b5, eb5⟩ : ∃ z : Bool, z = (if o = (2 : Int32) then (if (b2i (dm_carry g2.2)) = 0 then false else true) else false) := ⟨_, rfl⟩
    replace hr := hr.trans (bnd_eq eb5)
    have kb5T : b5 = true → W p l e rm_X5_arithmetic s m args below meth c H locs 0 0 Q (F0 m 43 ls [.long g2.1, .long g1.1, .ref (ad 0)]) := by
      intro hb5
      replace hr := hr.trans (if_pos hb5)
      have er := eb5
      have c_33 : o = (2 : Int32) := Decidable.byContradiction (fun q => absurd (hb5.symm.trans (er.trans (if_neg q))) (by decide))
      have er := er.trans (if_pos c_33)
      have c_40 : ¬ ((b2i (dm_carry g2.2)) = 0) := fun q => absurd (hb5.symm.trans (er.trans (if_pos q))) (by decide)
      have er := er.trans (if_neg c_40)
      clear er
      refine lv_iconst (v := (1 : Int32)) hx hb dX5_arithmetic_43 ic_1 ?_
      refine lv_goto (tgt := 48) hx hb dX5_arithmetic_44 (by decide) ?_
      refine lv_iload_n hx hb dX5_arithmetic_48 rfl (lv_at hl 5 rfl) ?_
      obtain ⟨g6, eg6⟩ : ∃ z, z = m_add g1.1 g2.1 true sz g2.2 := ⟨_, rfl⟩
      replace hr := hr.trans (bnd_eq eg6)
      refine g_UV1 (As := [.long g1.1, .long g2.1, .int (b2i true), .int sz]) (rest := []) hC (m_X5_add hI (K := K) (d := g2.2) g1.1 g2.1 true sz g6 eg6) (cwV 4 hts cw_X5_261 rfl rfl rfl hd_X5_add ⟨Nat.le_of_ble_eq_true rfl, Nat.le_of_ble_eq_true rfl⟩) mKst (va_recv hK hP (ci := 5) (q0 := 0) rfl rfl) hP hKp ⟨Nat.zero_le _, Nat.zero_le _⟩ hS (fun _ h => h) rfl hl.1 rfl (Nat.le_of_ble_eq_true rfl) dX5_arithmetic_49 (fun H locs hP hS => ?_)
      have hP : va_P D xcl (MW ad ca K g6.2) H := hP
      refine lv_lstore (lv' := [(7, .long g6.1), (5, .long g2.1), (3, .long g1.1), (0, .ref (ad 0)), (1, .int o), (2, .int sz)]) hx hb dX5_arithmetic_52 hl (by decide) rfl (fun ls hl => ?_)
      refine lv_goto (tgt := 151) hx hb dX5_arithmetic_54 (by decide) ?_
      subst hr
      exact kp3 _ _ ls hP hS (lv_sub hl [0, 1, 2, 3, 4, 5] rfl)
    have kb5F : ¬ b5 = true → W p l e rm_X5_arithmetic s m args below meth c H locs 0 0 Q (F0 m 47 ls [.long g2.1, .long g1.1, .ref (ad 0)]) := by
      intro hb5
      replace hr := hr.trans (if_neg hb5)
      refine lv_iconst (v := (0 : Int32)) hx hb dX5_arithmetic_47 ic_0 ?_
      refine lv_iload_n hx hb dX5_arithmetic_48 rfl (lv_at hl 5 rfl) ?_
      obtain ⟨g7, eg7⟩ : ∃ z, z = m_add g1.1 g2.1 false sz g2.2 := ⟨_, rfl⟩
      replace hr := hr.trans (bnd_eq eg7)
      refine g_UV1 (As := [.long g1.1, .long g2.1, .int (b2i false), .int sz]) (rest := []) hC (m_X5_add hI (K := K) (d := g2.2) g1.1 g2.1 false sz g7 eg7) (cwV 4 hts cw_X5_261 rfl rfl rfl hd_X5_add ⟨Nat.le_of_ble_eq_true rfl, Nat.le_of_ble_eq_true rfl⟩) mKst (va_recv hK hP (ci := 5) (q0 := 0) rfl rfl) hP hKp ⟨Nat.zero_le _, Nat.zero_le _⟩ hS (fun _ h => h) rfl hl.1 rfl (Nat.le_of_ble_eq_true rfl) dX5_arithmetic_49 (fun H locs hP hS => ?_)
      have hP : va_P D xcl (MW ad ca K g7.2) H := hP
      refine lv_lstore (lv' := [(7, .long g7.1), (5, .long g2.1), (3, .long g1.1), (0, .ref (ad 0)), (1, .int o), (2, .int sz)]) hx hb dX5_arithmetic_52 hl (by decide) rfl (fun ls hl => ?_)
      refine lv_goto (tgt := 151) hx hb dX5_arithmetic_54 (by decide) ?_
      subst hr
      exact kp3 _ _ ls hP hS (lv_sub hl [0, 1, 2, 3, 4, 5] rfl)
    replace hr := eb5
    refine lv_icmp_ne (tgt := 47) hx hb dX5_arithmetic_33 (by decide) (fun c_33 => ?_) (fun c_33 => ?_)
    · replace hr := hr.trans (if_neg c_33)
      exact kb5F (by rw [hr]; decide)
    · replace hr := hr.trans (if_pos c_33)
      refine lv_aload_n hx hb dX5_arithmetic_36 rfl (lv_at hl 3 rfl) ?_
      refine mg_0_21 hx hb hts hown hK hP (hts _ q692) dX5_arithmetic_37 ?_
      refine lv_if_eq (tgt := 47) hx hb dX5_arithmetic_40 (by decide) (fun c_40 => ?_) (fun c_40 => ?_)
      · replace hr := hr.trans (if_pos c_40)
        exact kb5F (by rw [hr]; decide)
      · replace hr := hr.trans (if_neg c_40)
        exact kb5T hr
  have kb4F : ¬ b4 = true → W p l e rm_X5_arithmetic s m args below meth c H locs 0 0 Q (F0 m 57 ls []) := by
    intro hb4
    replace hr := hr.trans (if_neg hb4)
    have er := eb4
    have hf := Bool.eq_false_iff.mpr hb4
    have c_19 : ¬ (o = 0) := fun q => absurd (hf.symm.trans (er.trans (if_pos q))) (by decide)
    have er := er.trans (if_neg c_19)
    have c_24 : ¬ (o = (2 : Int32)) := fun q => absurd (hf.symm.trans (er.trans (if_pos q))) (by decide)
    have er := er.trans (if_neg c_24)
    clear er
    refine lv_iload_n hx hb dX5_arithmetic_57 rfl (lv_at hl 4 rfl) ?_
    refine lv_iconst (v := (3 : Int32)) hx hb dX5_arithmetic_58 ic_3 ?_
    obtain ⟨b8, eb8⟩ : ∃ z : Bool, z = (if o = (3 : Int32) then true else (if o = (5 : Int32) then true else (if o = (7 : Int32) then true else false))) := ⟨_, rfl⟩
    replace hr := hr.trans (bnd_eq eb8)
    have kb8T : b8 = true → W p l e rm_X5_arithmetic s m args below meth c H locs 0 0 Q (F0 m 73 ls []) := by
      intro hb8
      replace hr := hr.trans (if_pos hb8)
      refine lv_aload_n hx hb dX5_arithmetic_73 rfl (lv_at hl 3 rfl) ?_
      refine lv_lload_n hx hb dX5_arithmetic_74 rfl (lv_at hl 2 rfl) ?_
      refine lv_lload hx hb dX5_arithmetic_75 (lv_at hl 1 rfl) ?_
      refine lv_iload_n hx hb dX5_arithmetic_77 rfl (lv_at hl 4 rfl) ?_
      refine lv_iconst (v := (3 : Int32)) hx hb dX5_arithmetic_78 ic_3 ?_
      obtain ⟨b9, eb9⟩ : ∃ z : Bool, z = (if o = (3 : Int32) then (if (b2i (dm_carry g2.2)) = 0 then false else true) else false) := ⟨_, rfl⟩
      replace hr := hr.trans (bnd_eq eb9)
      have kb9T : b9 = true → W p l e rm_X5_arithmetic s m args below meth c H locs 0 0 Q (F0 m 89 ls [.long g2.1, .long g1.1, .ref (ad 0)]) := by
        intro hb9
        replace hr := hr.trans (if_pos hb9)
        have er := eb9
        have c_79 : o = (3 : Int32) := Decidable.byContradiction (fun q => absurd (hb9.symm.trans (er.trans (if_neg q))) (by decide))
        have er := er.trans (if_pos c_79)
        have c_86 : ¬ ((b2i (dm_carry g2.2)) = 0) := fun q => absurd (hb9.symm.trans (er.trans (if_pos q))) (by decide)
        have er := er.trans (if_neg c_86)
        clear er
        refine lv_iconst (v := (1 : Int32)) hx hb dX5_arithmetic_89 ic_1 ?_
        refine lv_goto (tgt := 94) hx hb dX5_arithmetic_90 (by decide) ?_
        refine lv_iload_n hx hb dX5_arithmetic_94 rfl (lv_at hl 5 rfl) ?_
        obtain ⟨g10, eg10⟩ : ∃ z, z = m_subtract g1.1 g2.1 true sz g2.2 := ⟨_, rfl⟩
        replace hr := hr.trans (bnd_eq eg10)
        refine g_UV1 (As := [.long g1.1, .long g2.1, .int (b2i true), .int sz]) (rest := []) hC (m_X5_subtract hI (K := K) (d := g2.2) g1.1 g2.1 true sz g10 eg10) (cwV 4 hts cw_X5_265 rfl rfl rfl hd_X5_subtract ⟨Nat.le_of_ble_eq_true rfl, Nat.le_of_ble_eq_true rfl⟩) mKst (va_recv hK hP (ci := 5) (q0 := 0) rfl rfl) hP hKp ⟨Nat.zero_le _, Nat.zero_le _⟩ hS (fun _ h => h) rfl hl.1 rfl (Nat.le_of_ble_eq_true rfl) dX5_arithmetic_95 (fun H locs hP hS => ?_)
        have hP : va_P D xcl (MW ad ca K g10.2) H := hP
        refine lv_lstore (lv' := [(7, .long g10.1), (5, .long g2.1), (3, .long g1.1), (0, .ref (ad 0)), (1, .int o), (2, .int sz)]) hx hb dX5_arithmetic_98 hl (by decide) rfl (fun ls hl => ?_)
        refine lv_goto (tgt := 151) hx hb dX5_arithmetic_100 (by decide) ?_
        subst hr
        exact kp3 _ _ ls hP hS (lv_sub hl [0, 1, 2, 3, 4, 5] rfl)
      have kb9F : ¬ b9 = true → W p l e rm_X5_arithmetic s m args below meth c H locs 0 0 Q (F0 m 93 ls [.long g2.1, .long g1.1, .ref (ad 0)]) := by
        intro hb9
        replace hr := hr.trans (if_neg hb9)
        refine lv_iconst (v := (0 : Int32)) hx hb dX5_arithmetic_93 ic_0 ?_
        refine lv_iload_n hx hb dX5_arithmetic_94 rfl (lv_at hl 5 rfl) ?_
        obtain ⟨g11, eg11⟩ : ∃ z, z = m_subtract g1.1 g2.1 false sz g2.2 := ⟨_, rfl⟩
        replace hr := hr.trans (bnd_eq eg11)
        refine g_UV1 (As := [.long g1.1, .long g2.1, .int (b2i false), .int sz]) (rest := []) hC (m_X5_subtract hI (K := K) (d := g2.2) g1.1 g2.1 false sz g11 eg11) (cwV 4 hts cw_X5_265 rfl rfl rfl hd_X5_subtract ⟨Nat.le_of_ble_eq_true rfl, Nat.le_of_ble_eq_true rfl⟩) mKst (va_recv hK hP (ci := 5) (q0 := 0) rfl rfl) hP hKp ⟨Nat.zero_le _, Nat.zero_le _⟩ hS (fun _ h => h) rfl hl.1 rfl (Nat.le_of_ble_eq_true rfl) dX5_arithmetic_95 (fun H locs hP hS => ?_)
        have hP : va_P D xcl (MW ad ca K g11.2) H := hP
        refine lv_lstore (lv' := [(7, .long g11.1), (5, .long g2.1), (3, .long g1.1), (0, .ref (ad 0)), (1, .int o), (2, .int sz)]) hx hb dX5_arithmetic_98 hl (by decide) rfl (fun ls hl => ?_)
        refine lv_goto (tgt := 151) hx hb dX5_arithmetic_100 (by decide) ?_
        subst hr
        exact kp3 _ _ ls hP hS (lv_sub hl [0, 1, 2, 3, 4, 5] rfl)
      replace hr := eb9
      refine lv_icmp_ne (tgt := 93) hx hb dX5_arithmetic_79 (by decide) (fun c_79 => ?_) (fun c_79 => ?_)
      · replace hr := hr.trans (if_neg c_79)
        exact kb9F (by rw [hr]; decide)
      · replace hr := hr.trans (if_pos c_79)
        refine lv_aload_n hx hb dX5_arithmetic_82 rfl (lv_at hl 3 rfl) ?_
        refine mg_0_21 hx hb hts hown hK hP (hts _ q692) dX5_arithmetic_83 ?_
        refine lv_if_eq (tgt := 93) hx hb dX5_arithmetic_86 (by decide) (fun c_86 => ?_) (fun c_86 => ?_)
        · replace hr := hr.trans (if_pos c_86)
          exact kb9F (by rw [hr]; decide)
        · replace hr := hr.trans (if_neg c_86)
          exact kb9T hr
    have kb8F : ¬ b8 = true → W p l e rm_X5_arithmetic s m args below meth c H locs 0 0 Q (F0 m 103 ls []) := by
      intro hb8
      replace hr := hr.trans (if_neg hb8)
      have er := eb8
      have hf := Bool.eq_false_iff.mpr hb8
      have c_59 : ¬ (o = (3 : Int32)) := fun q => absurd (hf.symm.trans (er.trans (if_pos q))) (by decide)
      have er := er.trans (if_neg c_59)
      have c_64 : ¬ (o = (5 : Int32)) := fun q => absurd (hf.symm.trans (er.trans (if_pos q))) (by decide)
      have er := er.trans (if_neg c_64)
      have c_70 : ¬ (o = (7 : Int32)) := fun q => absurd (hf.symm.trans (er.trans (if_pos q))) (by decide)
      have er := er.trans (if_neg c_70)
      clear er
      refine lv_iload_n hx hb dX5_arithmetic_103 rfl (lv_at hl 4 rfl) ?_
      refine lv_iconst (v := (1 : Int32)) hx hb dX5_arithmetic_104 ic_1 ?_
      obtain ⟨p12, ep12⟩ : ∃ z : Int64, z = (if o = (1 : Int32) then (g1.1 ||| g2.1) else (if o = (6 : Int32) then (g1.1 ^^^ g2.1) else (g1.1 &&& g2.1))) := ⟨_, rfl⟩
      replace hr := hr.trans (bnd_eq ep12)
      have kp12 : ∀ (H : Heap) (locs : List Loc) (ls : Array Slot), va_P D xcl (MW ad ca K g2.2) H → va_S (mA ad) s.heap H locs → lv_has ls 9 [(7, .long (0 : Int64)), (5, .long g2.1), (3, .long g1.1), (0, .ref (ad 0)), (1, .int o), (2, .int sz)] → W p l e rm_X5_arithmetic s m args below meth c H locs 0 0 Q (F0 m 132 ls [.long p12]) := by
        intro H locs ls hP hS hl
        refine lv_lstore (lv' := [(7, .long p12), (5, .long g2.1), (3, .long g1.1), (0, .ref (ad 0)), (1, .int o), (2, .int sz)]) hx hb dX5_arithmetic_132 hl (by decide) rfl (fun ls hl => ?_)
        refine lv_aload_n hx hb dX5_arithmetic_134 rfl (lv_at hl 3 rfl) ?_
        refine lv_iconst (v := (0 : Int32)) hx hb dX5_arithmetic_135 ic_0 ?_
        refine mp_0_21 (v := false) hx hb hts hown hK hI hP hS (hts _ q692) dX5_arithmetic_136 (fun d13 ed13 H locs hP hS => ?_)
        replace hr := hr.trans (bnd_eq ed13)
        refine lv_aload_n hx hb dX5_arithmetic_139 rfl (lv_at hl 3 rfl) ?_
        refine lv_iconst (v := (0 : Int32)) hx hb dX5_arithmetic_140 ic_0 ?_
        refine mp_0_25 (v := false) hx hb hts hown hK hI hP hS (hts _ q696) dX5_arithmetic_141 (fun d14 ed14 H locs hP hS => ?_)
        replace hr := hr.trans (bnd_eq ed14)
        refine lv_aload_n hx hb dX5_arithmetic_144 rfl (lv_at hl 3 rfl) ?_
        refine lv_lload hx hb dX5_arithmetic_145 (lv_at hl 0 rfl) ?_
        refine lv_iload_n hx hb dX5_arithmetic_147 rfl (lv_at hl 5 rfl) ?_
        obtain ⟨g15, eg15⟩ : ∃ z, z = m_zsp p12 sz d14 := ⟨_, rfl⟩
        replace hr := hr.trans (bnd_eq eg15)
        refine g_UV0 (As := [.long p12, .int sz]) (rest := []) hC (m_X5_zsp hI (K := K) (d := d14) p12 sz g15 eg15) (cwV 2 hts cw_X5_243 rfl rfl rfl hd_X5_zsp ⟨Nat.le_of_ble_eq_true rfl, Nat.le_of_ble_eq_true rfl⟩) mKst (va_recv hK hP (ci := 5) (q0 := 0) rfl rfl) hP hKp ⟨Nat.zero_le _, Nat.zero_le _⟩ hS (fun _ h => h) rfl hl.1 rfl (Nat.le_of_ble_eq_true rfl) dX5_arithmetic_148 (fun H locs hP hS => ?_)
        have hP : va_P D xcl (MW ad ca K g15) H := hP
        subst hr
        exact kp3 _ _ ls hP hS (lv_sub hl [0, 1, 2, 3, 4, 5] rfl)
      replace hr := ep12
      refine lv_icmp_ne (tgt := 115) hx hb dX5_arithmetic_105 (by decide) (fun c_105 => ?_) (fun c_105 => ?_)
      · replace hr := hr.trans (if_neg c_105)
        refine lv_iload_n hx hb dX5_arithmetic_115 rfl (lv_at hl 4 rfl) ?_
        refine lv_bipush (v := (6 : Int32)) hx hb dX5_arithmetic_116 bp_6 ?_
        refine lv_icmp_ne (tgt := 128) hx hb dX5_arithmetic_118 (by decide) (fun c_118 => ?_) (fun c_118 => ?_)
        · replace hr := hr.trans (if_neg c_118)
          refine lv_lload_n hx hb dX5_arithmetic_128 rfl (lv_at hl 2 rfl) ?_
          refine lv_lload hx hb dX5_arithmetic_129 (lv_at hl 1 rfl) ?_
          refine lv_land hx hb dX5_arithmetic_131 ?_
          subst hr
          exact kp12 _ _ ls hP hS (lv_sub hl [0, 1, 2, 3, 4, 5] rfl)
        · replace hr := hr.trans (if_pos c_118)
          refine lv_lload_n hx hb dX5_arithmetic_121 rfl (lv_at hl 2 rfl) ?_
          refine lv_lload hx hb dX5_arithmetic_122 (lv_at hl 1 rfl) ?_
          refine lv_lxor hx hb dX5_arithmetic_124 ?_
          refine lv_goto (tgt := 132) hx hb dX5_arithmetic_125 (by decide) ?_
          subst hr
          exact kp12 _ _ ls hP hS (lv_sub hl [0, 1, 2, 3, 4, 5] rfl)
      · replace hr := hr.trans (if_pos c_105)
        refine lv_lload_n hx hb dX5_arithmetic_108 rfl (lv_at hl 2 rfl) ?_
        refine lv_lload hx hb dX5_arithmetic_109 (lv_at hl 1 rfl) ?_
        refine lv_lor hx hb dX5_arithmetic_111 ?_
        refine lv_goto (tgt := 132) hx hb dX5_arithmetic_112 (by decide) ?_
        subst hr
        exact kp12 _ _ ls hP hS (lv_sub hl [0, 1, 2, 3, 4, 5] rfl)
    replace hr := eb8
    refine lv_icmp_eq (tgt := 73) hx hb dX5_arithmetic_59 (by decide) (fun c_59 => ?_) (fun c_59 => ?_)
    · replace hr := hr.trans (if_pos c_59)
      exact kb8T hr
    · replace hr := hr.trans (if_neg c_59)
      refine lv_iload_n hx hb dX5_arithmetic_62 rfl (lv_at hl 4 rfl) ?_
      refine lv_iconst (v := (5 : Int32)) hx hb dX5_arithmetic_63 ic_5 ?_
      refine lv_icmp_eq (tgt := 73) hx hb dX5_arithmetic_64 (by decide) (fun c_64 => ?_) (fun c_64 => ?_)
      · replace hr := hr.trans (if_pos c_64)
        exact kb8T hr
      · replace hr := hr.trans (if_neg c_64)
        refine lv_iload_n hx hb dX5_arithmetic_67 rfl (lv_at hl 4 rfl) ?_
        refine lv_bipush (v := (7 : Int32)) hx hb dX5_arithmetic_68 bp_7 ?_
        refine lv_icmp_ne (tgt := 103) hx hb dX5_arithmetic_70 (by decide) (fun c_70 => ?_) (fun c_70 => ?_)
        · replace hr := hr.trans (if_neg c_70)
          exact kb8F (by rw [hr]; decide)
        · replace hr := hr.trans (if_pos c_70)
          exact kb8T hr
  replace hr := eb4
  refine lv_if_eq (tgt := 27) hx hb dX5_arithmetic_19 (by decide) (fun c_19 => ?_) (fun c_19 => ?_)
  · replace hr := hr.trans (if_pos c_19)
    exact kb4T hr
  · replace hr := hr.trans (if_neg c_19)
    refine lv_iload_n hx hb dX5_arithmetic_22 rfl (lv_at hl 4 rfl) ?_
    refine lv_iconst (v := (2 : Int32)) hx hb dX5_arithmetic_23 ic_2 ?_
    refine lv_icmp_ne (tgt := 57) hx hb dX5_arithmetic_24 (by decide) (fun c_24 => ?_) (fun c_24 => ?_)
    · replace hr := hr.trans (if_neg c_24)
      exact kb4F (by rw [hr]; decide)
    · replace hr := hr.trans (if_pos c_24)
      exact kb4T hr
def m_moves (K : MK) (o : Int32) (sz : Int32) (d : MD) : MD := if o = (8 : Int32) then (bnd (m_take K (1 : Int32) sz d) fun g12 => bnd (m_put K (0 : Int32) sz g12.1 g12.2) fun g13 => g13) else (if o = (10 : Int32) then (bnd (m_take K (0 : Int32) sz d) fun g8 => bnd (m_take K (1 : Int32) sz g8.2) fun g9 => bnd (m_put K (0 : Int32) sz g9.1 g9.2) fun g10 => bnd (m_put K (1 : Int32) sz g8.1 g10) fun g11 => g11) else (if o = (11 : Int32) then (bnd (m_put K (0 : Int32) sz (m_cut (m_addressNow K d) sz) d) fun g7 => g7) else (if o = (12 : Int32) then (bnd (m_take K (1 : Int32) (1 : Int32) d) fun g5 => bnd (m_put K (0 : Int32) sz g5.1 g5.2) fun g6 => g6) else (bnd (α := Int32) (if o = (13 : Int32) then (1 : Int32) else (4 : Int32)) fun p1 => bnd (m_take K (1 : Int32) p1 d) fun g2 => bnd (α := Int32) (if o = (13 : Int32) then (1 : Int32) else (4 : Int32)) fun p3 => bnd (m_put K (0 : Int32) sz (m_cut (m_signed g2.1 p3) sz) g2.2) fun g4 => g4))))
abbrev rm_X5_moves : Room := { frames := 4, cells := 0, slots := 0, locals := 99 }
set_option maxHeartbeats 4000000 in
set_option maxRecDepth 100000 in
theorem m_X5_moves {l : Launch} {D : va_G} {ad : Nat → Nat} {ca : Nat → ClassId} (hI : mInj ad) {K : MK} {d : MD} (o : Int32) (sz : Int32) (RES : MD) (hr : RES = m_moves K o sz d) (hgd : MGd K) (h11 : o = 11 → MAdr K) : g_U l yX5_moves (ws_ yX5_moves cX5_moves 7 none) rm_X5_moves [.ref (ad 0), .int o, .int sz] (mKp D ca) (mB D ad ca K d) none (mB D ad ca K RES) (mA ad) := by
  refine g_ofU (by decide) (Nat.le_of_ble_eq_true rfl) ?_
  intro p e s m args below meth c ls Q hF hB hKp hl hQ
  obtain ⟨hx, hb, -, -, hml, hown, hts⟩ := id hF
  have hown : s.vm.findClass RX5 = some m.cls := hown
  have hC : CallFix p m c cX5_moves 7 s args lw_all RX5 := ⟨hx, hb, hml, hown, hts⟩
  have hK : va_K D xcl (mtys ca) s := hKp
  have hP : va_P D xcl (MW ad ca K d) s.heap := hB
  have hS : va_S (mA ad) s.heap s.heap [] := va_S.rf
  have hl : lv_has ls 7 [(0, .ref (ad 0)), (1, .int o), (2, .int sz)] := hl
  unfold m_moves at hr
  refine lv_iload_n hx hb dX5_moves_0 rfl (lv_at hl 1 rfl) ?_
  refine lv_bipush (v := (8 : Int32)) hx hb dX5_moves_1 bp_8 ?_
  refine lv_icmp_ne (tgt := 21) hx hb dX5_moves_3 (by decide) (fun c_3 => ?_) (fun c_3 => ?_)
  · replace hr := hr.trans (if_neg c_3)
    refine lv_iload_n hx hb dX5_moves_21 rfl (lv_at hl 1 rfl) ?_
    refine lv_bipush (v := (10 : Int32)) hx hb dX5_moves_22 bp_10 ?_
    refine lv_icmp_ne (tgt := 60) hx hb dX5_moves_24 (by decide) (fun c_24 => ?_) (fun c_24 => ?_)
    · replace hr := hr.trans (if_neg c_24)
      refine lv_iload_n hx hb dX5_moves_60 rfl (lv_at hl 1 rfl) ?_
      refine lv_bipush (v := (11 : Int32)) hx hb dX5_moves_61 bp_11 ?_
      refine lv_icmp_ne (tgt := 83) hx hb dX5_moves_63 (by decide) (fun c_63 => ?_) (fun c_63 => ?_)
      · replace hr := hr.trans (if_neg c_63)
        refine lv_iload_n hx hb dX5_moves_83 rfl (lv_at hl 1 rfl) ?_
        refine lv_bipush (v := (12 : Int32)) hx hb dX5_moves_84 bp_12 ?_
        refine lv_icmp_ne (tgt := 104) hx hb dX5_moves_86 (by decide) (fun c_86 => ?_) (fun c_86 => ?_)
        · replace hr := hr.trans (if_neg c_86)
          refine lv_aload_n hx hb dX5_moves_104 rfl (lv_at hl 0 rfl) ?_
          refine lv_iconst (v := (0 : Int32)) hx hb dX5_moves_105 ic_0 ?_
          refine lv_iload_n hx hb dX5_moves_106 rfl (lv_at hl 2 rfl) ?_
          refine lv_aload_n hx hb dX5_moves_107 rfl (lv_at hl 0 rfl) ?_
          refine lv_iconst (v := (1 : Int32)) hx hb dX5_moves_108 ic_1 ?_
          refine lv_iload_n hx hb dX5_moves_109 rfl (lv_at hl 1 rfl) ?_
          refine lv_bipush (v := (13 : Int32)) hx hb dX5_moves_110 bp_13 ?_
          obtain ⟨p1, ep1⟩ : ∃ z : Int32, z = (if o = (13 : Int32) then (1 : Int32) else (4 : Int32)) := ⟨_, rfl⟩
          replace hr := hr.trans (bnd_eq ep1)
          have kp1 : ∀ (H : Heap) (locs : List Loc) (ls : Array Slot), va_P D xcl (MW ad ca K d) H → va_S (mA ad) s.heap H locs → lv_has ls 7 [(0, .ref (ad 0)), (1, .int o), (2, .int sz)] → W p l e rm_X5_moves s m args below meth c H locs 0 0 Q (F0 m 120 ls [.int p1, .int (1 : Int32), .ref (ad 0), .int sz, .int (0 : Int32), .ref (ad 0)]) := by
            intro H locs ls hP hS hl
            obtain ⟨g2, eg2⟩ : ∃ z, z = m_take K (1 : Int32) p1 d := ⟨_, rfl⟩
            replace hr := hr.trans (bnd_eq eg2)
            refine g_UV1 (As := [.int (1 : Int32), .int p1]) (rest := [.int sz, .int (0 : Int32), .ref (ad 0)]) hC (m_X5_take hI (K := K) (d := d) (1 : Int32) p1 g2 eg2 (show ¬ ((1 : Int32) < 0 ∨ 3 ≤ (1 : Int32).toNatClampNeg) by decide) hgd) (cwV 2 hts cw_X5_257 rfl rfl rfl hd_X5_take ⟨Nat.le_of_ble_eq_true rfl, Nat.le_of_ble_eq_true rfl⟩) mKst (va_recv hK hP (ci := 5) (q0 := 0) rfl rfl) hP hKp ⟨Nat.zero_le _, Nat.zero_le _⟩ hS (fun _ h => h) rfl hl.1 rfl (Nat.le_of_ble_eq_true rfl) dX5_moves_120 (fun H locs hP hS => ?_)
            have hP : va_P D xcl (MW ad ca K g2.2) H := hP
            refine lv_iload_n hx hb dX5_moves_123 rfl (lv_at hl 1 rfl) ?_
            refine lv_bipush (v := (13 : Int32)) hx hb dX5_moves_124 bp_13 ?_
            obtain ⟨p3, ep3⟩ : ∃ z : Int32, z = (if o = (13 : Int32) then (1 : Int32) else (4 : Int32)) := ⟨_, rfl⟩
            replace hr := hr.trans (bnd_eq ep3)
            have kp3 : ∀ (H : Heap) (locs : List Loc) (ls : Array Slot), va_P D xcl (MW ad ca K g2.2) H → va_S (mA ad) s.heap H locs → lv_has ls 7 [(0, .ref (ad 0)), (1, .int o), (2, .int sz)] → W p l e rm_X5_moves s m args below meth c H locs 0 0 Q (F0 m 134 ls [.int p3, .long g2.1, .int sz, .int (0 : Int32), .ref (ad 0)]) := by
              intro H locs ls hP hS hl
              refine g_RS (As := [.long g2.1, .int p3]) (rest := [.int sz, .int (0 : Int32), .ref (ad 0)]) hC (m_X5_signed g2.1 p3 _ rfl) (va_cwS 2 hts cw_X5_274 rfl rfl rfl hd_X5_signed ⟨Nat.le_of_ble_eq_true rfl, Nat.le_of_ble_eq_true rfl⟩) g_Kst0 trivial trivial ⟨Nat.zero_le _, Nat.zero_le _⟩ rfl hl.1 rfl (Nat.le_of_ble_eq_true rfl) dX5_moves_134 ?_
              refine lv_iload_n hx hb dX5_moves_137 rfl (lv_at hl 2 rfl) ?_
              refine g_RS (As := [.long (m_signed g2.1 p3), .int sz]) (rest := [.int sz, .int (0 : Int32), .ref (ad 0)]) hC (m_X5_cut (m_signed g2.1 p3) sz _ rfl) (va_cwS 2 hts cw_X5_200 rfl rfl rfl hd_X5_cut ⟨Nat.le_of_ble_eq_true rfl, Nat.le_of_ble_eq_true rfl⟩) g_Kst0 trivial trivial ⟨Nat.zero_le _, Nat.zero_le _⟩ rfl hl.1 rfl (Nat.le_of_ble_eq_true rfl) dX5_moves_138 ?_
              obtain ⟨g4, eg4⟩ : ∃ z, z = m_put K (0 : Int32) sz (m_cut (m_signed g2.1 p3) sz) g2.2 := ⟨_, rfl⟩
              replace hr := hr.trans (bnd_eq eg4)
              refine g_UV0 (As := [.int (0 : Int32), .int sz, .long (m_cut (m_signed g2.1 p3) sz)]) (rest := []) hC (m_X5_put hI (K := K) (d := g2.2) (0 : Int32) sz (m_cut (m_signed g2.1 p3) sz) g4 eg4 (show ¬ ((0 : Int32) < 0 ∨ 3 ≤ (0 : Int32).toNatClampNeg) by decide) hgd) (cwV 3 hts cw_X5_268 rfl rfl rfl hd_X5_put ⟨Nat.le_of_ble_eq_true rfl, Nat.le_of_ble_eq_true rfl⟩) mKst (va_recv hK hP (ci := 5) (q0 := 0) rfl rfl) hP hKp ⟨Nat.zero_le _, Nat.zero_le _⟩ hS (fun _ h => h) rfl hl.1 rfl (Nat.le_of_ble_eq_true rfl) dX5_moves_141 (fun H locs hP hS => ?_)
              have hP : va_P D xcl (MW ad ca K g4) H := hP
              exact g_endUv (Pic := (fun u => mB D ad ca K u)) (u := g4) hF hQ hr hP hS dX5_moves_144
            replace hr := ep3
            refine lv_icmp_ne (tgt := 133) hx hb dX5_moves_126 (by decide) (fun c_126 => ?_) (fun c_126 => ?_)
            · replace hr := hr.trans (if_neg c_126)
              refine lv_iconst (v := (4 : Int32)) hx hb dX5_moves_133 ic_4 ?_
              subst hr
              exact kp3 _ _ ls hP hS (lv_sub hl [0, 1, 2] rfl)
            · replace hr := hr.trans (if_pos c_126)
              refine lv_iconst (v := (1 : Int32)) hx hb dX5_moves_129 ic_1 ?_
              refine lv_goto (tgt := 134) hx hb dX5_moves_130 (by decide) ?_
              subst hr
              exact kp3 _ _ ls hP hS (lv_sub hl [0, 1, 2] rfl)
          replace hr := ep1
          refine lv_icmp_ne (tgt := 119) hx hb dX5_moves_112 (by decide) (fun c_112 => ?_) (fun c_112 => ?_)
          · replace hr := hr.trans (if_neg c_112)
            refine lv_iconst (v := (4 : Int32)) hx hb dX5_moves_119 ic_4 ?_
            subst hr
            exact kp1 _ _ ls hP hS (lv_sub hl [0, 1, 2] rfl)
          · replace hr := hr.trans (if_pos c_112)
            refine lv_iconst (v := (1 : Int32)) hx hb dX5_moves_115 ic_1 ?_
            refine lv_goto (tgt := 120) hx hb dX5_moves_116 (by decide) ?_
            subst hr
            exact kp1 _ _ ls hP hS (lv_sub hl [0, 1, 2] rfl)
        · replace hr := hr.trans (if_pos c_86)
          refine lv_aload_n hx hb dX5_moves_89 rfl (lv_at hl 0 rfl) ?_
          refine lv_iconst (v := (0 : Int32)) hx hb dX5_moves_90 ic_0 ?_
          refine lv_iload_n hx hb dX5_moves_91 rfl (lv_at hl 2 rfl) ?_
          refine lv_aload_n hx hb dX5_moves_92 rfl (lv_at hl 0 rfl) ?_
          refine lv_iconst (v := (1 : Int32)) hx hb dX5_moves_93 ic_1 ?_
          refine lv_iconst (v := (1 : Int32)) hx hb dX5_moves_94 ic_1 ?_
          obtain ⟨g5, eg5⟩ : ∃ z, z = m_take K (1 : Int32) (1 : Int32) d := ⟨_, rfl⟩
          replace hr := hr.trans (bnd_eq eg5)
          refine g_UV1 (As := [.int (1 : Int32), .int (1 : Int32)]) (rest := [.int sz, .int (0 : Int32), .ref (ad 0)]) hC (m_X5_take hI (K := K) (d := d) (1 : Int32) (1 : Int32) g5 eg5 (show ¬ ((1 : Int32) < 0 ∨ 3 ≤ (1 : Int32).toNatClampNeg) by decide) hgd) (cwV 2 hts cw_X5_257 rfl rfl rfl hd_X5_take ⟨Nat.le_of_ble_eq_true rfl, Nat.le_of_ble_eq_true rfl⟩) mKst (va_recv hK hP (ci := 5) (q0 := 0) rfl rfl) hP hKp ⟨Nat.zero_le _, Nat.zero_le _⟩ hS (fun _ h => h) rfl hl.1 rfl (Nat.le_of_ble_eq_true rfl) dX5_moves_95 (fun H locs hP hS => ?_)
          have hP : va_P D xcl (MW ad ca K g5.2) H := hP
          obtain ⟨g6, eg6⟩ : ∃ z, z = m_put K (0 : Int32) sz g5.1 g5.2 := ⟨_, rfl⟩
          replace hr := hr.trans (bnd_eq eg6)
          refine g_UV0 (As := [.int (0 : Int32), .int sz, .long g5.1]) (rest := []) hC (m_X5_put hI (K := K) (d := g5.2) (0 : Int32) sz g5.1 g6 eg6 (show ¬ ((0 : Int32) < 0 ∨ 3 ≤ (0 : Int32).toNatClampNeg) by decide) hgd) (cwV 3 hts cw_X5_268 rfl rfl rfl hd_X5_put ⟨Nat.le_of_ble_eq_true rfl, Nat.le_of_ble_eq_true rfl⟩) mKst (va_recv hK hP (ci := 5) (q0 := 0) rfl rfl) hP hKp ⟨Nat.zero_le _, Nat.zero_le _⟩ hS (fun _ h => h) rfl hl.1 rfl (Nat.le_of_ble_eq_true rfl) dX5_moves_98 (fun H locs hP hS => ?_)
          have hP : va_P D xcl (MW ad ca K g6) H := hP
          refine lv_goto (tgt := 144) hx hb dX5_moves_101 (by decide) ?_
          exact g_endUv (Pic := (fun u => mB D ad ca K u)) (u := g6) hF hQ hr hP hS dX5_moves_144
      · replace hr := hr.trans (if_pos c_63)
        refine lv_aload_n hx hb dX5_moves_66 rfl (lv_at hl 0 rfl) ?_
        refine lv_iconst (v := (0 : Int32)) hx hb dX5_moves_67 ic_0 ?_
        refine lv_iload_n hx hb dX5_moves_68 rfl (lv_at hl 2 rfl) ?_
        refine lv_aload_n hx hb dX5_moves_69 rfl (lv_at hl 0 rfl) ?_
        refine g_RV (As := []) (rest := [.int sz, .int (0 : Int32), .ref (ad 0)]) hC (m_X5_addressNow (K := K) (d := d)  _ rfl (h11 c_63)) (cwV 0 hts cw_X5_271 rfl rfl rfl hd_X5_addressNow ⟨Nat.le_of_ble_eq_true rfl, Nat.le_of_ble_eq_true rfl⟩) mKst (va_recv hK hP (ci := 5) (q0 := 0) rfl rfl) hP hKp ⟨Nat.zero_le _, Nat.zero_le _⟩ rfl hl.1 rfl (Nat.le_of_ble_eq_true rfl) dX5_moves_70 ?_
        refine lv_iload_n hx hb dX5_moves_73 rfl (lv_at hl 2 rfl) ?_
        refine g_RS (As := [.long (m_addressNow K d), .int sz]) (rest := [.int sz, .int (0 : Int32), .ref (ad 0)]) hC (m_X5_cut (m_addressNow K d) sz _ rfl) (va_cwS 2 hts cw_X5_200 rfl rfl rfl hd_X5_cut ⟨Nat.le_of_ble_eq_true rfl, Nat.le_of_ble_eq_true rfl⟩) g_Kst0 trivial trivial ⟨Nat.zero_le _, Nat.zero_le _⟩ rfl hl.1 rfl (Nat.le_of_ble_eq_true rfl) dX5_moves_74 ?_
        obtain ⟨g7, eg7⟩ : ∃ z, z = m_put K (0 : Int32) sz (m_cut (m_addressNow K d) sz) d := ⟨_, rfl⟩
        replace hr := hr.trans (bnd_eq eg7)
        refine g_UV0 (As := [.int (0 : Int32), .int sz, .long (m_cut (m_addressNow K d) sz)]) (rest := []) hC (m_X5_put hI (K := K) (d := d) (0 : Int32) sz (m_cut (m_addressNow K d) sz) g7 eg7 (show ¬ ((0 : Int32) < 0 ∨ 3 ≤ (0 : Int32).toNatClampNeg) by decide) hgd) (cwV 3 hts cw_X5_268 rfl rfl rfl hd_X5_put ⟨Nat.le_of_ble_eq_true rfl, Nat.le_of_ble_eq_true rfl⟩) mKst (va_recv hK hP (ci := 5) (q0 := 0) rfl rfl) hP hKp ⟨Nat.zero_le _, Nat.zero_le _⟩ hS (fun _ h => h) rfl hl.1 rfl (Nat.le_of_ble_eq_true rfl) dX5_moves_77 (fun H locs hP hS => ?_)
        have hP : va_P D xcl (MW ad ca K g7) H := hP
        refine lv_goto (tgt := 144) hx hb dX5_moves_80 (by decide) ?_
        exact g_endUv (Pic := (fun u => mB D ad ca K u)) (u := g7) hF hQ hr hP hS dX5_moves_144
    · replace hr := hr.trans (if_pos c_24)
      refine lv_aload_n hx hb dX5_moves_27 rfl (lv_at hl 0 rfl) ?_
      refine lv_iconst (v := (0 : Int32)) hx hb dX5_moves_28 ic_0 ?_
      refine lv_iload_n hx hb dX5_moves_29 rfl (lv_at hl 2 rfl) ?_
      obtain ⟨g8, eg8⟩ : ∃ z, z = m_take K (0 : Int32) sz d := ⟨_, rfl⟩
      replace hr := hr.trans (bnd_eq eg8)
      refine g_UV1 (As := [.int (0 : Int32), .int sz]) (rest := []) hC (m_X5_take hI (K := K) (d := d) (0 : Int32) sz g8 eg8 (show ¬ ((0 : Int32) < 0 ∨ 3 ≤ (0 : Int32).toNatClampNeg) by decide) hgd) (cwV 2 hts cw_X5_257 rfl rfl rfl hd_X5_take ⟨Nat.le_of_ble_eq_true rfl, Nat.le_of_ble_eq_true rfl⟩) mKst (va_recv hK hP (ci := 5) (q0 := 0) rfl rfl) hP hKp ⟨Nat.zero_le _, Nat.zero_le _⟩ hS (fun _ h => h) rfl hl.1 rfl (Nat.le_of_ble_eq_true rfl) dX5_moves_30 (fun H locs hP hS => ?_)
      have hP : va_P D xcl (MW ad ca K g8.2) H := hP
      refine lv_lstore_n (lv' := [(3, .long g8.1), (0, .ref (ad 0)), (1, .int o), (2, .int sz)]) hx hb dX5_moves_33 rfl hl (by decide) rfl (fun ls hl => ?_)
      refine lv_aload_n hx hb dX5_moves_34 rfl (lv_at hl 1 rfl) ?_
      refine lv_iconst (v := (1 : Int32)) hx hb dX5_moves_35 ic_1 ?_
      refine lv_iload_n hx hb dX5_moves_36 rfl (lv_at hl 3 rfl) ?_
      obtain ⟨g9, eg9⟩ : ∃ z, z = m_take K (1 : Int32) sz g8.2 := ⟨_, rfl⟩
      replace hr := hr.trans (bnd_eq eg9)
      refine g_UV1 (As := [.int (1 : Int32), .int sz]) (rest := []) hC (m_X5_take hI (K := K) (d := g8.2) (1 : Int32) sz g9 eg9 (show ¬ ((1 : Int32) < 0 ∨ 3 ≤ (1 : Int32).toNatClampNeg) by decide) hgd) (cwV 2 hts cw_X5_257 rfl rfl rfl hd_X5_take ⟨Nat.le_of_ble_eq_true rfl, Nat.le_of_ble_eq_true rfl⟩) mKst (va_recv hK hP (ci := 5) (q0 := 0) rfl rfl) hP hKp ⟨Nat.zero_le _, Nat.zero_le _⟩ hS (fun _ h => h) rfl hl.1 rfl (Nat.le_of_ble_eq_true rfl) dX5_moves_37 (fun H locs hP hS => ?_)
      have hP : va_P D xcl (MW ad ca K g9.2) H := hP
      refine lv_lstore (lv' := [(5, .long g9.1), (3, .long g8.1), (0, .ref (ad 0)), (1, .int o), (2, .int sz)]) hx hb dX5_moves_40 hl (by decide) rfl (fun ls hl => ?_)
      refine lv_aload_n hx hb dX5_moves_42 rfl (lv_at hl 2 rfl) ?_
      refine lv_iconst (v := (0 : Int32)) hx hb dX5_moves_43 ic_0 ?_
      refine lv_iload_n hx hb dX5_moves_44 rfl (lv_at hl 4 rfl) ?_
      refine lv_lload hx hb dX5_moves_45 (lv_at hl 0 rfl) ?_
      obtain ⟨g10, eg10⟩ : ∃ z, z = m_put K (0 : Int32) sz g9.1 g9.2 := ⟨_, rfl⟩
      replace hr := hr.trans (bnd_eq eg10)
      refine g_UV0 (As := [.int (0 : Int32), .int sz, .long g9.1]) (rest := []) hC (m_X5_put hI (K := K) (d := g9.2) (0 : Int32) sz g9.1 g10 eg10 (show ¬ ((0 : Int32) < 0 ∨ 3 ≤ (0 : Int32).toNatClampNeg) by decide) hgd) (cwV 3 hts cw_X5_268 rfl rfl rfl hd_X5_put ⟨Nat.le_of_ble_eq_true rfl, Nat.le_of_ble_eq_true rfl⟩) mKst (va_recv hK hP (ci := 5) (q0 := 0) rfl rfl) hP hKp ⟨Nat.zero_le _, Nat.zero_le _⟩ hS (fun _ h => h) rfl hl.1 rfl (Nat.le_of_ble_eq_true rfl) dX5_moves_47 (fun H locs hP hS => ?_)
      have hP : va_P D xcl (MW ad ca K g10) H := hP
      refine lv_aload_n hx hb dX5_moves_50 rfl (lv_at hl 2 rfl) ?_
      refine lv_iconst (v := (1 : Int32)) hx hb dX5_moves_51 ic_1 ?_
      refine lv_iload_n hx hb dX5_moves_52 rfl (lv_at hl 4 rfl) ?_
      refine lv_lload_n hx hb dX5_moves_53 rfl (lv_at hl 1 rfl) ?_
      obtain ⟨g11, eg11⟩ : ∃ z, z = m_put K (1 : Int32) sz g8.1 g10 := ⟨_, rfl⟩
      replace hr := hr.trans (bnd_eq eg11)
      refine g_UV0 (As := [.int (1 : Int32), .int sz, .long g8.1]) (rest := []) hC (m_X5_put hI (K := K) (d := g10) (1 : Int32) sz g8.1 g11 eg11 (show ¬ ((1 : Int32) < 0 ∨ 3 ≤ (1 : Int32).toNatClampNeg) by decide) hgd) (cwV 3 hts cw_X5_268 rfl rfl rfl hd_X5_put ⟨Nat.le_of_ble_eq_true rfl, Nat.le_of_ble_eq_true rfl⟩) mKst (va_recv hK hP (ci := 5) (q0 := 0) rfl rfl) hP hKp ⟨Nat.zero_le _, Nat.zero_le _⟩ hS (fun _ h => h) rfl hl.1 rfl (Nat.le_of_ble_eq_true rfl) dX5_moves_54 (fun H locs hP hS => ?_)
      have hP : va_P D xcl (MW ad ca K g11) H := hP
      refine lv_goto (tgt := 144) hx hb dX5_moves_57 (by decide) ?_
      exact g_endUv (Pic := (fun u => mB D ad ca K u)) (u := g11) hF hQ hr hP hS dX5_moves_144
  · replace hr := hr.trans (if_pos c_3)
    refine lv_aload_n hx hb dX5_moves_6 rfl (lv_at hl 0 rfl) ?_
    refine lv_iconst (v := (0 : Int32)) hx hb dX5_moves_7 ic_0 ?_
    refine lv_iload_n hx hb dX5_moves_8 rfl (lv_at hl 2 rfl) ?_
    refine lv_aload_n hx hb dX5_moves_9 rfl (lv_at hl 0 rfl) ?_
    refine lv_iconst (v := (1 : Int32)) hx hb dX5_moves_10 ic_1 ?_
    refine lv_iload_n hx hb dX5_moves_11 rfl (lv_at hl 2 rfl) ?_
    obtain ⟨g12, eg12⟩ : ∃ z, z = m_take K (1 : Int32) sz d := ⟨_, rfl⟩
    replace hr := hr.trans (bnd_eq eg12)
    refine g_UV1 (As := [.int (1 : Int32), .int sz]) (rest := [.int sz, .int (0 : Int32), .ref (ad 0)]) hC (m_X5_take hI (K := K) (d := d) (1 : Int32) sz g12 eg12 (show ¬ ((1 : Int32) < 0 ∨ 3 ≤ (1 : Int32).toNatClampNeg) by decide) hgd) (cwV 2 hts cw_X5_257 rfl rfl rfl hd_X5_take ⟨Nat.le_of_ble_eq_true rfl, Nat.le_of_ble_eq_true rfl⟩) mKst (va_recv hK hP (ci := 5) (q0 := 0) rfl rfl) hP hKp ⟨Nat.zero_le _, Nat.zero_le _⟩ hS (fun _ h => h) rfl hl.1 rfl (Nat.le_of_ble_eq_true rfl) dX5_moves_12 (fun H locs hP hS => ?_)
    have hP : va_P D xcl (MW ad ca K g12.2) H := hP
    obtain ⟨g13, eg13⟩ : ∃ z, z = m_put K (0 : Int32) sz g12.1 g12.2 := ⟨_, rfl⟩
    replace hr := hr.trans (bnd_eq eg13)
    refine g_UV0 (As := [.int (0 : Int32), .int sz, .long g12.1]) (rest := []) hC (m_X5_put hI (K := K) (d := g12.2) (0 : Int32) sz g12.1 g13 eg13 (show ¬ ((0 : Int32) < 0 ∨ 3 ≤ (0 : Int32).toNatClampNeg) by decide) hgd) (cwV 3 hts cw_X5_268 rfl rfl rfl hd_X5_put ⟨Nat.le_of_ble_eq_true rfl, Nat.le_of_ble_eq_true rfl⟩) mKst (va_recv hK hP (ci := 5) (q0 := 0) rfl rfl) hP hKp ⟨Nat.zero_le _, Nat.zero_le _⟩ hS (fun _ h => h) rfl hl.1 rfl (Nat.le_of_ble_eq_true rfl) dX5_moves_15 (fun H locs hP hS => ?_)
    have hP : va_P D xcl (MW ad ca K g13) H := hP
    refine lv_goto (tgt := 144) hx hb dX5_moves_18 (by decide) ?_
    exact g_endUv (Pic := (fun u => mB D ad ca K u)) (u := g13) hF hQ hr hP hS dX5_moves_144
def m_single (K : MK) (o : Int32) (sz : Int32) (d : MD) : MD := bnd (m_take K (0 : Int32) sz d) fun g1 => bnd (α := Bool) ((dm_carry g1.2)) fun b2 => bnd (α := Int64) (if o = (15 : Int32) then (m_cut (g1.1 ^^^ (-1 : Int64)) sz) else (0 : Int64)) fun p3 => bnd (α := Int64 × MD) (if o = (16 : Int32) then (bnd (m_subtract (0 : Int64) g1.1 false sz g1.2) fun g5 => (g5.1, g5.2)) else (p3, g1.2)) fun p4 => bnd (α := Int64 × MD) (if o = (21 : Int32) then (bnd (m_add g1.1 (1 : Int64) false sz p4.2) fun g7 => (g7.1, g7.2)) else (p4.1, p4.2)) fun p6 => bnd (α := Int64 × MD) (if o = (22 : Int32) then (bnd (m_subtract g1.1 (1 : Int64) false sz p6.2) fun g9 => (g9.1, g9.2)) else (p6.1, p6.2)) fun p8 => bnd (α := MD) (if o ≤ (20 : Int32) then p8.2 else (bnd (dm_carry_ b2 p8.2) fun d11 => d11)) fun p10 => bnd (m_put K (0 : Int32) sz p8.1 p10) fun g12 => g12
abbrev rm_X5_single : Room := { frames := 4, cells := 0, slots := 0, locals := 99 }
set_option maxHeartbeats 4000000 in
set_option maxRecDepth 100000 in
theorem m_X5_single {l : Launch} {D : va_G} {ad : Nat → Nat} {ca : Nat → ClassId} (hI : mInj ad) {K : MK} {d : MD} (o : Int32) (sz : Int32) (RES : MD) (hr : RES = m_single K o sz d) (hgd : MGd K) : g_U l yX5_single (ws_ yX5_single cX5_single 8 none) rm_X5_single [.ref (ad 0), .int o, .int sz] (mKp D ca) (mB D ad ca K d) none (mB D ad ca K RES) (mA ad) := by
  refine g_ofU (by decide) (Nat.le_of_ble_eq_true rfl) ?_
  intro p e s m args below meth c ls Q hF hB hKp hl hQ
  obtain ⟨hx, hb, -, -, hml, hown, hts⟩ := id hF
  have hown : s.vm.findClass RX5 = some m.cls := hown
  have hC : CallFix p m c cX5_single 8 s args lw_all RX5 := ⟨hx, hb, hml, hown, hts⟩
  have hK : va_K D xcl (mtys ca) s := hKp
  have hP : va_P D xcl (MW ad ca K d) s.heap := hB
  have hS : va_S (mA ad) s.heap s.heap [] := va_S.rf
  have hl : lv_has ls 8 [(0, .ref (ad 0)), (1, .int o), (2, .int sz)] := hl
  unfold m_single at hr
  refine lv_aload_n hx hb dX5_single_0 rfl (lv_at hl 0 rfl) ?_
  refine lv_iconst (v := (0 : Int32)) hx hb dX5_single_1 ic_0 ?_
  refine lv_iload_n hx hb dX5_single_2 rfl (lv_at hl 2 rfl) ?_
  obtain ⟨g1, eg1⟩ : ∃ z, z = m_take K (0 : Int32) sz d := ⟨_, rfl⟩
  replace hr := hr.trans (bnd_eq eg1)
  refine g_UV1 (As := [.int (0 : Int32), .int sz]) (rest := []) hC (m_X5_take hI (K := K) (d := d) (0 : Int32) sz g1 eg1 (show ¬ ((0 : Int32) < 0 ∨ 3 ≤ (0 : Int32).toNatClampNeg) by decide) hgd) (cwV 2 hts cw_X5_257 rfl rfl rfl hd_X5_take ⟨Nat.le_of_ble_eq_true rfl, Nat.le_of_ble_eq_true rfl⟩) mKst (va_recv hK hP (ci := 5) (q0 := 0) rfl rfl) hP hKp ⟨Nat.zero_le _, Nat.zero_le _⟩ hS (fun _ h => h) rfl hl.1 rfl (Nat.le_of_ble_eq_true rfl) dX5_single_3 (fun H locs hP hS => ?_)
  have hP : va_P D xcl (MW ad ca K g1.2) H := hP
  refine lv_lstore_n (lv' := [(3, .long g1.1), (0, .ref (ad 0)), (1, .int o), (2, .int sz)]) hx hb dX5_single_6 rfl hl (by decide) rfl (fun ls hl => ?_)
  refine lv_aload_n hx hb dX5_single_7 rfl (lv_at hl 1 rfl) ?_
  refine mg_0_21 hx hb hts hown hK hP (hts _ q692) dX5_single_8 ?_
  obtain ⟨b2, eb2⟩ : ∃ z : Bool, z = (dm_carry g1.2) := ⟨_, rfl⟩
  rw [← eb2]
  replace hr := hr.trans (bnd_eq eb2)
  refine lv_istore (lv' := [(5, .int (b2i b2)), (3, .long g1.1), (0, .ref (ad 0)), (1, .int o), (2, .int sz)]) hx hb dX5_single_11 hl (by decide) rfl (fun ls hl => ?_)
  refine lv_iload_n hx hb dX5_single_13 rfl (lv_at hl 3 rfl) ?_
  refine lv_bipush (v := (15 : Int32)) hx hb dX5_single_14 bp_15 ?_
  obtain ⟨p3, ep3⟩ : ∃ z : Int64, z = (if o = (15 : Int32) then (m_cut (g1.1 ^^^ (-1 : Int64)) sz) else (0 : Int64)) := ⟨_, rfl⟩
  replace hr := hr.trans (bnd_eq ep3)
  have kp3 : ∀ (H : Heap) (locs : List Loc) (ls : Array Slot), va_P D xcl (MW ad ca K g1.2) H → va_S (mA ad) s.heap H locs → lv_has ls 8 [(5, .int (b2i b2)), (3, .long g1.1), (0, .ref (ad 0)), (1, .int o), (2, .int sz)] → W p l e rm_X5_single s m args below meth c H locs 0 0 Q (F0 m 32 ls [.long p3]) := by
    intro H locs ls hP hS hl
    refine lv_lstore (lv' := [(6, .long p3), (5, .int (b2i b2)), (3, .long g1.1), (0, .ref (ad 0)), (1, .int o), (2, .int sz)]) hx hb dX5_single_32 hl (by decide) rfl (fun ls hl => ?_)
    refine lv_iload_n hx hb dX5_single_34 rfl (lv_at hl 4 rfl) ?_
    refine lv_bipush (v := (16 : Int32)) hx hb dX5_single_35 bp_16 ?_
    obtain ⟨p4, ep4⟩ : ∃ z : Int64 × MD, z = (if o = (16 : Int32) then (bnd (m_subtract (0 : Int64) g1.1 false sz g1.2) fun g5 => (g5.1, g5.2)) else (p3, g1.2)) := ⟨_, rfl⟩
    replace hr := hr.trans (bnd_eq ep4)
    have kp4 : ∀ (H : Heap) (locs : List Loc) (ls : Array Slot), va_P D xcl (MW ad ca K p4.2) H → va_S (mA ad) s.heap H locs → lv_has ls 8 [(6, .long p4.1), (5, .int (b2i b2)), (3, .long g1.1), (0, .ref (ad 0)), (1, .int o), (2, .int sz)] → W p l e rm_X5_single s m args below meth c H locs 0 0 Q (F0 m 50 ls []) := by
      intro H locs ls hP hS hl
      refine lv_iload_n hx hb dX5_single_50 rfl (lv_at hl 4 rfl) ?_
      refine lv_bipush (v := (21 : Int32)) hx hb dX5_single_51 bp_21 ?_
      obtain ⟨p6, ep6⟩ : ∃ z : Int64 × MD, z = (if o = (21 : Int32) then (bnd (m_add g1.1 (1 : Int64) false sz p4.2) fun g7 => (g7.1, g7.2)) else (p4.1, p4.2)) := ⟨_, rfl⟩
      replace hr := hr.trans (bnd_eq ep6)
      have kp6 : ∀ (H : Heap) (locs : List Loc) (ls : Array Slot), va_P D xcl (MW ad ca K p6.2) H → va_S (mA ad) s.heap H locs → lv_has ls 8 [(6, .long p6.1), (5, .int (b2i b2)), (3, .long g1.1), (0, .ref (ad 0)), (1, .int o), (2, .int sz)] → W p l e rm_X5_single s m args below meth c H locs 0 0 Q (F0 m 66 ls []) := by
        intro H locs ls hP hS hl
        refine lv_iload_n hx hb dX5_single_66 rfl (lv_at hl 4 rfl) ?_
        refine lv_bipush (v := (22 : Int32)) hx hb dX5_single_67 bp_22 ?_
        obtain ⟨p8, ep8⟩ : ∃ z : Int64 × MD, z = (if o = (22 : Int32) then (bnd (m_subtract g1.1 (1 : Int64) false sz p6.2) fun g9 => (g9.1, g9.2)) else (p6.1, p6.2)) := ⟨_, rfl⟩
        replace hr := hr.trans (bnd_eq ep8)
        have kp8 : ∀ (H : Heap) (locs : List Loc) (ls : Array Slot), va_P D xcl (MW ad ca K p8.2) H → va_S (mA ad) s.heap H locs → lv_has ls 8 [(6, .long p8.1), (5, .int (b2i b2)), (3, .long g1.1), (0, .ref (ad 0)), (1, .int o), (2, .int sz)] → W p l e rm_X5_single s m args below meth c H locs 0 0 Q (F0 m 82 ls []) := by
          intro H locs ls hP hS hl
          refine lv_iload_n hx hb dX5_single_82 rfl (lv_at hl 4 rfl) ?_
          refine lv_bipush (v := (20 : Int32)) hx hb dX5_single_83 bp_20 ?_
          obtain ⟨p10, ep10⟩ : ∃ z : MD, z = (if o ≤ (20 : Int32) then p8.2 else (bnd (dm_carry_ b2 p8.2) fun d11 => d11)) := ⟨_, rfl⟩
          replace hr := hr.trans (bnd_eq ep10)
          have kp10 : ∀ (H : Heap) (locs : List Loc) (ls : Array Slot), va_P D xcl (MW ad ca K p10) H → va_S (mA ad) s.heap H locs → lv_has ls 8 [(6, .long p8.1), (5, .int (b2i b2)), (3, .long g1.1), (0, .ref (ad 0)), (1, .int o), (2, .int sz)] → W p l e rm_X5_single s m args below meth c H locs 0 0 Q (F0 m 94 ls []) := by
            intro H locs ls hP hS hl
            refine lv_aload_n hx hb dX5_single_94 rfl (lv_at hl 3 rfl) ?_
            refine lv_iconst (v := (0 : Int32)) hx hb dX5_single_95 ic_0 ?_
            refine lv_iload_n hx hb dX5_single_96 rfl (lv_at hl 5 rfl) ?_
            refine lv_lload hx hb dX5_single_97 (lv_at hl 0 rfl) ?_
            obtain ⟨g12, eg12⟩ : ∃ z, z = m_put K (0 : Int32) sz p8.1 p10 := ⟨_, rfl⟩
            replace hr := hr.trans (bnd_eq eg12)
            refine g_UV0 (As := [.int (0 : Int32), .int sz, .long p8.1]) (rest := []) hC (m_X5_put hI (K := K) (d := p10) (0 : Int32) sz p8.1 g12 eg12 (show ¬ ((0 : Int32) < 0 ∨ 3 ≤ (0 : Int32).toNatClampNeg) by decide) hgd) (cwV 3 hts cw_X5_268 rfl rfl rfl hd_X5_put ⟨Nat.le_of_ble_eq_true rfl, Nat.le_of_ble_eq_true rfl⟩) mKst (va_recv hK hP (ci := 5) (q0 := 0) rfl rfl) hP hKp ⟨Nat.zero_le _, Nat.zero_le _⟩ hS (fun _ h => h) rfl hl.1 rfl (Nat.le_of_ble_eq_true rfl) dX5_single_99 (fun H locs hP hS => ?_)
            have hP : va_P D xcl (MW ad ca K g12) H := hP
            exact g_endUv (Pic := (fun u => mB D ad ca K u)) (u := g12) hF hQ hr hP hS dX5_single_102
          replace hr := ep10
          refine lv_icmp_le (tgt := 94) hx hb dX5_single_85 (by decide) (fun c_85 => ?_) (fun c_85 => ?_)
          · replace hr := hr.trans (if_pos c_85)
            subst hr
            exact kp10 _ _ ls hP hS (lv_sub hl [0, 1, 2, 3, 4, 5] rfl)
          · replace hr := hr.trans (if_neg c_85)
            refine lv_aload_n hx hb dX5_single_88 rfl (lv_at hl 3 rfl) ?_
            refine lv_iload hx hb dX5_single_89 (lv_at hl 1 rfl) ?_
            refine mp_0_21 (v := b2) hx hb hts hown hK hI hP hS (hts _ q692) dX5_single_91 (fun d11 ed11 H locs hP hS => ?_)
            replace hr := hr.trans (bnd_eq ed11)
            subst hr
            exact kp10 _ _ ls hP hS (lv_sub hl [0, 1, 2, 3, 4, 5] rfl)
        replace hr := ep8
        refine lv_icmp_ne (tgt := 82) hx hb dX5_single_69 (by decide) (fun c_69 => ?_) (fun c_69 => ?_)
        · replace hr := hr.trans (if_neg c_69)
          subst hr
          exact kp8 _ _ ls hP hS (lv_sub hl [0, 1, 2, 3, 4, 5] rfl)
        · replace hr := hr.trans (if_pos c_69)
          refine lv_aload_n hx hb dX5_single_72 rfl (lv_at hl 3 rfl) ?_
          refine lv_lload_n hx hb dX5_single_73 rfl (lv_at hl 2 rfl) ?_
          refine lv_lconst (v := (1 : Int64)) hx hb dX5_single_74 lc_1 ?_
          refine lv_iconst (v := (0 : Int32)) hx hb dX5_single_75 ic_0 ?_
          refine lv_iload_n hx hb dX5_single_76 rfl (lv_at hl 5 rfl) ?_
          obtain ⟨g9, eg9⟩ : ∃ z, z = m_subtract g1.1 (1 : Int64) false sz p6.2 := ⟨_, rfl⟩
          replace hr := hr.trans (bnd_eq eg9)
          refine g_UV1 (As := [.long g1.1, .long (1 : Int64), .int (b2i false), .int sz]) (rest := []) hC (m_X5_subtract hI (K := K) (d := p6.2) g1.1 (1 : Int64) false sz g9 eg9) (cwV 4 hts cw_X5_265 rfl rfl rfl hd_X5_subtract ⟨Nat.le_of_ble_eq_true rfl, Nat.le_of_ble_eq_true rfl⟩) mKst (va_recv hK hP (ci := 5) (q0 := 0) rfl rfl) hP hKp ⟨Nat.zero_le _, Nat.zero_le _⟩ hS (fun _ h => h) rfl hl.1 rfl (Nat.le_of_ble_eq_true rfl) dX5_single_77 (fun H locs hP hS => ?_)
          have hP : va_P D xcl (MW ad ca K g9.2) H := hP
          refine lv_lstore (lv' := [(6, .long g9.1), (5, .int (b2i b2)), (3, .long g1.1), (0, .ref (ad 0)), (1, .int o), (2, .int sz)]) hx hb dX5_single_80 hl (by decide) rfl (fun ls hl => ?_)
          subst hr
          exact kp8 _ _ ls hP hS (lv_sub hl [0, 1, 2, 3, 4, 5] rfl)
      replace hr := ep6
      refine lv_icmp_ne (tgt := 66) hx hb dX5_single_53 (by decide) (fun c_53 => ?_) (fun c_53 => ?_)
      · replace hr := hr.trans (if_neg c_53)
        subst hr
        exact kp6 _ _ ls hP hS (lv_sub hl [0, 1, 2, 3, 4, 5] rfl)
      · replace hr := hr.trans (if_pos c_53)
        refine lv_aload_n hx hb dX5_single_56 rfl (lv_at hl 3 rfl) ?_
        refine lv_lload_n hx hb dX5_single_57 rfl (lv_at hl 2 rfl) ?_
        refine lv_lconst (v := (1 : Int64)) hx hb dX5_single_58 lc_1 ?_
        refine lv_iconst (v := (0 : Int32)) hx hb dX5_single_59 ic_0 ?_
        refine lv_iload_n hx hb dX5_single_60 rfl (lv_at hl 5 rfl) ?_
        obtain ⟨g7, eg7⟩ : ∃ z, z = m_add g1.1 (1 : Int64) false sz p4.2 := ⟨_, rfl⟩
        replace hr := hr.trans (bnd_eq eg7)
        refine g_UV1 (As := [.long g1.1, .long (1 : Int64), .int (b2i false), .int sz]) (rest := []) hC (m_X5_add hI (K := K) (d := p4.2) g1.1 (1 : Int64) false sz g7 eg7) (cwV 4 hts cw_X5_261 rfl rfl rfl hd_X5_add ⟨Nat.le_of_ble_eq_true rfl, Nat.le_of_ble_eq_true rfl⟩) mKst (va_recv hK hP (ci := 5) (q0 := 0) rfl rfl) hP hKp ⟨Nat.zero_le _, Nat.zero_le _⟩ hS (fun _ h => h) rfl hl.1 rfl (Nat.le_of_ble_eq_true rfl) dX5_single_61 (fun H locs hP hS => ?_)
        have hP : va_P D xcl (MW ad ca K g7.2) H := hP
        refine lv_lstore (lv' := [(6, .long g7.1), (5, .int (b2i b2)), (3, .long g1.1), (0, .ref (ad 0)), (1, .int o), (2, .int sz)]) hx hb dX5_single_64 hl (by decide) rfl (fun ls hl => ?_)
        subst hr
        exact kp6 _ _ ls hP hS (lv_sub hl [0, 1, 2, 3, 4, 5] rfl)
    replace hr := ep4
    refine lv_icmp_ne (tgt := 50) hx hb dX5_single_37 (by decide) (fun c_37 => ?_) (fun c_37 => ?_)
    · replace hr := hr.trans (if_neg c_37)
      subst hr
      exact kp4 _ _ ls hP hS (lv_sub hl [0, 1, 2, 3, 4, 5] rfl)
    · replace hr := hr.trans (if_pos c_37)
      refine lv_aload_n hx hb dX5_single_40 rfl (lv_at hl 3 rfl) ?_
      refine lv_lconst (v := (0 : Int64)) hx hb dX5_single_41 lc_0 ?_
      refine lv_lload_n hx hb dX5_single_42 rfl (lv_at hl 2 rfl) ?_
      refine lv_iconst (v := (0 : Int32)) hx hb dX5_single_43 ic_0 ?_
      refine lv_iload_n hx hb dX5_single_44 rfl (lv_at hl 5 rfl) ?_
      obtain ⟨g5, eg5⟩ : ∃ z, z = m_subtract (0 : Int64) g1.1 false sz g1.2 := ⟨_, rfl⟩
      replace hr := hr.trans (bnd_eq eg5)
      refine g_UV1 (As := [.long (0 : Int64), .long g1.1, .int (b2i false), .int sz]) (rest := []) hC (m_X5_subtract hI (K := K) (d := g1.2) (0 : Int64) g1.1 false sz g5 eg5) (cwV 4 hts cw_X5_265 rfl rfl rfl hd_X5_subtract ⟨Nat.le_of_ble_eq_true rfl, Nat.le_of_ble_eq_true rfl⟩) mKst (va_recv hK hP (ci := 5) (q0 := 0) rfl rfl) hP hKp ⟨Nat.zero_le _, Nat.zero_le _⟩ hS (fun _ h => h) rfl hl.1 rfl (Nat.le_of_ble_eq_true rfl) dX5_single_45 (fun H locs hP hS => ?_)
      have hP : va_P D xcl (MW ad ca K g5.2) H := hP
      refine lv_lstore (lv' := [(6, .long g5.1), (5, .int (b2i b2)), (3, .long g1.1), (0, .ref (ad 0)), (1, .int o), (2, .int sz)]) hx hb dX5_single_48 hl (by decide) rfl (fun ls hl => ?_)
      subst hr
      exact kp4 _ _ ls hP hS (lv_sub hl [0, 1, 2, 3, 4, 5] rfl)
  replace hr := ep3
  refine lv_icmp_ne (tgt := 31) hx hb dX5_single_16 (by decide) (fun c_16 => ?_) (fun c_16 => ?_)
  · replace hr := hr.trans (if_neg c_16)
    refine lv_lconst (v := (0 : Int64)) hx hb dX5_single_31 lc_0 ?_
    subst hr
    exact kp3 _ _ ls hP hS (lv_sub hl [0, 1, 2, 3, 4] rfl)
  · replace hr := hr.trans (if_pos c_16)
    refine lv_lload_n hx hb dX5_single_19 rfl (lv_at hl 1 rfl) ?_
    refine lv_ldc2 hx hb hown (hts _ q963) dX5_single_20 ?_
    refine lv_lxor hx hb dX5_single_23 ?_
    refine lv_iload_n hx hb dX5_single_24 rfl (lv_at hl 4 rfl) ?_
    refine g_RS (As := [.long (g1.1 ^^^ (-1 : Int64)), .int sz]) (rest := []) hC (m_X5_cut (g1.1 ^^^ (-1 : Int64)) sz _ rfl) (va_cwS 2 hts cw_X5_200 rfl rfl rfl hd_X5_cut ⟨Nat.le_of_ble_eq_true rfl, Nat.le_of_ble_eq_true rfl⟩) g_Kst0 trivial trivial ⟨Nat.zero_le _, Nat.zero_le _⟩ rfl hl.1 rfl (Nat.le_of_ble_eq_true rfl) dX5_single_25 ?_
    refine lv_goto (tgt := 32) hx hb dX5_single_28 (by decide) ?_
    subst hr
    exact kp3 _ _ ls hP hS (lv_sub hl [0, 1, 2, 3, 4] rfl)
def m_multiply (K : MK) (sg : Bool) (sz : Int32) (d : MD) : MD := bnd (m_take K (0 : Int32) sz d) fun g1 => bnd (α := Int64) ((m_cut ((dm_regs g1.2) (0 : Int32).toNatClampNeg) sz)) fun v2 => bnd (α := Int64) (if (b2i sg) = 0 then (v2 * g1.1) else ((m_signed v2 sz) * (m_signed g1.1 sz))) fun p3 => bnd (α := MD) (if sz = (1 : Int32) then (bnd (dm_regs_ (vp_updL (dm_regs g1.2) (0 : Int32).toNatClampNeg ((((dm_regs g1.2) (0 : Int32).toNatClampNeg) &&& (-65536 : Int64)) ||| (p3 &&& (65535 : Int64)))) g1.2) fun d18 => if (b2i sg) = 0 then (if p3 ≤ (255 : Int64) then (bnd (dm_carry_ false d18) fun d19 => d19) else (bnd (dm_carry_ true d18) fun d20 => d20)) else (if p3 = (((p3.toInt32).toInt8.toInt32).toInt64) then (bnd (dm_carry_ false d18) fun d21 => d21) else (bnd (dm_carry_ true d18) fun d22 => d22))) else (if sz = (4 : Int32) then (bnd (m_setRegister (0 : Int32) (4 : Int32) p3 g1.2) fun g12 => bnd (m_setRegister (2 : Int32) (4 : Int32) (lushr_ p3 (32 : Int32)) g12) fun g13 => if (b2i sg) = 0 then (if (lushr_ p3 (32 : Int32)) = (0 : Int64) then (bnd (dm_carry_ false g13) fun d14 => d14) else (bnd (dm_carry_ true g13) fun d15 => d15)) else (if p3 = ((p3.toInt32).toInt64) then (bnd (dm_carry_ false g13) fun d16 => d16) else (bnd (dm_carry_ true g13) fun d17 => d17))) else (bnd (α := Int64) (if (b2i sg) = 0 then (m_highUnsigned v2 g1.1) else (m_highSigned v2 g1.1)) fun p5 => bnd (dm_regs_ (vp_updL (dm_regs g1.2) (0 : Int32).toNatClampNeg p3) g1.2) fun d6 => bnd (dm_regs_ (vp_updL (dm_regs d6) (2 : Int32).toNatClampNeg p5) d6) fun d7 => if (b2i sg) = 0 then (if p5 = (0 : Int64) then (bnd (dm_carry_ false d7) fun d8 => d8) else (bnd (dm_carry_ true d7) fun d9 => d9)) else (if p5 = (lshr_ p3 (63 : Int32)) then (bnd (dm_carry_ false d7) fun d10 => d10) else (bnd (dm_carry_ true d7) fun d11 => d11))))) fun p4 => bnd (dm_over_ (dm_carry p4) p4) fun d23 => d23
abbrev rm_X5_multiply : Room := { frames := 4, cells := 0, slots := 0, locals := 99 }
set_option maxHeartbeats 4000000 in
set_option maxRecDepth 100000 in
theorem m_X5_multiply {l : Launch} {D : va_G} {ad : Nat → Nat} {ca : Nat → ClassId} (hI : mInj ad) {K : MK} {d : MD} (sg : Bool) (sz : Int32) (RES : MD) (hr : RES = m_multiply K sg sz d) (hgd : MGd K) : g_U l yX5_multiply (ws_ yX5_multiply cX5_multiply 11 none) rm_X5_multiply [.ref (ad 0), .int (b2i sg), .int sz] (mKp D ca) (mB D ad ca K d) none (mB D ad ca K RES) (mA ad) := by
  refine g_ofU (by decide) (Nat.le_of_ble_eq_true rfl) ?_
  intro p e s m args below meth c ls Q hF hB hKp hl hQ
  obtain ⟨hx, hb, -, -, hml, hown, hts⟩ := id hF
  have hown : s.vm.findClass RX5 = some m.cls := hown
  have hC : CallFix p m c cX5_multiply 11 s args lw_all RX5 := ⟨hx, hb, hml, hown, hts⟩
  have hK : va_K D xcl (mtys ca) s := hKp
  have hP : va_P D xcl (MW ad ca K d) s.heap := hB
  have hS : va_S (mA ad) s.heap s.heap [] := va_S.rf
  have hl : lv_has ls 11 [(0, .ref (ad 0)), (1, .int (b2i sg)), (2, .int sz)] := hl
  unfold m_multiply at hr
  refine lv_aload_n hx hb dX5_multiply_0 rfl (lv_at hl 0 rfl) ?_
  refine lv_iconst (v := (0 : Int32)) hx hb dX5_multiply_1 ic_0 ?_
  refine lv_iload_n hx hb dX5_multiply_2 rfl (lv_at hl 2 rfl) ?_
  obtain ⟨g1, eg1⟩ : ∃ z, z = m_take K (0 : Int32) sz d := ⟨_, rfl⟩
  replace hr := hr.trans (bnd_eq eg1)
  refine g_UV1 (As := [.int (0 : Int32), .int sz]) (rest := []) hC (m_X5_take hI (K := K) (d := d) (0 : Int32) sz g1 eg1 (show ¬ ((0 : Int32) < 0 ∨ 3 ≤ (0 : Int32).toNatClampNeg) by decide) hgd) (cwV 2 hts cw_X5_257 rfl rfl rfl hd_X5_take ⟨Nat.le_of_ble_eq_true rfl, Nat.le_of_ble_eq_true rfl⟩) mKst (va_recv hK hP (ci := 5) (q0 := 0) rfl rfl) hP hKp ⟨Nat.zero_le _, Nat.zero_le _⟩ hS (fun _ h => h) rfl hl.1 rfl (Nat.le_of_ble_eq_true rfl) dX5_multiply_3 (fun H locs hP hS => ?_)
  have hP : va_P D xcl (MW ad ca K g1.2) H := hP
  refine lv_lstore_n (lv' := [(3, .long g1.1), (0, .ref (ad 0)), (1, .int (b2i sg)), (2, .int sz)]) hx hb dX5_multiply_6 rfl hl (by decide) rfl (fun ls hl => ?_)
  refine lv_aload_n hx hb dX5_multiply_7 rfl (lv_at hl 1 rfl) ?_
  refine mg_0_16 hx hb hts hown hK hP (hts _ q687) dX5_multiply_8 ?_
  refine lv_iconst (v := (0 : Int32)) hx hb dX5_multiply_11 ic_0 ?_
  refine ml_7 hx hb hK hP (show ¬ ((0 : Int32) < 0 ∨ 16 ≤ (0 : Int32).toNatClampNeg) by decide) dX5_multiply_12 ?_
  refine lv_iload_n hx hb dX5_multiply_13 rfl (lv_at hl 3 rfl) ?_
  refine g_RS (As := [.long ((dm_regs g1.2) (0 : Int32).toNatClampNeg), .int sz]) (rest := []) hC (m_X5_cut ((dm_regs g1.2) (0 : Int32).toNatClampNeg) sz _ rfl) (va_cwS 2 hts cw_X5_200 rfl rfl rfl hd_X5_cut ⟨Nat.le_of_ble_eq_true rfl, Nat.le_of_ble_eq_true rfl⟩) g_Kst0 trivial trivial ⟨Nat.zero_le _, Nat.zero_le _⟩ rfl hl.1 rfl (Nat.le_of_ble_eq_true rfl) dX5_multiply_14 ?_
  refine lv_topl (fun v2 ev2 => ?_)
  replace hr := hr.trans (bnd_eq ev2)
  refine lv_lstore (lv' := [(5, .long v2), (3, .long g1.1), (0, .ref (ad 0)), (1, .int (b2i sg)), (2, .int sz)]) hx hb dX5_multiply_17 hl (by decide) rfl (fun ls hl => ?_)
  refine lv_iload_n hx hb dX5_multiply_19 rfl (lv_at hl 3 rfl) ?_
  obtain ⟨p3, ep3⟩ : ∃ z : Int64, z = (if (b2i sg) = 0 then (v2 * g1.1) else ((m_signed v2 sz) * (m_signed g1.1 sz))) := ⟨_, rfl⟩
  replace hr := hr.trans (bnd_eq ep3)
  have kp3 : ∀ (H : Heap) (locs : List Loc) (ls : Array Slot), va_P D xcl (MW ad ca K g1.2) H → va_S (mA ad) s.heap H locs → lv_has ls 11 [(5, .long v2), (3, .long g1.1), (0, .ref (ad 0)), (1, .int (b2i sg)), (2, .int sz)] → W p l e rm_X5_multiply s m args below meth c H locs 0 0 Q (F0 m 42 ls [.long p3]) := by
    intro H locs ls hP hS hl
    refine lv_lstore (lv' := [(7, .long p3), (5, .long v2), (3, .long g1.1), (0, .ref (ad 0)), (1, .int (b2i sg)), (2, .int sz)]) hx hb dX5_multiply_42 hl (by decide) rfl (fun ls hl => ?_)
    refine lv_iload_n hx hb dX5_multiply_44 rfl (lv_at hl 5 rfl) ?_
    refine lv_iconst (v := (1 : Int32)) hx hb dX5_multiply_45 ic_1 ?_
    obtain ⟨p4, ep4⟩ : ∃ z : MD, z = (if sz = (1 : Int32) then (bnd (dm_regs_ (vp_updL (dm_regs g1.2) (0 : Int32).toNatClampNeg ((((dm_regs g1.2) (0 : Int32).toNatClampNeg) &&& (-65536 : Int64)) ||| (p3 &&& (65535 : Int64)))) g1.2) fun d18 => if (b2i sg) = 0 then (if p3 ≤ (255 : Int64) then (bnd (dm_carry_ false d18) fun d19 => d19) else (bnd (dm_carry_ true d18) fun d20 => d20)) else (if p3 = (((p3.toInt32).toInt8.toInt32).toInt64) then (bnd (dm_carry_ false d18) fun d21 => d21) else (bnd (dm_carry_ true d18) fun d22 => d22))) else (if sz = (4 : Int32) then (bnd (m_setRegister (0 : Int32) (4 : Int32) p3 g1.2) fun g12 => bnd (m_setRegister (2 : Int32) (4 : Int32) (lushr_ p3 (32 : Int32)) g12) fun g13 => if (b2i sg) = 0 then (if (lushr_ p3 (32 : Int32)) = (0 : Int64) then (bnd (dm_carry_ false g13) fun d14 => d14) else (bnd (dm_carry_ true g13) fun d15 => d15)) else (if p3 = ((p3.toInt32).toInt64) then (bnd (dm_carry_ false g13) fun d16 => d16) else (bnd (dm_carry_ true g13) fun d17 => d17))) else (bnd (α := Int64) (if (b2i sg) = 0 then (m_highUnsigned v2 g1.1) else (m_highSigned v2 g1.1)) fun p5 => bnd (dm_regs_ (vp_updL (dm_regs g1.2) (0 : Int32).toNatClampNeg p3) g1.2) fun d6 => bnd (dm_regs_ (vp_updL (dm_regs d6) (2 : Int32).toNatClampNeg p5) d6) fun d7 => if (b2i sg) = 0 then (if p5 = (0 : Int64) then (bnd (dm_carry_ false d7) fun d8 => d8) else (bnd (dm_carry_ true d7) fun d9 => d9)) else (if p5 = (lshr_ p3 (63 : Int32)) then (bnd (dm_carry_ false d7) fun d10 => d10) else (bnd (dm_carry_ true d7) fun d11 => d11))))) := ⟨_, rfl⟩
    replace hr := hr.trans (bnd_eq ep4)
    have kp4 : ∀ (H : Heap) (locs : List Loc) (ls : Array Slot), va_P D xcl (MW ad ca K p4) H → va_S (mA ad) s.heap H locs → lv_has ls 11 [(7, .long p3), (5, .long v2), (3, .long g1.1), (0, .ref (ad 0)), (1, .int (b2i sg)), (2, .int sz)] → W p l e rm_X5_multiply s m args below meth c H locs 0 0 Q (F0 m 260 ls []) := by
      intro H locs ls hP hS hl
      refine lv_aload_n hx hb dX5_multiply_260 rfl (lv_at hl 3 rfl) ?_
      refine lv_aload_n hx hb dX5_multiply_261 rfl (lv_at hl 3 rfl) ?_
      refine mg_0_21 hx hb hts hown hK hP (hts _ q692) dX5_multiply_262 ?_
      refine mp_0_25 (v := (dm_carry p4)) hx hb hts hown hK hI hP hS (hts _ q696) dX5_multiply_265 (fun d23 ed23 H locs hP hS => ?_)
      replace hr := hr.trans (bnd_eq ed23)
      exact g_endUv (Pic := (fun u => mB D ad ca K u)) (u := d23) hF hQ hr hP hS dX5_multiply_268
    replace hr := ep4
    refine lv_icmp_ne (tgt := 116) hx hb dX5_multiply_46 (by decide) (fun c_46 => ?_) (fun c_46 => ?_)
    · replace hr := hr.trans (if_neg c_46)
      refine lv_iload_n hx hb dX5_multiply_116 rfl (lv_at hl 5 rfl) ?_
      refine lv_iconst (v := (4 : Int32)) hx hb dX5_multiply_117 ic_4 ?_
      refine lv_icmp_ne (tgt := 184) hx hb dX5_multiply_118 (by decide) (fun c_118 => ?_) (fun c_118 => ?_)
      · replace hr := hr.trans (if_neg c_118)
        refine lv_iload_n hx hb dX5_multiply_184 rfl (lv_at hl 4 rfl) ?_
        obtain ⟨p5, ep5⟩ : ∃ z : Int64, z = (if (b2i sg) = 0 then (m_highUnsigned v2 g1.1) else (m_highSigned v2 g1.1)) := ⟨_, rfl⟩
        replace hr := hr.trans (bnd_eq ep5)
        have kp5 : ∀ (H : Heap) (locs : List Loc) (ls : Array Slot), va_P D xcl (MW ad ca K g1.2) H → va_S (mA ad) s.heap H locs → lv_has ls 11 [(7, .long p3), (5, .long v2), (3, .long g1.1), (0, .ref (ad 0)), (1, .int (b2i sg)), (2, .int sz)] → W p l e rm_X5_multiply s m args below meth c H locs 0 0 Q (F0 m 203 ls [.long p5]) := by
          intro H locs ls hP hS hl
          refine lv_lstore (lv' := [(9, .long p5), (7, .long p3), (5, .long v2), (3, .long g1.1), (0, .ref (ad 0)), (1, .int (b2i sg)), (2, .int sz)]) hx hb dX5_multiply_203 hl (by decide) rfl (fun ls hl => ?_)
          refine lv_aload_n hx hb dX5_multiply_205 rfl (lv_at hl 4 rfl) ?_
          refine mg_0_16 hx hb hts hown hK hP (hts _ q687) dX5_multiply_206 ?_
          refine lv_iconst (v := (0 : Int32)) hx hb dX5_multiply_209 ic_0 ?_
          refine lv_lload hx hb dX5_multiply_210 (lv_at hl 1 rfl) ?_
          refine ms_7 hx hb hK hI hP hS (show ¬ ((0 : Int32) < 0 ∨ 16 ≤ (0 : Int32).toNatClampNeg) by decide) dX5_multiply_212 (fun d6 ed6 H locs hP hS => ?_)
          replace hr := hr.trans (bnd_eq ed6)
          refine lv_aload_n hx hb dX5_multiply_213 rfl (lv_at hl 4 rfl) ?_
          refine mg_0_16 hx hb hts hown hK hP (hts _ q687) dX5_multiply_214 ?_
          refine lv_iconst (v := (2 : Int32)) hx hb dX5_multiply_217 ic_2 ?_
          refine lv_lload hx hb dX5_multiply_218 (lv_at hl 0 rfl) ?_
          refine ms_7 hx hb hK hI hP hS (show ¬ ((2 : Int32) < 0 ∨ 16 ≤ (2 : Int32).toNatClampNeg) by decide) dX5_multiply_220 (fun d7 ed7 H locs hP hS => ?_)
          replace hr := hr.trans (bnd_eq ed7)
          refine lv_aload_n hx hb dX5_multiply_221 rfl (lv_at hl 4 rfl) ?_
          refine lv_iload_n hx hb dX5_multiply_222 rfl (lv_at hl 5 rfl) ?_
          refine lv_if_eq (tgt := 245) hx hb dX5_multiply_223 (by decide) (fun c_223 => ?_) (fun c_223 => ?_)
          · replace hr := hr.trans (if_pos c_223)
            refine lv_lload hx hb dX5_multiply_245 (lv_at hl 0 rfl) ?_
            refine lv_lconst (v := (0 : Int64)) hx hb dX5_multiply_247 lc_0 ?_
            refine lq_eq (tgt := 256) hx hb dX5_multiply_248 dX5_multiply_249 (by decide) (fun c_248 => ?_) (fun c_248 => ?_)
            · replace hr := hr.trans (if_pos c_248)
              refine lv_iconst (v := (0 : Int32)) hx hb dX5_multiply_256 ic_0 ?_
              refine mp_0_21 (v := false) hx hb hts hown hK hI hP hS (hts _ q692) dX5_multiply_257 (fun d8 ed8 H locs hP hS => ?_)
              replace hr := hr.trans (bnd_eq ed8)
              subst hr
              exact kp4 _ _ ls hP hS (lv_sub hl [1, 2, 3, 4, 5, 6] rfl)
            · replace hr := hr.trans (if_neg c_248)
              refine lv_iconst (v := (1 : Int32)) hx hb dX5_multiply_252 ic_1 ?_
              refine lv_goto (tgt := 257) hx hb dX5_multiply_253 (by decide) ?_
              refine mp_0_21 (v := true) hx hb hts hown hK hI hP hS (hts _ q692) dX5_multiply_257 (fun d9 ed9 H locs hP hS => ?_)
              replace hr := hr.trans (bnd_eq ed9)
              subst hr
              exact kp4 _ _ ls hP hS (lv_sub hl [1, 2, 3, 4, 5, 6] rfl)
          · replace hr := hr.trans (if_neg c_223)
            refine lv_lload hx hb dX5_multiply_226 (lv_at hl 0 rfl) ?_
            refine lv_lload hx hb dX5_multiply_228 (lv_at hl 1 rfl) ?_
            refine lv_bipush (v := (63 : Int32)) hx hb dX5_multiply_230 bp_63 ?_
            refine lv_lshr (v := (lshr_ p3 (63 : Int32))) hx hb dX5_multiply_232 rfl ?_
            refine lq_eq (tgt := 241) hx hb dX5_multiply_233 dX5_multiply_234 (by decide) (fun c_233 => ?_) (fun c_233 => ?_)
            · replace hr := hr.trans (if_pos c_233)
              refine lv_iconst (v := (0 : Int32)) hx hb dX5_multiply_241 ic_0 ?_
              refine lv_goto (tgt := 257) hx hb dX5_multiply_242 (by decide) ?_
              refine mp_0_21 (v := false) hx hb hts hown hK hI hP hS (hts _ q692) dX5_multiply_257 (fun d10 ed10 H locs hP hS => ?_)
              replace hr := hr.trans (bnd_eq ed10)
              subst hr
              exact kp4 _ _ ls hP hS (lv_sub hl [1, 2, 3, 4, 5, 6] rfl)
            · replace hr := hr.trans (if_neg c_233)
              refine lv_iconst (v := (1 : Int32)) hx hb dX5_multiply_237 ic_1 ?_
              refine lv_goto (tgt := 257) hx hb dX5_multiply_238 (by decide) ?_
              refine mp_0_21 (v := true) hx hb hts hown hK hI hP hS (hts _ q692) dX5_multiply_257 (fun d11 ed11 H locs hP hS => ?_)
              replace hr := hr.trans (bnd_eq ed11)
              subst hr
              exact kp4 _ _ ls hP hS (lv_sub hl [1, 2, 3, 4, 5, 6] rfl)
        replace hr := ep5
        refine lv_if_eq (tgt := 197) hx hb dX5_multiply_185 (by decide) (fun c_185 => ?_) (fun c_185 => ?_)
        · replace hr := hr.trans (if_pos c_185)
          refine lv_lload hx hb dX5_multiply_197 (lv_at hl 1 rfl) ?_
          refine lv_lload_n hx hb dX5_multiply_199 rfl (lv_at hl 2 rfl) ?_
          refine g_RS (As := [.long v2, .long g1.1]) (rest := []) hC (m_X5_highUnsigned v2 g1.1 _ rfl) (va_cwS 2 hts cw_X5_281 rfl rfl rfl hd_X5_highUnsigned ⟨Nat.le_of_ble_eq_true rfl, Nat.le_of_ble_eq_true rfl⟩) g_Kst0 trivial trivial ⟨Nat.zero_le _, Nat.zero_le _⟩ rfl hl.1 rfl (Nat.le_of_ble_eq_true rfl) dX5_multiply_200 ?_
          subst hr
          exact kp5 _ _ ls hP hS (lv_sub hl [0, 1, 2, 3, 4, 5] rfl)
        · replace hr := hr.trans (if_neg c_185)
          refine lv_lload hx hb dX5_multiply_188 (lv_at hl 1 rfl) ?_
          refine lv_lload_n hx hb dX5_multiply_190 rfl (lv_at hl 2 rfl) ?_
          refine g_RS (As := [.long v2, .long g1.1]) (rest := []) hC (m_X5_highSigned v2 g1.1 _ rfl) (va_cwS 2 hts cw_X5_287 rfl rfl rfl hd_X5_highSigned ⟨Nat.le_of_ble_eq_true rfl, Nat.le_of_ble_eq_true rfl⟩) g_Kst0 trivial trivial ⟨Nat.zero_le _, Nat.zero_le _⟩ rfl hl.1 rfl (Nat.le_of_ble_eq_true rfl) dX5_multiply_191 ?_
          refine lv_goto (tgt := 203) hx hb dX5_multiply_194 (by decide) ?_
          subst hr
          exact kp5 _ _ ls hP hS (lv_sub hl [0, 1, 2, 3, 4, 5] rfl)
      · replace hr := hr.trans (if_pos c_118)
        refine lv_aload_n hx hb dX5_multiply_121 rfl (lv_at hl 3 rfl) ?_
        refine lv_iconst (v := (0 : Int32)) hx hb dX5_multiply_122 ic_0 ?_
        refine lv_iconst (v := (4 : Int32)) hx hb dX5_multiply_123 ic_4 ?_
        refine lv_lload hx hb dX5_multiply_124 (lv_at hl 0 rfl) ?_
        obtain ⟨g12, eg12⟩ : ∃ z, z = m_setRegister (0 : Int32) (4 : Int32) p3 g1.2 := ⟨_, rfl⟩
        replace hr := hr.trans (bnd_eq eg12)
        refine g_UV0 (As := [.int (0 : Int32), .int (4 : Int32), .long p3]) (rest := []) hC (m_X5_setRegister hI (K := K) (d := g1.2) (0 : Int32) (4 : Int32) p3 g12 eg12 (show ¬ ((0 : Int32) < 0 ∨ 16 ≤ (0 : Int32).toNatClampNeg) by decide)) (cwV 3 hts cw_X5_212 rfl rfl rfl hd_X5_setRegister ⟨Nat.le_of_ble_eq_true rfl, Nat.le_of_ble_eq_true rfl⟩) mKst (va_recv hK hP (ci := 5) (q0 := 0) rfl rfl) hP hKp ⟨Nat.zero_le _, Nat.zero_le _⟩ hS (fun _ h => h) rfl hl.1 rfl (Nat.le_of_ble_eq_true rfl) dX5_multiply_126 (fun H locs hP hS => ?_)
        have hP : va_P D xcl (MW ad ca K g12) H := hP
        refine lv_aload_n hx hb dX5_multiply_129 rfl (lv_at hl 3 rfl) ?_
        refine lv_iconst (v := (2 : Int32)) hx hb dX5_multiply_130 ic_2 ?_
        refine lv_iconst (v := (4 : Int32)) hx hb dX5_multiply_131 ic_4 ?_
        refine lv_lload hx hb dX5_multiply_132 (lv_at hl 0 rfl) ?_
        refine lv_bipush (v := (32 : Int32)) hx hb dX5_multiply_134 bp_32 ?_
        refine lv_lushr (v := (lushr_ p3 (32 : Int32))) hx hb dX5_multiply_136 rfl ?_
        obtain ⟨g13, eg13⟩ : ∃ z, z = m_setRegister (2 : Int32) (4 : Int32) (lushr_ p3 (32 : Int32)) g12 := ⟨_, rfl⟩
        replace hr := hr.trans (bnd_eq eg13)
        refine g_UV0 (As := [.int (2 : Int32), .int (4 : Int32), .long (lushr_ p3 (32 : Int32))]) (rest := []) hC (m_X5_setRegister hI (K := K) (d := g12) (2 : Int32) (4 : Int32) (lushr_ p3 (32 : Int32)) g13 eg13 (show ¬ ((2 : Int32) < 0 ∨ 16 ≤ (2 : Int32).toNatClampNeg) by decide)) (cwV 3 hts cw_X5_212 rfl rfl rfl hd_X5_setRegister ⟨Nat.le_of_ble_eq_true rfl, Nat.le_of_ble_eq_true rfl⟩) mKst (va_recv hK hP (ci := 5) (q0 := 0) rfl rfl) hP hKp ⟨Nat.zero_le _, Nat.zero_le _⟩ hS (fun _ h => h) rfl hl.1 rfl (Nat.le_of_ble_eq_true rfl) dX5_multiply_137 (fun H locs hP hS => ?_)
        have hP : va_P D xcl (MW ad ca K g13) H := hP
        refine lv_aload_n hx hb dX5_multiply_140 rfl (lv_at hl 3 rfl) ?_
        refine lv_iload_n hx hb dX5_multiply_141 rfl (lv_at hl 4 rfl) ?_
        refine lv_if_eq (tgt := 163) hx hb dX5_multiply_142 (by decide) (fun c_142 => ?_) (fun c_142 => ?_)
        · replace hr := hr.trans (if_pos c_142)
          refine lv_lload hx hb dX5_multiply_163 (lv_at hl 0 rfl) ?_
          refine lv_bipush (v := (32 : Int32)) hx hb dX5_multiply_165 bp_32 ?_
          refine lv_lushr (v := (lushr_ p3 (32 : Int32))) hx hb dX5_multiply_167 rfl ?_
          refine lv_lconst (v := (0 : Int64)) hx hb dX5_multiply_168 lc_0 ?_
          refine lq_eq (tgt := 177) hx hb dX5_multiply_169 dX5_multiply_170 (by decide) (fun c_169 => ?_) (fun c_169 => ?_)
          · replace hr := hr.trans (if_pos c_169)
            refine lv_iconst (v := (0 : Int32)) hx hb dX5_multiply_177 ic_0 ?_
            refine mp_0_21 (v := false) hx hb hts hown hK hI hP hS (hts _ q692) dX5_multiply_178 (fun d14 ed14 H locs hP hS => ?_)
            replace hr := hr.trans (bnd_eq ed14)
            refine lv_goto (tgt := 260) hx hb dX5_multiply_181 (by decide) ?_
            subst hr
            exact kp4 _ _ ls hP hS (lv_sub hl [0, 1, 2, 3, 4, 5] rfl)
          · replace hr := hr.trans (if_neg c_169)
            refine lv_iconst (v := (1 : Int32)) hx hb dX5_multiply_173 ic_1 ?_
            refine lv_goto (tgt := 178) hx hb dX5_multiply_174 (by decide) ?_
            refine mp_0_21 (v := true) hx hb hts hown hK hI hP hS (hts _ q692) dX5_multiply_178 (fun d15 ed15 H locs hP hS => ?_)
            replace hr := hr.trans (bnd_eq ed15)
            refine lv_goto (tgt := 260) hx hb dX5_multiply_181 (by decide) ?_
            subst hr
            exact kp4 _ _ ls hP hS (lv_sub hl [0, 1, 2, 3, 4, 5] rfl)
        · replace hr := hr.trans (if_neg c_142)
          refine lv_lload hx hb dX5_multiply_145 (lv_at hl 0 rfl) ?_
          refine lv_lload hx hb dX5_multiply_147 (lv_at hl 0 rfl) ?_
          refine lv_l2i (v := p3.toInt32) hx hb dX5_multiply_149 rfl ?_
          refine lv_i2l (v := (p3.toInt32).toInt64) hx hb dX5_multiply_150 rfl ?_
          refine lq_eq (tgt := 159) hx hb dX5_multiply_151 dX5_multiply_152 (by decide) (fun c_151 => ?_) (fun c_151 => ?_)
          · replace hr := hr.trans (if_pos c_151)
            refine lv_iconst (v := (0 : Int32)) hx hb dX5_multiply_159 ic_0 ?_
            refine lv_goto (tgt := 178) hx hb dX5_multiply_160 (by decide) ?_
            refine mp_0_21 (v := false) hx hb hts hown hK hI hP hS (hts _ q692) dX5_multiply_178 (fun d16 ed16 H locs hP hS => ?_)
            replace hr := hr.trans (bnd_eq ed16)
            refine lv_goto (tgt := 260) hx hb dX5_multiply_181 (by decide) ?_
            subst hr
            exact kp4 _ _ ls hP hS (lv_sub hl [0, 1, 2, 3, 4, 5] rfl)
          · replace hr := hr.trans (if_neg c_151)
            refine lv_iconst (v := (1 : Int32)) hx hb dX5_multiply_155 ic_1 ?_
            refine lv_goto (tgt := 178) hx hb dX5_multiply_156 (by decide) ?_
            refine mp_0_21 (v := true) hx hb hts hown hK hI hP hS (hts _ q692) dX5_multiply_178 (fun d17 ed17 H locs hP hS => ?_)
            replace hr := hr.trans (bnd_eq ed17)
            refine lv_goto (tgt := 260) hx hb dX5_multiply_181 (by decide) ?_
            subst hr
            exact kp4 _ _ ls hP hS (lv_sub hl [0, 1, 2, 3, 4, 5] rfl)
    · replace hr := hr.trans (if_pos c_46)
      refine lv_aload_n hx hb dX5_multiply_49 rfl (lv_at hl 3 rfl) ?_
      refine mg_0_16 hx hb hts hown hK hP (hts _ q687) dX5_multiply_50 ?_
      refine lv_iconst (v := (0 : Int32)) hx hb dX5_multiply_53 ic_0 ?_
      refine lv_aload_n hx hb dX5_multiply_54 rfl (lv_at hl 3 rfl) ?_
      refine mg_0_16 hx hb hts hown hK hP (hts _ q687) dX5_multiply_55 ?_
      refine lv_iconst (v := (0 : Int32)) hx hb dX5_multiply_58 ic_0 ?_
      refine ml_7 hx hb hK hP (show ¬ ((0 : Int32) < 0 ∨ 16 ≤ (0 : Int32).toNatClampNeg) by decide) dX5_multiply_59 ?_
      refine lv_ldc2 hx hb hown (hts _ q968) dX5_multiply_60 ?_
      refine lv_land hx hb dX5_multiply_63 ?_
      refine lv_lload hx hb dX5_multiply_64 (lv_at hl 0 rfl) ?_
      refine lv_ldc2 hx hb hown (hts _ q853) dX5_multiply_66 ?_
      refine lv_land hx hb dX5_multiply_69 ?_
      refine lv_lor hx hb dX5_multiply_70 ?_
      refine ms_7 hx hb hK hI hP hS (show ¬ ((0 : Int32) < 0 ∨ 16 ≤ (0 : Int32).toNatClampNeg) by decide) dX5_multiply_71 (fun d18 ed18 H locs hP hS => ?_)
      replace hr := hr.trans (bnd_eq ed18)
      refine lv_aload_n hx hb dX5_multiply_72 rfl (lv_at hl 3 rfl) ?_
      refine lv_iload_n hx hb dX5_multiply_73 rfl (lv_at hl 4 rfl) ?_
      refine lv_if_eq (tgt := 96) hx hb dX5_multiply_74 (by decide) (fun c_74 => ?_) (fun c_74 => ?_)
      · replace hr := hr.trans (if_pos c_74)
        refine lv_lload hx hb dX5_multiply_96 (lv_at hl 0 rfl) ?_
        refine lv_ldc2 hx hb hown (hts _ q852) dX5_multiply_98 ?_
        refine lq_le (tgt := 109) hx hb dX5_multiply_101 dX5_multiply_102 (by decide) (fun c_101 => ?_) (fun c_101 => ?_)
        · replace hr := hr.trans (if_pos c_101)
          refine lv_iconst (v := (0 : Int32)) hx hb dX5_multiply_109 ic_0 ?_
          refine mp_0_21 (v := false) hx hb hts hown hK hI hP hS (hts _ q692) dX5_multiply_110 (fun d19 ed19 H locs hP hS => ?_)
          replace hr := hr.trans (bnd_eq ed19)
          refine lv_goto (tgt := 260) hx hb dX5_multiply_113 (by decide) ?_
          subst hr
          exact kp4 _ _ ls hP hS (lv_sub hl [0, 1, 2, 3, 4, 5] rfl)
        · replace hr := hr.trans (if_neg c_101)
          refine lv_iconst (v := (1 : Int32)) hx hb dX5_multiply_105 ic_1 ?_
          refine lv_goto (tgt := 110) hx hb dX5_multiply_106 (by decide) ?_
          refine mp_0_21 (v := true) hx hb hts hown hK hI hP hS (hts _ q692) dX5_multiply_110 (fun d20 ed20 H locs hP hS => ?_)
          replace hr := hr.trans (bnd_eq ed20)
          refine lv_goto (tgt := 260) hx hb dX5_multiply_113 (by decide) ?_
          subst hr
          exact kp4 _ _ ls hP hS (lv_sub hl [0, 1, 2, 3, 4, 5] rfl)
      · replace hr := hr.trans (if_neg c_74)
        refine lv_lload hx hb dX5_multiply_77 (lv_at hl 0 rfl) ?_
        refine lv_lload hx hb dX5_multiply_79 (lv_at hl 0 rfl) ?_
        refine lv_l2i (v := p3.toInt32) hx hb dX5_multiply_81 rfl ?_
        refine lv_i2b (v := (p3.toInt32).toInt8.toInt32) hx hb dX5_multiply_82 rfl ?_
        refine lv_i2l (v := ((p3.toInt32).toInt8.toInt32).toInt64) hx hb dX5_multiply_83 rfl ?_
        refine lq_eq (tgt := 92) hx hb dX5_multiply_84 dX5_multiply_85 (by decide) (fun c_84 => ?_) (fun c_84 => ?_)
        · replace hr := hr.trans (if_pos c_84)
          refine lv_iconst (v := (0 : Int32)) hx hb dX5_multiply_92 ic_0 ?_
          refine lv_goto (tgt := 110) hx hb dX5_multiply_93 (by decide) ?_
          refine mp_0_21 (v := false) hx hb hts hown hK hI hP hS (hts _ q692) dX5_multiply_110 (fun d21 ed21 H locs hP hS => ?_)
          replace hr := hr.trans (bnd_eq ed21)
          refine lv_goto (tgt := 260) hx hb dX5_multiply_113 (by decide) ?_
          subst hr
          exact kp4 _ _ ls hP hS (lv_sub hl [0, 1, 2, 3, 4, 5] rfl)
        · replace hr := hr.trans (if_neg c_84)
          refine lv_iconst (v := (1 : Int32)) hx hb dX5_multiply_88 ic_1 ?_
          refine lv_goto (tgt := 110) hx hb dX5_multiply_89 (by decide) ?_
          refine mp_0_21 (v := true) hx hb hts hown hK hI hP hS (hts _ q692) dX5_multiply_110 (fun d22 ed22 H locs hP hS => ?_)
          replace hr := hr.trans (bnd_eq ed22)
          refine lv_goto (tgt := 260) hx hb dX5_multiply_113 (by decide) ?_
          subst hr
          exact kp4 _ _ ls hP hS (lv_sub hl [0, 1, 2, 3, 4, 5] rfl)
  replace hr := ep3
  refine lv_if_eq (tgt := 38) hx hb dX5_multiply_20 (by decide) (fun c_20 => ?_) (fun c_20 => ?_)
  · replace hr := hr.trans (if_pos c_20)
    refine lv_lload hx hb dX5_multiply_38 (lv_at hl 0 rfl) ?_
    refine lv_lload_n hx hb dX5_multiply_40 rfl (lv_at hl 1 rfl) ?_
    refine lv_lmul hx hb dX5_multiply_41 ?_
    subst hr
    exact kp3 _ _ ls hP hS (lv_sub hl [0, 1, 2, 3, 4] rfl)
  · replace hr := hr.trans (if_neg c_20)
    refine lv_lload hx hb dX5_multiply_23 (lv_at hl 0 rfl) ?_
    refine lv_iload_n hx hb dX5_multiply_25 rfl (lv_at hl 4 rfl) ?_
    refine g_RS (As := [.long v2, .int sz]) (rest := []) hC (m_X5_signed v2 sz _ rfl) (va_cwS 2 hts cw_X5_274 rfl rfl rfl hd_X5_signed ⟨Nat.le_of_ble_eq_true rfl, Nat.le_of_ble_eq_true rfl⟩) g_Kst0 trivial trivial ⟨Nat.zero_le _, Nat.zero_le _⟩ rfl hl.1 rfl (Nat.le_of_ble_eq_true rfl) dX5_multiply_26 ?_
    refine lv_lload_n hx hb dX5_multiply_29 rfl (lv_at hl 1 rfl) ?_
    refine lv_iload_n hx hb dX5_multiply_30 rfl (lv_at hl 4 rfl) ?_
    refine g_RS (As := [.long g1.1, .int sz]) (rest := [.long (m_signed v2 sz)]) hC (m_X5_signed g1.1 sz _ rfl) (va_cwS 2 hts cw_X5_274 rfl rfl rfl hd_X5_signed ⟨Nat.le_of_ble_eq_true rfl, Nat.le_of_ble_eq_true rfl⟩) g_Kst0 trivial trivial ⟨Nat.zero_le _, Nat.zero_le _⟩ rfl hl.1 rfl (Nat.le_of_ble_eq_true rfl) dX5_multiply_31 ?_
    refine lv_lmul hx hb dX5_multiply_34 ?_
    refine lv_goto (tgt := 42) hx hb dX5_multiply_35 (by decide) ?_
    subst hr
    exact kp3 _ _ ls hP hS (lv_sub hl [0, 1, 2, 3, 4] rfl)
def m_divideSmall (sg : Bool) (sz : Int32) (x : Int64) (d : MD) : MD := bnd (α := Int64) (if sz = (1 : Int32) then (((dm_regs d) (0 : Int32).toNatClampNeg) &&& (65535 : Int64)) else ((lshl_ ((dm_regs d) (2 : Int32).toNatClampNeg) (32 : Int32)) ||| (((dm_regs d) (0 : Int32).toNatClampNeg) &&& (4294967295 : Int64)))) fun p1 => bnd (α := Int64) (if sz = (1 : Int32) then (if (b2i sg) = 0 then p1 else (bnd (α := Int64) ((((p1.toInt32).toInt16.toInt32).toInt64)) fun v3 => v3)) else p1) fun p2 => bnd (α := Int64) (if (b2i sg) = 0 then x else (m_signed x sz)) fun p4 => bnd (α := Int64) (bnd (α := Bool) (if (b2i sg) = 0 then (if p2 < (0 : Int64) then false else true) else true) fun b6 => if b6 = true then (p2 / p4) else (lshl_ ((lushr_ p2 (1 : Int32)) / p4) (1 : Int32))) fun p5 => bnd (α := Int64) ((p2 - (p5 * p4))) fun v7 => bnd (α := Int64 × Int64) (if (b2i sg) = 0 then (if (b2i (m_below v7 p4)) = 0 then (bnd (α := Int64) ((p5 + (1 : Int64))) fun v9 => bnd (α := Int64) ((v7 - p4)) fun v10 => (v10, v9)) else (v7, p5)) else (v7, p5)) fun p8 => bnd (α := Bool) (if (b2i sg) = 0 then (if p8.2 = (m_cut p8.2 sz) then true else false) else (if p8.2 = (m_signed p8.2 sz) then (if p2 = (-9223372036854775808 : Int64) then (if p4 = (-1 : Int64) then false else true) else true) else false)) fun p11 => if (b2i p11) = 0 then (bnd (m_stopWith (5 : Int32) (0 : Int64) d) fun g15 => g15) else (if sz = (1 : Int32) then (bnd (dm_regs_ (vp_updL (dm_regs d) (0 : Int32).toNatClampNeg (((((dm_regs d) (0 : Int32).toNatClampNeg) &&& (-65536 : Int64)) ||| (lshl_ (p8.1 &&& (255 : Int64)) (8 : Int32))) ||| (p8.2 &&& (255 : Int64)))) d) fun d14 => d14) else (bnd (m_setRegister (0 : Int32) (4 : Int32) p8.2 d) fun g12 => bnd (m_setRegister (2 : Int32) (4 : Int32) p8.1 g12) fun g13 => g13))
abbrev rm_X5_divideSmall : Room := { frames := 1, cells := 0, slots := 0, locals := 24 }
set_option maxHeartbeats 4000000 in
set_option maxRecDepth 100000 in
theorem m_X5_divideSmall {l : Launch} {D : va_G} {ad : Nat → Nat} {ca : Nat → ClassId} (hI : mInj ad) {K : MK} {d : MD} (sg : Bool) (sz : Int32) (x : Int64) (RES : MD) (hr : RES = m_divideSmall sg sz x d) (hsg2 : ¬ x = 0 ∧ ¬ m_signed x sz = 0) : g_U l yX5_divideSmall (ws_ yX5_divideSmall cX5_divideSmall 14 none) rm_X5_divideSmall [.ref (ad 0), .int (b2i sg), .int sz, .long x] (mKp D ca) (mB D ad ca K d) none (mB D ad ca K RES) (mA ad) := by
  refine g_ofU (by decide) (Nat.le_of_ble_eq_true rfl) ?_
  intro p e s m args below meth c ls Q hF hB hKp hl hQ
  obtain ⟨hx, hb, -, -, hml, hown, hts⟩ := id hF
  have hown : s.vm.findClass RX5 = some m.cls := hown
  have hC : CallFix p m c cX5_divideSmall 14 s args lw_all RX5 := ⟨hx, hb, hml, hown, hts⟩
  have hK : va_K D xcl (mtys ca) s := hKp
  have hP : va_P D xcl (MW ad ca K d) s.heap := hB
  have hS : va_S (mA ad) s.heap s.heap [] := va_S.rf
  have hl : lv_has ls 14 [(0, .ref (ad 0)), (1, .int (b2i sg)), (2, .int sz), (3, .long x)] := hl
  unfold m_divideSmall at hr
  refine lv_iload_n hx hb dX5_divideSmall_0 rfl (lv_at hl 2 rfl) ?_
  refine lv_iconst (v := (1 : Int32)) hx hb dX5_divideSmall_1 ic_1 ?_
  obtain ⟨p1, ep1⟩ : ∃ z : Int64, z = (if sz = (1 : Int32) then (((dm_regs d) (0 : Int32).toNatClampNeg) &&& (65535 : Int64)) else ((lshl_ ((dm_regs d) (2 : Int32).toNatClampNeg) (32 : Int32)) ||| (((dm_regs d) (0 : Int32).toNatClampNeg) &&& (4294967295 : Int64)))) := ⟨_, rfl⟩
  replace hr := hr.trans (bnd_eq ep1)
  have kp1 : ∀ (H : Heap) (locs : List Loc) (ls : Array Slot), va_P D xcl (MW ad ca K d) H → va_S (mA ad) s.heap H locs → lv_has ls 14 [(0, .ref (ad 0)), (1, .int (b2i sg)), (2, .int sz), (3, .long x)] → W p l e rm_X5_divideSmall s m args below meth c H locs 0 0 Q (F0 m 38 ls [.long p1]) := by
    intro H locs ls hP hS hl
    refine lv_lstore (lv' := [(5, .long p1), (0, .ref (ad 0)), (1, .int (b2i sg)), (2, .int sz), (3, .long x)]) hx hb dX5_divideSmall_38 hl (by decide) rfl (fun ls hl => ?_)
    refine lv_iload_n hx hb dX5_divideSmall_40 rfl (lv_at hl 3 rfl) ?_
    refine lv_iconst (v := (1 : Int32)) hx hb dX5_divideSmall_41 ic_1 ?_
    obtain ⟨p2, ep2⟩ : ∃ z : Int64, z = (if sz = (1 : Int32) then (if (b2i sg) = 0 then p1 else (bnd (α := Int64) ((((p1.toInt32).toInt16.toInt32).toInt64)) fun v3 => v3)) else p1) := ⟨_, rfl⟩
    replace hr := hr.trans (bnd_eq ep2)
    have kp2 : ∀ (H : Heap) (locs : List Loc) (ls : Array Slot), va_P D xcl (MW ad ca K d) H → va_S (mA ad) s.heap H locs → lv_has ls 14 [(5, .long p2), (0, .ref (ad 0)), (1, .int (b2i sg)), (2, .int sz), (3, .long x)] → W p l e rm_X5_divideSmall s m args below meth c H locs 0 0 Q (F0 m 56 ls []) := by
      intro H locs ls hP hS hl
      refine lv_iload_n hx hb dX5_divideSmall_56 rfl (lv_at hl 2 rfl) ?_
      obtain ⟨p4, ep4⟩ : ∃ z : Int64, z = (if (b2i sg) = 0 then x else (m_signed x sz)) := ⟨_, rfl⟩
      replace hr := hr.trans (bnd_eq ep4)
      have kp4 : ∀ (H : Heap) (locs : List Loc) (ls : Array Slot), va_P D xcl (MW ad ca K d) H → va_S (mA ad) s.heap H locs → lv_has ls 14 [(5, .long p2), (0, .ref (ad 0)), (1, .int (b2i sg)), (2, .int sz), (3, .long x)] → W p l e rm_X5_divideSmall s m args below meth c H locs 0 0 Q (F0 m 69 ls [.long p4]) := by
        intro H locs ls hP hS hl
        refine lv_lstore (lv' := [(7, .long p4), (5, .long p2), (0, .ref (ad 0)), (1, .int (b2i sg)), (2, .int sz), (3, .long x)]) hx hb dX5_divideSmall_69 hl (by decide) rfl (fun ls hl => ?_)
        refine lv_iload_n hx hb dX5_divideSmall_71 rfl (lv_at hl 3 rfl) ?_
        obtain ⟨p5, ep5⟩ : ∃ z : Int64, z = (bnd (α := Bool) (if (b2i sg) = 0 then (if p2 < (0 : Int64) then false else true) else true) fun b6 => if b6 = true then (p2 / p4) else (lshl_ ((lushr_ p2 (1 : Int32)) / p4) (1 : Int32))) := ⟨_, rfl⟩
        replace hr := hr.trans (bnd_eq ep5)
        have kp5 : ∀ (H : Heap) (locs : List Loc) (ls : Array Slot), va_P D xcl (MW ad ca K d) H → va_S (mA ad) s.heap H locs → lv_has ls 14 [(7, .long p4), (5, .long p2), (0, .ref (ad 0)), (1, .int (b2i sg)), (2, .int sz), (3, .long x)] → W p l e rm_X5_divideSmall s m args below meth c H locs 0 0 Q (F0 m 99 ls [.long p5]) := by
          intro H locs ls hP hS hl
          refine lv_lstore (lv' := [(9, .long p5), (7, .long p4), (5, .long p2), (0, .ref (ad 0)), (1, .int (b2i sg)), (2, .int sz), (3, .long x)]) hx hb dX5_divideSmall_99 hl (by decide) rfl (fun ls hl => ?_)
          refine lv_lload hx hb dX5_divideSmall_101 (lv_at hl 2 rfl) ?_
          refine lv_lload hx hb dX5_divideSmall_103 (lv_at hl 0 rfl) ?_
          refine lv_lload hx hb dX5_divideSmall_105 (lv_at hl 1 rfl) ?_
          refine lv_lmul hx hb dX5_divideSmall_107 ?_
          refine lv_lsub hx hb dX5_divideSmall_108 ?_
          refine lv_topl (fun v7 ev7 => ?_)
          replace hr := hr.trans (bnd_eq ev7)
          refine lv_lstore (lv' := [(11, .long v7), (9, .long p5), (7, .long p4), (5, .long p2), (0, .ref (ad 0)), (1, .int (b2i sg)), (2, .int sz), (3, .long x)]) hx hb dX5_divideSmall_109 hl (by decide) rfl (fun ls hl => ?_)
          refine lv_iload_n hx hb dX5_divideSmall_111 rfl (lv_at hl 5 rfl) ?_
          obtain ⟨p8, ep8⟩ : ∃ z : Int64 × Int64, z = (if (b2i sg) = 0 then (if (b2i (m_below v7 p4)) = 0 then (bnd (α := Int64) ((p5 + (1 : Int64))) fun v9 => bnd (α := Int64) ((v7 - p4)) fun v10 => (v10, v9)) else (v7, p5)) else (v7, p5)) := ⟨_, rfl⟩
          replace hr := hr.trans (bnd_eq ep8)
          have kp8 : ∀ (H : Heap) (locs : List Loc) (ls : Array Slot), va_P D xcl (MW ad ca K d) H → va_S (mA ad) s.heap H locs → lv_has ls 14 [(11, .long p8.1), (9, .long p8.2), (7, .long p4), (5, .long p2), (0, .ref (ad 0)), (1, .int (b2i sg)), (2, .int sz), (3, .long x)] → W p l e rm_X5_divideSmall s m args below meth c H locs 0 0 Q (F0 m 138 ls []) := by
            intro H locs ls hP hS hl
            refine lv_iload_n hx hb dX5_divideSmall_138 rfl (lv_at hl 5 rfl) ?_
            obtain ⟨p11, ep11⟩ : ∃ z : Bool, z = (if (b2i sg) = 0 then (if p8.2 = (m_cut p8.2 sz) then true else false) else (if p8.2 = (m_signed p8.2 sz) then (if p2 = (-9223372036854775808 : Int64) then (if p4 = (-1 : Int64) then false else true) else true) else false)) := ⟨_, rfl⟩
            replace hr := hr.trans (bnd_eq ep11)
            have kp11 : ∀ (H : Heap) (locs : List Loc) (ls : Array Slot), va_P D xcl (MW ad ca K d) H → va_S (mA ad) s.heap H locs → lv_has ls 14 [(11, .long p8.1), (9, .long p8.2), (7, .long p4), (5, .long p2), (0, .ref (ad 0)), (1, .int (b2i sg)), (2, .int sz), (3, .long x)] → W p l e rm_X5_divideSmall s m args below meth c H locs 0 0 Q (F0 m 197 ls [.int (b2i p11)]) := by
              intro H locs ls hP hS hl
              refine lv_istore (lv' := [(13, .int (b2i p11)), (11, .long p8.1), (9, .long p8.2), (7, .long p4), (5, .long p2), (0, .ref (ad 0)), (1, .int (b2i sg)), (2, .int sz), (3, .long x)]) hx hb dX5_divideSmall_197 hl (by decide) rfl (fun ls hl => ?_)
              refine lv_iload hx hb dX5_divideSmall_199 (lv_at hl 0 rfl) ?_
              refine lv_if_ne (tgt := 213) hx hb dX5_divideSmall_201 (by decide) (fun c_201 => ?_) (fun c_201 => ?_)
              · replace hr := hr.trans (if_neg c_201)
                refine lv_iload_n hx hb dX5_divideSmall_213 rfl (lv_at hl 7 rfl) ?_
                refine lv_iconst (v := (1 : Int32)) hx hb dX5_divideSmall_214 ic_1 ?_
                refine lv_icmp_ne (tgt := 254) hx hb dX5_divideSmall_215 (by decide) (fun c_215 => ?_) (fun c_215 => ?_)
                · replace hr := hr.trans (if_neg c_215)
                  refine lv_aload_n hx hb dX5_divideSmall_254 rfl (lv_at hl 5 rfl) ?_
                  refine lv_iconst (v := (0 : Int32)) hx hb dX5_divideSmall_255 ic_0 ?_
                  refine lv_iconst (v := (4 : Int32)) hx hb dX5_divideSmall_256 ic_4 ?_
                  refine lv_lload hx hb dX5_divideSmall_257 (lv_at hl 2 rfl) ?_
                  obtain ⟨g12, eg12⟩ : ∃ z, z = m_setRegister (0 : Int32) (4 : Int32) p8.2 d := ⟨_, rfl⟩
                  replace hr := hr.trans (bnd_eq eg12)
                  refine g_UV0 (As := [.int (0 : Int32), .int (4 : Int32), .long p8.2]) (rest := []) hC (m_X5_setRegister hI (K := K) (d := d) (0 : Int32) (4 : Int32) p8.2 g12 eg12 (show ¬ ((0 : Int32) < 0 ∨ 16 ≤ (0 : Int32).toNatClampNeg) by decide)) (cwV 3 hts cw_X5_212 rfl rfl rfl hd_X5_setRegister ⟨Nat.le_of_ble_eq_true rfl, Nat.le_of_ble_eq_true rfl⟩) mKst (va_recv hK hP (ci := 5) (q0 := 0) rfl rfl) hP hKp ⟨Nat.zero_le _, Nat.zero_le _⟩ hS (fun _ h => h) rfl hl.1 rfl (Nat.le_of_ble_eq_true rfl) dX5_divideSmall_259 (fun H locs hP hS => ?_)
                  have hP : va_P D xcl (MW ad ca K g12) H := hP
                  refine lv_aload_n hx hb dX5_divideSmall_262 rfl (lv_at hl 5 rfl) ?_
                  refine lv_iconst (v := (2 : Int32)) hx hb dX5_divideSmall_263 ic_2 ?_
                  refine lv_iconst (v := (4 : Int32)) hx hb dX5_divideSmall_264 ic_4 ?_
                  refine lv_lload hx hb dX5_divideSmall_265 (lv_at hl 1 rfl) ?_
                  obtain ⟨g13, eg13⟩ : ∃ z, z = m_setRegister (2 : Int32) (4 : Int32) p8.1 g12 := ⟨_, rfl⟩
                  replace hr := hr.trans (bnd_eq eg13)
                  refine g_UV0 (As := [.int (2 : Int32), .int (4 : Int32), .long p8.1]) (rest := []) hC (m_X5_setRegister hI (K := K) (d := g12) (2 : Int32) (4 : Int32) p8.1 g13 eg13 (show ¬ ((2 : Int32) < 0 ∨ 16 ≤ (2 : Int32).toNatClampNeg) by decide)) (cwV 3 hts cw_X5_212 rfl rfl rfl hd_X5_setRegister ⟨Nat.le_of_ble_eq_true rfl, Nat.le_of_ble_eq_true rfl⟩) mKst (va_recv hK hP (ci := 5) (q0 := 0) rfl rfl) hP hKp ⟨Nat.zero_le _, Nat.zero_le _⟩ hS (fun _ h => h) rfl hl.1 rfl (Nat.le_of_ble_eq_true rfl) dX5_divideSmall_267 (fun H locs hP hS => ?_)
                  have hP : va_P D xcl (MW ad ca K g13) H := hP
                  exact g_endUv (Pic := (fun u => mB D ad ca K u)) (u := g13) hF hQ hr hP hS dX5_divideSmall_270
                · replace hr := hr.trans (if_pos c_215)
                  refine lv_aload_n hx hb dX5_divideSmall_218 rfl (lv_at hl 5 rfl) ?_
                  refine mg_0_16 hx hb hts hown hK hP (hts _ q687) dX5_divideSmall_219 ?_
                  refine lv_iconst (v := (0 : Int32)) hx hb dX5_divideSmall_222 ic_0 ?_
                  refine lv_aload_n hx hb dX5_divideSmall_223 rfl (lv_at hl 5 rfl) ?_
                  refine mg_0_16 hx hb hts hown hK hP (hts _ q687) dX5_divideSmall_224 ?_
                  refine lv_iconst (v := (0 : Int32)) hx hb dX5_divideSmall_227 ic_0 ?_
                  refine ml_7 hx hb hK hP (show ¬ ((0 : Int32) < 0 ∨ 16 ≤ (0 : Int32).toNatClampNeg) by decide) dX5_divideSmall_228 ?_
                  refine lv_ldc2 hx hb hown (hts _ q968) dX5_divideSmall_229 ?_
                  refine lv_land hx hb dX5_divideSmall_232 ?_
                  refine lv_lload hx hb dX5_divideSmall_233 (lv_at hl 1 rfl) ?_
                  refine lv_ldc2 hx hb hown (hts _ q852) dX5_divideSmall_235 ?_
                  refine lv_land hx hb dX5_divideSmall_238 ?_
                  refine lv_bipush (v := (8 : Int32)) hx hb dX5_divideSmall_239 bp_8 ?_
                  refine lv_lshl (v := (lshl_ (p8.1 &&& (255 : Int64)) (8 : Int32))) hx hb dX5_divideSmall_241 rfl ?_
                  refine lv_lor hx hb dX5_divideSmall_242 ?_
                  refine lv_lload hx hb dX5_divideSmall_243 (lv_at hl 2 rfl) ?_
                  refine lv_ldc2 hx hb hown (hts _ q852) dX5_divideSmall_245 ?_
                  refine lv_land hx hb dX5_divideSmall_248 ?_
                  refine lv_lor hx hb dX5_divideSmall_249 ?_
                  refine ms_7 hx hb hK hI hP hS (show ¬ ((0 : Int32) < 0 ∨ 16 ≤ (0 : Int32).toNatClampNeg) by decide) dX5_divideSmall_250 (fun d14 ed14 H locs hP hS => ?_)
                  replace hr := hr.trans (bnd_eq ed14)
                  refine lv_goto (tgt := 270) hx hb dX5_divideSmall_251 (by decide) ?_
                  exact g_endUv (Pic := (fun u => mB D ad ca K u)) (u := d14) hF hQ hr hP hS dX5_divideSmall_270
              · replace hr := hr.trans (if_pos c_201)
                refine lv_aload_n hx hb dX5_divideSmall_204 rfl (lv_at hl 5 rfl) ?_
                refine lv_iconst (v := (5 : Int32)) hx hb dX5_divideSmall_205 ic_5 ?_
                refine lv_lconst (v := (0 : Int64)) hx hb dX5_divideSmall_206 lc_0 ?_
                obtain ⟨g15, eg15⟩ : ∃ z, z = m_stopWith (5 : Int32) (0 : Int64) d := ⟨_, rfl⟩
                replace hr := hr.trans (bnd_eq eg15)
                refine g_UV0 (As := [.int (5 : Int32), .long (0 : Int64)]) (rest := []) hC (m_X5_stopWith hI (K := K) (d := d) (5 : Int32) (0 : Int64) g15 eg15) (cwV 2 hts cw_X5_180 rfl rfl rfl hd_X5_stopWith ⟨Nat.le_of_ble_eq_true rfl, Nat.le_of_ble_eq_true rfl⟩) mKst (va_recv hK hP (ci := 5) (q0 := 0) rfl rfl) hP hKp ⟨Nat.zero_le _, Nat.zero_le _⟩ hS (fun _ h => h) rfl hl.1 rfl (Nat.le_of_ble_eq_true rfl) dX5_divideSmall_207 (fun H locs hP hS => ?_)
                have hP : va_P D xcl (MW ad ca K g15) H := hP
                refine lv_goto (tgt := 270) hx hb dX5_divideSmall_210 (by decide) ?_
                exact g_endUv (Pic := (fun u => mB D ad ca K u)) (u := g15) hF hQ hr hP hS dX5_divideSmall_270
            replace hr := ep11
            refine lv_if_eq (tgt := 180) hx hb dX5_divideSmall_139 (by decide) (fun c_139 => ?_) (fun c_139 => ?_)
            · replace hr := hr.trans (if_pos c_139)
              refine lv_lload hx hb dX5_divideSmall_180 (lv_at hl 1 rfl) ?_
              refine lv_lload hx hb dX5_divideSmall_182 (lv_at hl 1 rfl) ?_
              refine lv_iload_n hx hb dX5_divideSmall_184 rfl (lv_at hl 6 rfl) ?_
              refine g_RS (As := [.long p8.2, .int sz]) (rest := [.long p8.2]) hC (m_X5_cut p8.2 sz _ rfl) (va_cwS 2 hts cw_X5_200 rfl rfl rfl hd_X5_cut ⟨Nat.le_of_ble_eq_true rfl, Nat.le_of_ble_eq_true rfl⟩) g_Kst0 trivial trivial ⟨Nat.zero_le _, Nat.zero_le _⟩ rfl hl.1 rfl (Nat.le_of_ble_eq_true rfl) dX5_divideSmall_185 ?_
              refine lq_ne (tgt := 196) hx hb dX5_divideSmall_188 dX5_divideSmall_189 (by decide) (fun c_188 => ?_) (fun c_188 => ?_)
              · replace hr := hr.trans (if_neg c_188)
                refine lv_iconst (v := (0 : Int32)) hx hb dX5_divideSmall_196 ic_0 ?_
                subst hr
                exact kp11 _ _ ls hP hS (lv_sub hl [0, 1, 2, 3, 4, 5, 6, 7] rfl)
              · replace hr := hr.trans (if_pos c_188)
                refine lv_iconst (v := (1 : Int32)) hx hb dX5_divideSmall_192 ic_1 ?_
                refine lv_goto (tgt := 197) hx hb dX5_divideSmall_193 (by decide) ?_
                subst hr
                exact kp11 _ _ ls hP hS (lv_sub hl [0, 1, 2, 3, 4, 5, 6, 7] rfl)
            · replace hr := hr.trans (if_neg c_139)
              refine lv_lload hx hb dX5_divideSmall_142 (lv_at hl 1 rfl) ?_
              refine lv_lload hx hb dX5_divideSmall_144 (lv_at hl 1 rfl) ?_
              refine lv_iload_n hx hb dX5_divideSmall_146 rfl (lv_at hl 6 rfl) ?_
              refine g_RS (As := [.long p8.2, .int sz]) (rest := [.long p8.2]) hC (m_X5_signed p8.2 sz _ rfl) (va_cwS 2 hts cw_X5_274 rfl rfl rfl hd_X5_signed ⟨Nat.le_of_ble_eq_true rfl, Nat.le_of_ble_eq_true rfl⟩) g_Kst0 trivial trivial ⟨Nat.zero_le _, Nat.zero_le _⟩ rfl hl.1 rfl (Nat.le_of_ble_eq_true rfl) dX5_divideSmall_147 ?_
              refine lq_ne (tgt := 176) hx hb dX5_divideSmall_150 dX5_divideSmall_151 (by decide) (fun c_150 => ?_) (fun c_150 => ?_)
              · replace hr := hr.trans (if_neg c_150)
                refine lv_iconst (v := (0 : Int32)) hx hb dX5_divideSmall_176 ic_0 ?_
                refine lv_goto (tgt := 197) hx hb dX5_divideSmall_177 (by decide) ?_
                subst hr
                exact kp11 _ _ ls hP hS (lv_sub hl [0, 1, 2, 3, 4, 5, 6, 7] rfl)
              · replace hr := hr.trans (if_pos c_150)
                refine lv_lload hx hb dX5_divideSmall_154 (lv_at hl 3 rfl) ?_
                refine lv_ldc2 hx hb hown (hts _ q923) dX5_divideSmall_156 ?_
                refine lq_ne (tgt := 172) hx hb dX5_divideSmall_159 dX5_divideSmall_160 (by decide) (fun c_159 => ?_) (fun c_159 => ?_)
                · replace hr := hr.trans (if_neg c_159)
                  refine lv_iconst (v := (1 : Int32)) hx hb dX5_divideSmall_172 ic_1 ?_
                  refine lv_goto (tgt := 197) hx hb dX5_divideSmall_173 (by decide) ?_
                  subst hr
                  exact kp11 _ _ ls hP hS (lv_sub hl [0, 1, 2, 3, 4, 5, 6, 7] rfl)
                · replace hr := hr.trans (if_pos c_159)
                  refine lv_lload hx hb dX5_divideSmall_163 (lv_at hl 2 rfl) ?_
                  refine lv_ldc2 hx hb hown (hts _ q963) dX5_divideSmall_165 ?_
                  refine lq_eq (tgt := 176) hx hb dX5_divideSmall_168 dX5_divideSmall_169 (by decide) (fun c_168 => ?_) (fun c_168 => ?_)
                  · replace hr := hr.trans (if_pos c_168)
                    refine lv_iconst (v := (0 : Int32)) hx hb dX5_divideSmall_176 ic_0 ?_
                    refine lv_goto (tgt := 197) hx hb dX5_divideSmall_177 (by decide) ?_
                    subst hr
                    exact kp11 _ _ ls hP hS (lv_sub hl [0, 1, 2, 3, 4, 5, 6, 7] rfl)
                  · replace hr := hr.trans (if_neg c_168)
                    refine lv_iconst (v := (1 : Int32)) hx hb dX5_divideSmall_172 ic_1 ?_
                    refine lv_goto (tgt := 197) hx hb dX5_divideSmall_173 (by decide) ?_
                    subst hr
                    exact kp11 _ _ ls hP hS (lv_sub hl [0, 1, 2, 3, 4, 5, 6, 7] rfl)
          replace hr := ep8
          refine lv_if_ne (tgt := 138) hx hb dX5_divideSmall_112 (by decide) (fun c_112 => ?_) (fun c_112 => ?_)
          · replace hr := hr.trans (if_neg c_112)
            subst hr
            exact kp8 _ _ ls hP hS (lv_sub hl [0, 1, 2, 3, 4, 5, 6, 7] rfl)
          · replace hr := hr.trans (if_pos c_112)
            refine lv_lload hx hb dX5_divideSmall_115 (lv_at hl 0 rfl) ?_
            refine lv_lload hx hb dX5_divideSmall_117 (lv_at hl 2 rfl) ?_
            refine g_RS (As := [.long v7, .long p4]) (rest := []) hC (m_X5_below v7 p4 _ rfl) (va_cwS 2 hts cw_X5_233 rfl rfl rfl hd_X5_below ⟨Nat.le_of_ble_eq_true rfl, Nat.le_of_ble_eq_true rfl⟩) g_Kst0 trivial trivial ⟨Nat.zero_le _, Nat.zero_le _⟩ rfl hl.1 rfl (Nat.le_of_ble_eq_true rfl) dX5_divideSmall_119 ?_
            refine lv_if_ne (tgt := 138) hx hb dX5_divideSmall_122 (by decide) (fun c_122 => ?_) (fun c_122 => ?_)
            · replace hr := hr.trans (if_neg c_122)
              subst hr
              exact kp8 _ _ ls hP hS (lv_sub hl [0, 1, 2, 3, 4, 5, 6, 7] rfl)
            · replace hr := hr.trans (if_pos c_122)
              refine lv_lload hx hb dX5_divideSmall_125 (lv_at hl 1 rfl) ?_
              refine lv_lconst (v := (1 : Int64)) hx hb dX5_divideSmall_127 lc_1 ?_
              refine lv_ladd hx hb dX5_divideSmall_128 ?_
              refine lv_topl (fun v9 ev9 => ?_)
              replace hr := hr.trans (bnd_eq ev9)
              refine lv_lstore (lv' := [(9, .long v9), (11, .long v7), (7, .long p4), (5, .long p2), (0, .ref (ad 0)), (1, .int (b2i sg)), (2, .int sz), (3, .long x)]) hx hb dX5_divideSmall_129 hl (by decide) rfl (fun ls hl => ?_)
              refine lv_lload hx hb dX5_divideSmall_131 (lv_at hl 1 rfl) ?_
              refine lv_lload hx hb dX5_divideSmall_133 (lv_at hl 2 rfl) ?_
              refine lv_lsub hx hb dX5_divideSmall_135 ?_
              refine lv_topl (fun v10 ev10 => ?_)
              replace hr := hr.trans (bnd_eq ev10)
              refine lv_lstore (lv' := [(11, .long v10), (9, .long v9), (7, .long p4), (5, .long p2), (0, .ref (ad 0)), (1, .int (b2i sg)), (2, .int sz), (3, .long x)]) hx hb dX5_divideSmall_136 hl (by decide) rfl (fun ls hl => ?_)
              subst hr
              exact kp8 _ _ ls hP hS (lv_sub hl [0, 1, 2, 3, 4, 5, 6, 7] rfl)
        replace hr := ep5
        obtain ⟨b6, eb6⟩ : ∃ z : Bool, z = (if (b2i sg) = 0 then (if p2 < (0 : Int64) then false else true) else true) := ⟨_, rfl⟩
        replace hr := hr.trans (bnd_eq eb6)
        have kb6T : b6 = true → W p l e rm_X5_divideSmall s m args below meth c H locs 0 0 Q (F0 m 82 ls []) := by
          intro hb6
          replace hr := hr.trans (if_pos hb6)
          refine lv_lload hx hb dX5_divideSmall_82 (lv_at hl 1 rfl) ?_
          refine lv_lload hx hb dX5_divideSmall_84 (lv_at hl 0 rfl) ?_
          refine lv_ldiv hx hb dX5_divideSmall_86 (qt_nz2 ep4 hsg2) ?_
          refine lv_goto (tgt := 99) hx hb dX5_divideSmall_87 (by decide) ?_
          subst hr
          exact kp5 _ _ ls hP hS (lv_sub hl [0, 1, 2, 3, 4, 5] rfl)
        have kb6F : ¬ b6 = true → W p l e rm_X5_divideSmall s m args below meth c H locs 0 0 Q (F0 m 90 ls []) := by
          intro hb6
          replace hr := hr.trans (if_neg hb6)
          have er := eb6
          have hf := Bool.eq_false_iff.mpr hb6
          have c_72 : (b2i sg) = 0 := Decidable.byContradiction (fun q => absurd (hf.symm.trans (er.trans (if_neg q))) (by decide))
          have er := er.trans (if_pos c_72)
          have c_78 : p2 < (0 : Int64) := Decidable.byContradiction (fun q => absurd (hf.symm.trans (er.trans (if_neg q))) (by decide))
          have er := er.trans (if_pos c_78)
          clear er
          refine lv_lload hx hb dX5_divideSmall_90 (lv_at hl 1 rfl) ?_
          refine lv_iconst (v := (1 : Int32)) hx hb dX5_divideSmall_92 ic_1 ?_
          refine lv_lushr (v := (lushr_ p2 (1 : Int32))) hx hb dX5_divideSmall_93 rfl ?_
          refine lv_lload hx hb dX5_divideSmall_94 (lv_at hl 0 rfl) ?_
          refine lv_ldiv hx hb dX5_divideSmall_96 (qt_nz2 ep4 hsg2) ?_
          refine lv_iconst (v := (1 : Int32)) hx hb dX5_divideSmall_97 ic_1 ?_
          refine lv_lshl (v := (lshl_ ((lushr_ p2 (1 : Int32)) / p4) (1 : Int32))) hx hb dX5_divideSmall_98 rfl ?_
          subst hr
          exact kp5 _ _ ls hP hS (lv_sub hl [0, 1, 2, 3, 4, 5] rfl)
        replace hr := eb6
        refine lv_if_ne (tgt := 82) hx hb dX5_divideSmall_72 (by decide) (fun c_72 => ?_) (fun c_72 => ?_)
        · replace hr := hr.trans (if_neg c_72)
          exact kb6T hr
        · replace hr := hr.trans (if_pos c_72)
          refine lv_lload hx hb dX5_divideSmall_75 (lv_at hl 1 rfl) ?_
          refine lv_lconst (v := (0 : Int64)) hx hb dX5_divideSmall_77 lc_0 ?_
          refine lq_lt (tgt := 90) hx hb dX5_divideSmall_78 dX5_divideSmall_79 (by decide) (fun c_78 => ?_) (fun c_78 => ?_)
          · replace hr := hr.trans (if_pos c_78)
            exact kb6F (by rw [hr]; decide)
          · replace hr := hr.trans (if_neg c_78)
            exact kb6T hr
      replace hr := ep4
      refine lv_if_eq (tgt := 68) hx hb dX5_divideSmall_57 (by decide) (fun c_57 => ?_) (fun c_57 => ?_)
      · replace hr := hr.trans (if_pos c_57)
        refine lv_lload_n hx hb dX5_divideSmall_68 rfl (lv_at hl 4 rfl) ?_
        subst hr
        exact kp4 _ _ ls hP hS (lv_sub hl [0, 1, 2, 3, 4] rfl)
      · replace hr := hr.trans (if_neg c_57)
        refine lv_lload_n hx hb dX5_divideSmall_60 rfl (lv_at hl 4 rfl) ?_
        refine lv_iload_n hx hb dX5_divideSmall_61 rfl (lv_at hl 3 rfl) ?_
        refine g_RS (As := [.long x, .int sz]) (rest := []) hC (m_X5_signed x sz _ rfl) (va_cwS 2 hts cw_X5_274 rfl rfl rfl hd_X5_signed ⟨Nat.le_of_ble_eq_true rfl, Nat.le_of_ble_eq_true rfl⟩) g_Kst0 trivial trivial ⟨Nat.zero_le _, Nat.zero_le _⟩ rfl hl.1 rfl (Nat.le_of_ble_eq_true rfl) dX5_divideSmall_62 ?_
        refine lv_goto (tgt := 69) hx hb dX5_divideSmall_65 (by decide) ?_
        subst hr
        exact kp4 _ _ ls hP hS (lv_sub hl [0, 1, 2, 3, 4] rfl)
    replace hr := ep2
    refine lv_icmp_ne (tgt := 56) hx hb dX5_divideSmall_42 (by decide) (fun c_42 => ?_) (fun c_42 => ?_)
    · replace hr := hr.trans (if_neg c_42)
      subst hr
      exact kp2 _ _ ls hP hS (lv_sub hl [0, 1, 2, 3, 4] rfl)
    · replace hr := hr.trans (if_pos c_42)
      refine lv_iload_n hx hb dX5_divideSmall_45 rfl (lv_at hl 2 rfl) ?_
      refine lv_if_eq (tgt := 56) hx hb dX5_divideSmall_46 (by decide) (fun c_46 => ?_) (fun c_46 => ?_)
      · replace hr := hr.trans (if_pos c_46)
        subst hr
        exact kp2 _ _ ls hP hS (lv_sub hl [0, 1, 2, 3, 4] rfl)
      · replace hr := hr.trans (if_neg c_46)
        refine lv_lload hx hb dX5_divideSmall_49 (lv_at hl 0 rfl) ?_
        refine lv_l2i (v := p1.toInt32) hx hb dX5_divideSmall_51 rfl ?_
        refine lv_i2s (v := (p1.toInt32).toInt16.toInt32) hx hb dX5_divideSmall_52 rfl ?_
        refine lv_i2l (v := ((p1.toInt32).toInt16.toInt32).toInt64) hx hb dX5_divideSmall_53 rfl ?_
        refine lv_topl (fun v3 ev3 => ?_)
        replace hr := hr.trans (bnd_eq ev3)
        refine lv_lstore (lv' := [(5, .long v3), (0, .ref (ad 0)), (1, .int (b2i sg)), (2, .int sz), (3, .long x)]) hx hb dX5_divideSmall_54 hl (by decide) rfl (fun ls hl => ?_)
        subst hr
        exact kp2 _ _ ls hP hS (lv_sub hl [0, 1, 2, 3, 4] rfl)
  replace hr := ep1
  refine lv_icmp_ne (tgt := 18) hx hb dX5_divideSmall_2 (by decide) (fun c_2 => ?_) (fun c_2 => ?_)
  · replace hr := hr.trans (if_neg c_2)
    refine lv_aload_n hx hb dX5_divideSmall_18 rfl (lv_at hl 0 rfl) ?_
    refine mg_0_16 hx hb hts hown hK hP (hts _ q687) dX5_divideSmall_19 ?_
    refine lv_iconst (v := (2 : Int32)) hx hb dX5_divideSmall_22 ic_2 ?_
    refine ml_7 hx hb hK hP (show ¬ ((2 : Int32) < 0 ∨ 16 ≤ (2 : Int32).toNatClampNeg) by decide) dX5_divideSmall_23 ?_
    refine lv_bipush (v := (32 : Int32)) hx hb dX5_divideSmall_24 bp_32 ?_
    refine lv_lshl (v := (lshl_ ((dm_regs d) (2 : Int32).toNatClampNeg) (32 : Int32))) hx hb dX5_divideSmall_26 rfl ?_
    refine lv_aload_n hx hb dX5_divideSmall_27 rfl (lv_at hl 0 rfl) ?_
    refine mg_0_16 hx hb hts hown hK hP (hts _ q687) dX5_divideSmall_28 ?_
    refine lv_iconst (v := (0 : Int32)) hx hb dX5_divideSmall_31 ic_0 ?_
    refine ml_7 hx hb hK hP (show ¬ ((0 : Int32) < 0 ∨ 16 ≤ (0 : Int32).toNatClampNeg) by decide) dX5_divideSmall_32 ?_
    refine lv_ldc2 hx hb hown (hts _ q890) dX5_divideSmall_33 ?_
    refine lv_land hx hb dX5_divideSmall_36 ?_
    refine lv_lor hx hb dX5_divideSmall_37 ?_
    subst hr
    exact kp1 _ _ ls hP hS (lv_sub hl [0, 1, 2, 3] rfl)
  · replace hr := hr.trans (if_pos c_2)
    refine lv_aload_n hx hb dX5_divideSmall_5 rfl (lv_at hl 0 rfl) ?_
    refine mg_0_16 hx hb hts hown hK hP (hts _ q687) dX5_divideSmall_6 ?_
    refine lv_iconst (v := (0 : Int32)) hx hb dX5_divideSmall_9 ic_0 ?_
    refine ml_7 hx hb hK hP (show ¬ ((0 : Int32) < 0 ∨ 16 ≤ (0 : Int32).toNatClampNeg) by decide) dX5_divideSmall_10 ?_
    refine lv_ldc2 hx hb hown (hts _ q853) dX5_divideSmall_11 ?_
    refine lv_land hx hb dX5_divideSmall_14 ?_
    refine lv_goto (tgt := 38) hx hb dX5_divideSmall_15 (by decide) ?_
    subst hr
    exact kp1 _ _ ls hP hS (lv_sub hl [0, 1, 2, 3] rfl)
def m_divide_L186 (sg : Bool) (p6 : Bool) (p7 : Bool) (p8 : Int64 × Int64) (p12 : Int64) : Nat → Int64 → Int64 → Int32 → MD → MD
  | 0, w186_13, w186_15, w186_17, dl186 => dl186
  | n + 1, w186_13, w186_15, w186_17, dl186 => if w186_17 < 0 then (if (b2i sg) = 0 then (bnd (α := Int64) (if (b2i p7) = 0 then w186_13 else (-w186_13)) fun p13 => bnd (dm_regs_ (vp_updL (dm_regs dl186) (0 : Int32).toNatClampNeg p13) dl186) fun d14 => if (b2i p6) = 0 then (bnd (dm_regs_ (vp_updL (dm_regs d14) (2 : Int32).toNatClampNeg w186_15) d14) fun d15 => d15) else (bnd (dm_regs_ (vp_updL (dm_regs d14) (2 : Int32).toNatClampNeg (-w186_15)) d14) fun d16 => d16)) else (if (b2i p7) = 0 then (if (0 : Int64) ≤ w186_13 then (bnd (α := Int64) (if (b2i p7) = 0 then w186_13 else (-w186_13)) fun p17 => bnd (dm_regs_ (vp_updL (dm_regs dl186) (0 : Int32).toNatClampNeg p17) dl186) fun d18 => if (b2i p6) = 0 then (bnd (dm_regs_ (vp_updL (dm_regs d18) (2 : Int32).toNatClampNeg w186_15) d18) fun d19 => d19) else (bnd (dm_regs_ (vp_updL (dm_regs d18) (2 : Int32).toNatClampNeg (-w186_15)) d18) fun d20 => d20)) else (bnd (m_stopWith (5 : Int32) (0 : Int64) dl186) fun g21 => g21)) else (if (b2i (m_below (-9223372036854775808 : Int64) w186_13)) = 0 then (bnd (α := Int64) (if (b2i p7) = 0 then w186_13 else (-w186_13)) fun p22 => bnd (dm_regs_ (vp_updL (dm_regs dl186) (0 : Int32).toNatClampNeg p22) dl186) fun d23 => if (b2i p6) = 0 then (bnd (dm_regs_ (vp_updL (dm_regs d23) (2 : Int32).toNatClampNeg w186_15) d23) fun d24 => d24) else (bnd (dm_regs_ (vp_updL (dm_regs d23) (2 : Int32).toNatClampNeg (-w186_15)) d23) fun d25 => d25)) else (bnd (m_stopWith (5 : Int32) (0 : Int64) dl186) fun g26 => g26)))) else (bnd (α := Bool) (if (0 : Int64) ≤ w186_15 then false else true) fun p27 => bnd (α := Int64) (((lshl_ w186_15 (1 : Int32)) ||| ((lushr_ p8.1 w186_17) &&& (1 : Int64)))) fun v28 => bnd (α := Bool) (if (b2i p27) = 0 then (if (b2i (m_below v28 p12)) = 0 then true else false) else true) fun p29 => bnd (α := Int64) (if (b2i p29) = 0 then v28 else (bnd (α := Int64) ((v28 - p12)) fun v31 => v31)) fun p30 => if (b2i p29) = 0 then (bnd (α := Int64) (((lshl_ w186_13 (1 : Int32)) ||| (0 : Int64))) fun v32 => bnd (α := Int32) ((w186_17 + (-1 : Int32))) fun v33 => m_divide_L186 sg p6 p7 p8 p12 n v32 p30 v33 dl186) else (bnd (α := Int64) (((lshl_ w186_13 (1 : Int32)) ||| (1 : Int64))) fun v34 => bnd (α := Int32) ((w186_17 + (-1 : Int32))) fun v35 => m_divide_L186 sg p6 p7 p8 p12 n v34 p30 v35 dl186))
theorem m_divide_L186_s (sg : Bool) (p6 : Bool) (p7 : Bool) (p8 : Int64 × Int64) (p12 : Int64) (n : Nat) (w186_13 : Int64) (w186_15 : Int64) (w186_17 : Int32) (dl186 : MD) : m_divide_L186 sg p6 p7 p8 p12 (n + 1) w186_13 w186_15 w186_17 dl186 = if w186_17 < 0 then (if (b2i sg) = 0 then (bnd (α := Int64) (if (b2i p7) = 0 then w186_13 else (-w186_13)) fun p13 => bnd (dm_regs_ (vp_updL (dm_regs dl186) (0 : Int32).toNatClampNeg p13) dl186) fun d14 => if (b2i p6) = 0 then (bnd (dm_regs_ (vp_updL (dm_regs d14) (2 : Int32).toNatClampNeg w186_15) d14) fun d15 => d15) else (bnd (dm_regs_ (vp_updL (dm_regs d14) (2 : Int32).toNatClampNeg (-w186_15)) d14) fun d16 => d16)) else (if (b2i p7) = 0 then (if (0 : Int64) ≤ w186_13 then (bnd (α := Int64) (if (b2i p7) = 0 then w186_13 else (-w186_13)) fun p17 => bnd (dm_regs_ (vp_updL (dm_regs dl186) (0 : Int32).toNatClampNeg p17) dl186) fun d18 => if (b2i p6) = 0 then (bnd (dm_regs_ (vp_updL (dm_regs d18) (2 : Int32).toNatClampNeg w186_15) d18) fun d19 => d19) else (bnd (dm_regs_ (vp_updL (dm_regs d18) (2 : Int32).toNatClampNeg (-w186_15)) d18) fun d20 => d20)) else (bnd (m_stopWith (5 : Int32) (0 : Int64) dl186) fun g21 => g21)) else (if (b2i (m_below (-9223372036854775808 : Int64) w186_13)) = 0 then (bnd (α := Int64) (if (b2i p7) = 0 then w186_13 else (-w186_13)) fun p22 => bnd (dm_regs_ (vp_updL (dm_regs dl186) (0 : Int32).toNatClampNeg p22) dl186) fun d23 => if (b2i p6) = 0 then (bnd (dm_regs_ (vp_updL (dm_regs d23) (2 : Int32).toNatClampNeg w186_15) d23) fun d24 => d24) else (bnd (dm_regs_ (vp_updL (dm_regs d23) (2 : Int32).toNatClampNeg (-w186_15)) d23) fun d25 => d25)) else (bnd (m_stopWith (5 : Int32) (0 : Int64) dl186) fun g26 => g26)))) else (bnd (α := Bool) (if (0 : Int64) ≤ w186_15 then false else true) fun p27 => bnd (α := Int64) (((lshl_ w186_15 (1 : Int32)) ||| ((lushr_ p8.1 w186_17) &&& (1 : Int64)))) fun v28 => bnd (α := Bool) (if (b2i p27) = 0 then (if (b2i (m_below v28 p12)) = 0 then true else false) else true) fun p29 => bnd (α := Int64) (if (b2i p29) = 0 then v28 else (bnd (α := Int64) ((v28 - p12)) fun v31 => v31)) fun p30 => if (b2i p29) = 0 then (bnd (α := Int64) (((lshl_ w186_13 (1 : Int32)) ||| (0 : Int64))) fun v32 => bnd (α := Int32) ((w186_17 + (-1 : Int32))) fun v33 => m_divide_L186 sg p6 p7 p8 p12 n v32 p30 v33 dl186) else (bnd (α := Int64) (((lshl_ w186_13 (1 : Int32)) ||| (1 : Int64))) fun v34 => bnd (α := Int32) ((w186_17 + (-1 : Int32))) fun v35 => m_divide_L186 sg p6 p7 p8 p12 n v34 p30 v35 dl186)) := rfl
def m_divide (K : MK) (sg : Bool) (sz : Int32) (d : MD) : MD := bnd (m_take K (0 : Int32) sz d) fun g1 => bnd (α := MD) (if (dm_halt g1.2) = 0 then (if g1.1 = (0 : Int64) then (bnd (m_stopWith (5 : Int32) (0 : Int64) g1.2) fun g3 => g3) else g1.2) else g1.2) fun p2 => if (dm_halt p2) = 0 then (if (8 : Int32) ≤ sz then (bnd (α := Int64) (((dm_regs p2) (2 : Int32).toNatClampNeg)) fun v4 => bnd (α := Int64) (((dm_regs p2) (0 : Int32).toNatClampNeg)) fun v5 => bnd (α := Bool) (if (b2i sg) = 0 then false else (if (0 : Int64) ≤ v4 then false else true)) fun p6 => bnd (α := Bool) (if (b2i sg) = 0 then false else (if (0 : Int64) ≤ g1.1 then (if (b2i p6) = (0 : Int32) then false else true) else (if (b2i p6) = (1 : Int32) then false else true))) fun p7 => bnd (α := Int64 × Int64) (if (b2i p6) = 0 then (v5, v4) else (bnd (α := Int64) ((-v5)) fun v9 => if v9 = (0 : Int64) then (bnd (α := Int64) (((v4 ^^^ (-1 : Int64)) + (1 : Int64))) fun v11 => (v9, v11)) else (bnd (α := Int64) (((v4 ^^^ (-1 : Int64)) + (0 : Int64))) fun v10 => (v9, v10)))) fun p8 => bnd (α := Int64) (if (b2i sg) = 0 then g1.1 else (if (0 : Int64) ≤ g1.1 then g1.1 else (-g1.1))) fun p12 => if (b2i (m_below p8.2 p12)) = 0 then (bnd (m_stopWith (5 : Int32) (0 : Int64) p2) fun g36 => g36) else (m_divide_L186 sg p6 p7 p8 p12 (mDn (63 : Int32) + 1) (0 : Int64) p8.2 (63 : Int32) p2)) else (bnd (m_divideSmall sg sz g1.1 p2) fun g37 => g37)) else p2
abbrev rm_X5_divide : Room := { frames := 4, cells := 0, slots := 0, locals := 99 }
set_option maxHeartbeats 4000000 in
set_option maxRecDepth 100000 in
theorem m_X5_divide {l : Launch} {D : va_G} {ad : Nat → Nat} {ca : Nat → ClassId} (hI : mInj ad) {K : MK} {d : MD} (sg : Bool) (sz : Int32) (RES : MD) (hr : RES = m_divide K sg sz d) (hgd : MGd K) (hsg : MSg K sz) : g_U l yX5_divide (ws_ yX5_divide cX5_divide 20 none) rm_X5_divide [.ref (ad 0), .int (b2i sg), .int sz] (mKp D ca) (mB D ad ca K d) none (mB D ad ca K RES) (mA ad) := by
  refine g_ofU (by decide) (Nat.le_of_ble_eq_true rfl) ?_
  intro p e s m args below meth c ls Q hF hB hKp hl hQ
  obtain ⟨hx, hb, -, -, hml, hown, hts⟩ := id hF
  have hown : s.vm.findClass RX5 = some m.cls := hown
  have hC : CallFix p m c cX5_divide 20 s args lw_all RX5 := ⟨hx, hb, hml, hown, hts⟩
  have hK : va_K D xcl (mtys ca) s := hKp
  have hP : va_P D xcl (MW ad ca K d) s.heap := hB
  have hS : va_S (mA ad) s.heap s.heap [] := va_S.rf
  have hl : lv_has ls 20 [(0, .ref (ad 0)), (1, .int (b2i sg)), (2, .int sz)] := hl
  unfold m_divide at hr
  refine lv_aload_n hx hb dX5_divide_0 rfl (lv_at hl 0 rfl) ?_
  refine lv_iconst (v := (0 : Int32)) hx hb dX5_divide_1 ic_0 ?_
  refine lv_iload_n hx hb dX5_divide_2 rfl (lv_at hl 2 rfl) ?_
  obtain ⟨g1, eg1⟩ : ∃ z, z = m_take K (0 : Int32) sz d := ⟨_, rfl⟩
  replace hr := hr.trans (bnd_eq eg1)
  refine g_UV1 (As := [.int (0 : Int32), .int sz]) (rest := []) hC (m_X5_take hI (K := K) (d := d) (0 : Int32) sz g1 eg1 (show ¬ ((0 : Int32) < 0 ∨ 3 ≤ (0 : Int32).toNatClampNeg) by decide) hgd) (cwV 2 hts cw_X5_257 rfl rfl rfl hd_X5_take ⟨Nat.le_of_ble_eq_true rfl, Nat.le_of_ble_eq_true rfl⟩) mKst (va_recv hK hP (ci := 5) (q0 := 0) rfl rfl) hP hKp ⟨Nat.zero_le _, Nat.zero_le _⟩ hS (fun _ h => h) rfl hl.1 rfl (Nat.le_of_ble_eq_true rfl) dX5_divide_3 (fun H locs hP hS => ?_)
  have hP : va_P D xcl (MW ad ca K g1.2) H := hP
  refine lv_lstore_n (lv' := [(3, .long g1.1), (0, .ref (ad 0)), (1, .int (b2i sg)), (2, .int sz)]) hx hb dX5_divide_6 rfl hl (by decide) rfl (fun ls hl => ?_)
  refine lv_aload_n hx hb dX5_divide_7 rfl (lv_at hl 1 rfl) ?_
  refine mg_0_27 hx hb hts hown hK hP (hts _ q698) dX5_divide_8 ?_
  obtain ⟨p2, ep2⟩ : ∃ z : MD, z = (if (dm_halt g1.2) = 0 then (if g1.1 = (0 : Int64) then (bnd (m_stopWith (5 : Int32) (0 : Int64) g1.2) fun g3 => g3) else g1.2) else g1.2) := ⟨_, rfl⟩
  replace hr := hr.trans (bnd_eq ep2)
  have kp2 : ∀ (H : Heap) (locs : List Loc) (ls : Array Slot), va_P D xcl (MW ad ca K p2) H → va_S (mA ad) s.heap H locs → lv_has ls 20 [(3, .long g1.1), (0, .ref (ad 0)), (1, .int (b2i sg)), (2, .int sz)] → W p l e rm_X5_divide s m args below meth c H locs 0 0 Q (F0 m 26 ls []) := by
    intro H locs ls hP hS hl
    refine lv_aload_n hx hb dX5_divide_26 rfl (lv_at hl 1 rfl) ?_
    refine mg_0_27 hx hb hts hown hK hP (hts _ q698) dX5_divide_27 ?_
    refine lv_if_eq (tgt := 34) hx hb dX5_divide_30 (by decide) (fun c_30 => ?_) (fun c_30 => ?_)
    · replace hr := hr.trans (if_pos c_30)
      refine lv_iload_n hx hb dX5_divide_34 rfl (lv_at hl 3 rfl) ?_
      refine lv_bipush (v := (8 : Int32)) hx hb dX5_divide_35 bp_8 ?_
      refine lv_icmp_ge (tgt := 48) hx hb dX5_divide_37 (by decide) (fun c_37 => ?_) (fun c_37 => ?_)
      · replace hr := hr.trans (if_pos c_37)
        refine lv_aload_n hx hb dX5_divide_48 rfl (lv_at hl 1 rfl) ?_
        refine mg_0_16 hx hb hts hown hK hP (hts _ q687) dX5_divide_49 ?_
        refine lv_iconst (v := (2 : Int32)) hx hb dX5_divide_52 ic_2 ?_
        refine ml_7 hx hb hK hP (show ¬ ((2 : Int32) < 0 ∨ 16 ≤ (2 : Int32).toNatClampNeg) by decide) dX5_divide_53 ?_
        refine lv_topl (fun v4 ev4 => ?_)
        replace hr := hr.trans (bnd_eq ev4)
        refine lv_lstore (lv' := [(5, .long v4), (3, .long g1.1), (0, .ref (ad 0)), (1, .int (b2i sg)), (2, .int sz)]) hx hb dX5_divide_54 hl (by decide) rfl (fun ls hl => ?_)
        refine lv_aload_n hx hb dX5_divide_56 rfl (lv_at hl 2 rfl) ?_
        refine mg_0_16 hx hb hts hown hK hP (hts _ q687) dX5_divide_57 ?_
        refine lv_iconst (v := (0 : Int32)) hx hb dX5_divide_60 ic_0 ?_
        refine ml_7 hx hb hK hP (show ¬ ((0 : Int32) < 0 ∨ 16 ≤ (0 : Int32).toNatClampNeg) by decide) dX5_divide_61 ?_
        refine lv_topl (fun v5 ev5 => ?_)
        replace hr := hr.trans (bnd_eq ev5)
        refine lv_lstore (lv' := [(7, .long v5), (5, .long v4), (3, .long g1.1), (0, .ref (ad 0)), (1, .int (b2i sg)), (2, .int sz)]) hx hb dX5_divide_62 hl (by decide) rfl (fun ls hl => ?_)
        refine lv_iload_n hx hb dX5_divide_64 rfl (lv_at hl 4 rfl) ?_
        obtain ⟨p6, ep6⟩ : ∃ z : Bool, z = (if (b2i sg) = 0 then false else (if (0 : Int64) ≤ v4 then false else true)) := ⟨_, rfl⟩
        replace hr := hr.trans (bnd_eq ep6)
        have kp6 : ∀ (H : Heap) (locs : List Loc) (ls : Array Slot), va_P D xcl (MW ad ca K p2) H → va_S (mA ad) s.heap H locs → lv_has ls 20 [(7, .long v5), (5, .long v4), (3, .long g1.1), (0, .ref (ad 0)), (1, .int (b2i sg)), (2, .int sz)] → W p l e rm_X5_divide s m args below meth c H locs 0 0 Q (F0 m 80 ls [.int (b2i p6)]) := by
          intro H locs ls hP hS hl
          refine lv_istore (lv' := [(9, .int (b2i p6)), (7, .long v5), (5, .long v4), (3, .long g1.1), (0, .ref (ad 0)), (1, .int (b2i sg)), (2, .int sz)]) hx hb dX5_divide_80 hl (by decide) rfl (fun ls hl => ?_)
          refine lv_iload_n hx hb dX5_divide_82 rfl (lv_at hl 5 rfl) ?_
          obtain ⟨p7, ep7⟩ : ∃ z : Bool, z = (if (b2i sg) = 0 then false else (if (0 : Int64) ≤ g1.1 then (if (b2i p6) = (0 : Int32) then false else true) else (if (b2i p6) = (1 : Int32) then false else true))) := ⟨_, rfl⟩
          replace hr := hr.trans (bnd_eq ep7)
          have kp7 : ∀ (H : Heap) (locs : List Loc) (ls : Array Slot), va_P D xcl (MW ad ca K p2) H → va_S (mA ad) s.heap H locs → lv_has ls 20 [(9, .int (b2i p6)), (7, .long v5), (5, .long v4), (3, .long g1.1), (0, .ref (ad 0)), (1, .int (b2i sg)), (2, .int sz)] → W p l e rm_X5_divide s m args below meth c H locs 0 0 Q (F0 m 107 ls [.int (b2i p7)]) := by
            intro H locs ls hP hS hl
            refine lv_istore (lv' := [(10, .int (b2i p7)), (9, .int (b2i p6)), (7, .long v5), (5, .long v4), (3, .long g1.1), (0, .ref (ad 0)), (1, .int (b2i sg)), (2, .int sz)]) hx hb dX5_divide_107 hl (by decide) rfl (fun ls hl => ?_)
            refine lv_iload hx hb dX5_divide_109 (lv_at hl 1 rfl) ?_
            obtain ⟨p8, ep8⟩ : ∃ z : Int64 × Int64, z = (if (b2i p6) = 0 then (v5, v4) else (bnd (α := Int64) ((-v5)) fun v9 => if v9 = (0 : Int64) then (bnd (α := Int64) (((v4 ^^^ (-1 : Int64)) + (1 : Int64))) fun v11 => (v9, v11)) else (bnd (α := Int64) (((v4 ^^^ (-1 : Int64)) + (0 : Int64))) fun v10 => (v9, v10)))) := ⟨_, rfl⟩
            replace hr := hr.trans (bnd_eq ep8)
            have kp8 : ∀ (H : Heap) (locs : List Loc) (ls : Array Slot), va_P D xcl (MW ad ca K p2) H → va_S (mA ad) s.heap H locs → lv_has ls 20 [(10, .int (b2i p7)), (9, .int (b2i p6)), (7, .long p8.1), (5, .long p8.2), (3, .long g1.1), (0, .ref (ad 0)), (1, .int (b2i sg)), (2, .int sz)] → W p l e rm_X5_divide s m args below meth c H locs 0 0 Q (F0 m 140 ls []) := by
              intro H locs ls hP hS hl
              refine lv_iload_n hx hb dX5_divide_140 rfl (lv_at hl 6 rfl) ?_
              obtain ⟨p12, ep12⟩ : ∃ z : Int64, z = (if (b2i sg) = 0 then g1.1 else (if (0 : Int64) ≤ g1.1 then g1.1 else (-g1.1))) := ⟨_, rfl⟩
              replace hr := hr.trans (bnd_eq ep12)
              have kp12 : ∀ (H : Heap) (locs : List Loc) (ls : Array Slot), va_P D xcl (MW ad ca K p2) H → va_S (mA ad) s.heap H locs → lv_has ls 20 [(10, .int (b2i p7)), (9, .int (b2i p6)), (7, .long p8.1), (5, .long p8.2), (3, .long g1.1), (0, .ref (ad 0)), (1, .int (b2i sg)), (2, .int sz)] → W p l e rm_X5_divide s m args below meth c H locs 0 0 Q (F0 m 156 ls [.long p12]) := by
                intro H locs ls hP hS hl
                refine lv_lstore (lv' := [(11, .long p12), (10, .int (b2i p7)), (9, .int (b2i p6)), (7, .long p8.1), (5, .long p8.2), (3, .long g1.1), (0, .ref (ad 0)), (1, .int (b2i sg)), (2, .int sz)]) hx hb dX5_divide_156 hl (by decide) rfl (fun ls hl => ?_)
                refine lv_lload hx hb dX5_divide_158 (lv_at hl 4 rfl) ?_
                refine lv_lload hx hb dX5_divide_160 (lv_at hl 0 rfl) ?_
                refine g_RS (As := [.long p8.2, .long p12]) (rest := []) hC (m_X5_below p8.2 p12 _ rfl) (va_cwS 2 hts cw_X5_233 rfl rfl rfl hd_X5_below ⟨Nat.le_of_ble_eq_true rfl, Nat.le_of_ble_eq_true rfl⟩) g_Kst0 trivial trivial ⟨Nat.zero_le _, Nat.zero_le _⟩ rfl hl.1 rfl (Nat.le_of_ble_eq_true rfl) dX5_divide_162 ?_
                refine lv_if_ne (tgt := 175) hx hb dX5_divide_165 (by decide) (fun c_165 => ?_) (fun c_165 => ?_)
                · replace hr := hr.trans (if_neg c_165)
                  refine lv_lconst (v := (0 : Int64)) hx hb dX5_divide_175 lc_0 ?_
                  refine lv_lstore (lv' := [(13, .long (0 : Int64)), (11, .long p12), (10, .int (b2i p7)), (9, .int (b2i p6)), (7, .long p8.1), (5, .long p8.2), (3, .long g1.1), (0, .ref (ad 0)), (1, .int (b2i sg)), (2, .int sz)]) hx hb dX5_divide_176 hl (by decide) rfl (fun ls hl => ?_)
                  refine lv_lload hx hb dX5_divide_178 (lv_at hl 5 rfl) ?_
                  refine lv_lstore (lv' := [(15, .long p8.2), (13, .long (0 : Int64)), (11, .long p12), (10, .int (b2i p7)), (9, .int (b2i p6)), (7, .long p8.1), (5, .long p8.2), (3, .long g1.1), (0, .ref (ad 0)), (1, .int (b2i sg)), (2, .int sz)]) hx hb dX5_divide_180 hl (by decide) rfl (fun ls hl => ?_)
                  refine lv_bipush (v := (63 : Int32)) hx hb dX5_divide_182 bp_63 ?_
                  refine lv_istore (lv' := [(17, .int (63 : Int32)), (15, .long p8.2), (13, .long (0 : Int64)), (11, .long p12), (10, .int (b2i p7)), (9, .int (b2i p6)), (7, .long p8.1), (5, .long p8.2), (3, .long g1.1), (0, .ref (ad 0)), (1, .int (b2i sg)), (2, .int sz)]) hx hb dX5_divide_184 hl (by decide) rfl (fun ls hl => ?_)
                  have lp186 : ∀ (n : Nat) (w186_13 : Int64) (w186_15 : Int64) (w186_17 : Int32) (dl186 : MD) (H : Heap) (locs : List Loc) (ls : Array Slot), mDn w186_17 < n → RES = m_divide_L186 sg p6 p7 p8 p12 n w186_13 w186_15 w186_17 dl186 → va_P D xcl (MW ad ca K dl186) H → va_S (mA ad) s.heap H locs → lv_has ls 20 [(17, .int w186_17), (15, .long w186_15), (13, .long w186_13), (11, .long p12), (10, .int (b2i p7)), (9, .int (b2i p6)), (7, .long p8.1), (5, .long p8.2), (3, .long g1.1), (0, .ref (ad 0)), (1, .int (b2i sg)), (2, .int sz)] → W p l e rm_X5_divide s m args below meth c H locs 0 0 Q (F0 m 186 ls []) := by
                    intro n
                    induction n with
                    | zero =>
                      intro w186_13 w186_15 w186_17 dl186 H locs ls hm
                      exact absurd hm (Nat.not_lt_zero _)
                    | succ n ih =>
                      intro w186_13 w186_15 w186_17 dl186 H locs ls hm  hr hP hS hl
                      replace hr := hr.trans (m_divide_L186_s sg p6 p7 p8 p12 n w186_13 w186_15 w186_17 dl186)
                      refine lv_iload hx hb dX5_divide_186 (lv_at hl 0 rfl) ?_
                      refine lv_if_lt (tgt := 276) hx hb dX5_divide_188 (by decide) (fun c_188 => ?_) (fun c_188 => ?_)
                      · replace hr := hr.trans (if_pos c_188)
                        refine lv_iload_n hx hb dX5_divide_276 rfl (lv_at hl 10 rfl) ?_
                        refine lv_if_eq (tgt := 313) hx hb dX5_divide_277 (by decide) (fun c_277 => ?_) (fun c_277 => ?_)
                        · replace hr := hr.trans (if_pos c_277)
                          refine lv_aload_n hx hb dX5_divide_313 rfl (lv_at hl 9 rfl) ?_
                          refine mg_0_16 hx hb hts hown hK hP (hts _ q687) dX5_divide_314 ?_
                          refine lv_iconst (v := (0 : Int32)) hx hb dX5_divide_317 ic_0 ?_
                          refine lv_iload hx hb dX5_divide_318 (lv_at hl 4 rfl) ?_
                          obtain ⟨p13, ep13⟩ : ∃ z : Int64, z = (if (b2i p7) = 0 then w186_13 else (-w186_13)) := ⟨_, rfl⟩
                          replace hr := hr.trans (bnd_eq ep13)
                          have kp13 : ∀ (H : Heap) (locs : List Loc) (ls : Array Slot), va_P D xcl (MW ad ca K dl186) H → va_S (mA ad) s.heap H locs → lv_has ls 20 [(17, .int w186_17), (15, .long w186_15), (13, .long w186_13), (11, .long p12), (10, .int (b2i p7)), (9, .int (b2i p6)), (7, .long p8.1), (5, .long p8.2), (3, .long g1.1), (0, .ref (ad 0)), (1, .int (b2i sg)), (2, .int sz)] → W p l e rm_X5_divide s m args below meth c H locs 0 0 Q (F0 m 331 ls [.long p13, .int (0 : Int32), .ref (ad 7)]) := by
                            intro H locs ls hP hS hl
                            refine ms_7 hx hb hK hI hP hS (show ¬ ((0 : Int32) < 0 ∨ 16 ≤ (0 : Int32).toNatClampNeg) by decide) dX5_divide_331 (fun d14 ed14 H locs hP hS => ?_)
                            replace hr := hr.trans (bnd_eq ed14)
                            refine lv_aload_n hx hb dX5_divide_332 rfl (lv_at hl 9 rfl) ?_
                            refine mg_0_16 hx hb hts hown hK hP (hts _ q687) dX5_divide_333 ?_
                            refine lv_iconst (v := (2 : Int32)) hx hb dX5_divide_336 ic_2 ?_
                            refine lv_iload hx hb dX5_divide_337 (lv_at hl 5 rfl) ?_
                            refine lv_if_eq (tgt := 348) hx hb dX5_divide_339 (by decide) (fun c_339 => ?_) (fun c_339 => ?_)
                            · replace hr := hr.trans (if_pos c_339)
                              refine lv_lload hx hb dX5_divide_348 (lv_at hl 1 rfl) ?_
                              refine ms_7 hx hb hK hI hP hS (show ¬ ((2 : Int32) < 0 ∨ 16 ≤ (2 : Int32).toNatClampNeg) by decide) dX5_divide_350 (fun d15 ed15 H locs hP hS => ?_)
                              replace hr := hr.trans (bnd_eq ed15)
                              exact g_endUv (Pic := (fun u => mB D ad ca K u)) (u := d15) hF hQ hr hP hS dX5_divide_351
                            · replace hr := hr.trans (if_neg c_339)
                              refine lv_lload hx hb dX5_divide_342 (lv_at hl 1 rfl) ?_
                              refine lv_lneg hx hb dX5_divide_344 ?_
                              refine lv_goto (tgt := 350) hx hb dX5_divide_345 (by decide) ?_
                              refine ms_7 hx hb hK hI hP hS (show ¬ ((2 : Int32) < 0 ∨ 16 ≤ (2 : Int32).toNatClampNeg) by decide) dX5_divide_350 (fun d16 ed16 H locs hP hS => ?_)
                              replace hr := hr.trans (bnd_eq ed16)
                              exact g_endUv (Pic := (fun u => mB D ad ca K u)) (u := d16) hF hQ hr hP hS dX5_divide_351
                          replace hr := ep13
                          refine lv_if_eq (tgt := 329) hx hb dX5_divide_320 (by decide) (fun c_320 => ?_) (fun c_320 => ?_)
                          · replace hr := hr.trans (if_pos c_320)
                            refine lv_lload hx hb dX5_divide_329 (lv_at hl 2 rfl) ?_
                            subst hr
                            exact kp13 _ _ ls hP hS (lv_sub hl [0, 1, 2, 3, 4, 5, 6, 7, 8, 9, 10, 11] rfl)
                          · replace hr := hr.trans (if_neg c_320)
                            refine lv_lload hx hb dX5_divide_323 (lv_at hl 2 rfl) ?_
                            refine lv_lneg hx hb dX5_divide_325 ?_
                            refine lv_goto (tgt := 331) hx hb dX5_divide_326 (by decide) ?_
                            subst hr
                            exact kp13 _ _ ls hP hS (lv_sub hl [0, 1, 2, 3, 4, 5, 6, 7, 8, 9, 10, 11] rfl)
                        · replace hr := hr.trans (if_neg c_277)
                          refine lv_iload hx hb dX5_divide_280 (lv_at hl 4 rfl) ?_
                          refine lv_if_eq (tgt := 299) hx hb dX5_divide_282 (by decide) (fun c_282 => ?_) (fun c_282 => ?_)
                          · replace hr := hr.trans (if_pos c_282)
                            refine lv_lload hx hb dX5_divide_299 (lv_at hl 2 rfl) ?_
                            refine lv_lconst (v := (0 : Int64)) hx hb dX5_divide_301 lc_0 ?_
                            refine lq_ge (tgt := 313) hx hb dX5_divide_302 dX5_divide_303 (by decide) (fun c_302 => ?_) (fun c_302 => ?_)
                            · replace hr := hr.trans (if_pos c_302)
                              refine lv_aload_n hx hb dX5_divide_313 rfl (lv_at hl 9 rfl) ?_
                              refine mg_0_16 hx hb hts hown hK hP (hts _ q687) dX5_divide_314 ?_
                              refine lv_iconst (v := (0 : Int32)) hx hb dX5_divide_317 ic_0 ?_
                              refine lv_iload hx hb dX5_divide_318 (lv_at hl 4 rfl) ?_
                              obtain ⟨p17, ep17⟩ : ∃ z : Int64, z = (if (b2i p7) = 0 then w186_13 else (-w186_13)) := ⟨_, rfl⟩
                              replace hr := hr.trans (bnd_eq ep17)
                              have kp17 : ∀ (H : Heap) (locs : List Loc) (ls : Array Slot), va_P D xcl (MW ad ca K dl186) H → va_S (mA ad) s.heap H locs → lv_has ls 20 [(17, .int w186_17), (15, .long w186_15), (13, .long w186_13), (11, .long p12), (10, .int (b2i p7)), (9, .int (b2i p6)), (7, .long p8.1), (5, .long p8.2), (3, .long g1.1), (0, .ref (ad 0)), (1, .int (b2i sg)), (2, .int sz)] → W p l e rm_X5_divide s m args below meth c H locs 0 0 Q (F0 m 331 ls [.long p17, .int (0 : Int32), .ref (ad 7)]) := by
                                intro H locs ls hP hS hl
                                refine ms_7 hx hb hK hI hP hS (show ¬ ((0 : Int32) < 0 ∨ 16 ≤ (0 : Int32).toNatClampNeg) by decide) dX5_divide_331 (fun d18 ed18 H locs hP hS => ?_)
                                replace hr := hr.trans (bnd_eq ed18)
                                refine lv_aload_n hx hb dX5_divide_332 rfl (lv_at hl 9 rfl) ?_
                                refine mg_0_16 hx hb hts hown hK hP (hts _ q687) dX5_divide_333 ?_
                                refine lv_iconst (v := (2 : Int32)) hx hb dX5_divide_336 ic_2 ?_
                                refine lv_iload hx hb dX5_divide_337 (lv_at hl 5 rfl) ?_
                                refine lv_if_eq (tgt := 348) hx hb dX5_divide_339 (by decide) (fun c_339 => ?_) (fun c_339 => ?_)
                                · replace hr := hr.trans (if_pos c_339)
                                  refine lv_lload hx hb dX5_divide_348 (lv_at hl 1 rfl) ?_
                                  refine ms_7 hx hb hK hI hP hS (show ¬ ((2 : Int32) < 0 ∨ 16 ≤ (2 : Int32).toNatClampNeg) by decide) dX5_divide_350 (fun d19 ed19 H locs hP hS => ?_)
                                  replace hr := hr.trans (bnd_eq ed19)
                                  exact g_endUv (Pic := (fun u => mB D ad ca K u)) (u := d19) hF hQ hr hP hS dX5_divide_351
                                · replace hr := hr.trans (if_neg c_339)
                                  refine lv_lload hx hb dX5_divide_342 (lv_at hl 1 rfl) ?_
                                  refine lv_lneg hx hb dX5_divide_344 ?_
                                  refine lv_goto (tgt := 350) hx hb dX5_divide_345 (by decide) ?_
                                  refine ms_7 hx hb hK hI hP hS (show ¬ ((2 : Int32) < 0 ∨ 16 ≤ (2 : Int32).toNatClampNeg) by decide) dX5_divide_350 (fun d20 ed20 H locs hP hS => ?_)
                                  replace hr := hr.trans (bnd_eq ed20)
                                  exact g_endUv (Pic := (fun u => mB D ad ca K u)) (u := d20) hF hQ hr hP hS dX5_divide_351
                              replace hr := ep17
                              refine lv_if_eq (tgt := 329) hx hb dX5_divide_320 (by decide) (fun c_320 => ?_) (fun c_320 => ?_)
                              · replace hr := hr.trans (if_pos c_320)
                                refine lv_lload hx hb dX5_divide_329 (lv_at hl 2 rfl) ?_
                                subst hr
                                exact kp17 _ _ ls hP hS (lv_sub hl [0, 1, 2, 3, 4, 5, 6, 7, 8, 9, 10, 11] rfl)
                              · replace hr := hr.trans (if_neg c_320)
                                refine lv_lload hx hb dX5_divide_323 (lv_at hl 2 rfl) ?_
                                refine lv_lneg hx hb dX5_divide_325 ?_
                                refine lv_goto (tgt := 331) hx hb dX5_divide_326 (by decide) ?_
                                subst hr
                                exact kp17 _ _ ls hP hS (lv_sub hl [0, 1, 2, 3, 4, 5, 6, 7, 8, 9, 10, 11] rfl)
                            · replace hr := hr.trans (if_neg c_302)
                              refine lv_aload_n hx hb dX5_divide_306 rfl (lv_at hl 9 rfl) ?_
                              refine lv_iconst (v := (5 : Int32)) hx hb dX5_divide_307 ic_5 ?_
                              refine lv_lconst (v := (0 : Int64)) hx hb dX5_divide_308 lc_0 ?_
                              obtain ⟨g21, eg21⟩ : ∃ z, z = m_stopWith (5 : Int32) (0 : Int64) dl186 := ⟨_, rfl⟩
                              replace hr := hr.trans (bnd_eq eg21)
                              refine g_UV0 (As := [.int (5 : Int32), .long (0 : Int64)]) (rest := []) hC (m_X5_stopWith hI (K := K) (d := dl186) (5 : Int32) (0 : Int64) g21 eg21) (cwV 2 hts cw_X5_180 rfl rfl rfl hd_X5_stopWith ⟨Nat.le_of_ble_eq_true rfl, Nat.le_of_ble_eq_true rfl⟩) mKst (va_recv hK hP (ci := 5) (q0 := 0) rfl rfl) hP hKp ⟨Nat.zero_le _, Nat.zero_le _⟩ hS (fun _ h => h) rfl hl.1 rfl (Nat.le_of_ble_eq_true rfl) dX5_divide_309 (fun H locs hP hS => ?_)
                              have hP : va_P D xcl (MW ad ca K g21) H := hP
                              exact g_endUv (Pic := (fun u => mB D ad ca K u)) (u := g21) hF hQ hr hP hS dX5_divide_312
                          · replace hr := hr.trans (if_neg c_282)
                            refine lv_ldc2 hx hb hown (hts _ q923) dX5_divide_285 ?_
                            refine lv_lload hx hb dX5_divide_288 (lv_at hl 2 rfl) ?_
                            refine g_RS (As := [.long (-9223372036854775808 : Int64), .long w186_13]) (rest := []) hC (m_X5_below (-9223372036854775808 : Int64) w186_13 _ rfl) (va_cwS 2 hts cw_X5_233 rfl rfl rfl hd_X5_below ⟨Nat.le_of_ble_eq_true rfl, Nat.le_of_ble_eq_true rfl⟩) g_Kst0 trivial trivial ⟨Nat.zero_le _, Nat.zero_le _⟩ rfl hl.1 rfl (Nat.le_of_ble_eq_true rfl) dX5_divide_290 ?_
                            refine lv_if_eq (tgt := 313) hx hb dX5_divide_293 (by decide) (fun c_293 => ?_) (fun c_293 => ?_)
                            · replace hr := hr.trans (if_pos c_293)
                              refine lv_aload_n hx hb dX5_divide_313 rfl (lv_at hl 9 rfl) ?_
                              refine mg_0_16 hx hb hts hown hK hP (hts _ q687) dX5_divide_314 ?_
                              refine lv_iconst (v := (0 : Int32)) hx hb dX5_divide_317 ic_0 ?_
                              refine lv_iload hx hb dX5_divide_318 (lv_at hl 4 rfl) ?_
                              obtain ⟨p22, ep22⟩ : ∃ z : Int64, z = (if (b2i p7) = 0 then w186_13 else (-w186_13)) := ⟨_, rfl⟩
                              replace hr := hr.trans (bnd_eq ep22)
                              have kp22 : ∀ (H : Heap) (locs : List Loc) (ls : Array Slot), va_P D xcl (MW ad ca K dl186) H → va_S (mA ad) s.heap H locs → lv_has ls 20 [(17, .int w186_17), (15, .long w186_15), (13, .long w186_13), (11, .long p12), (10, .int (b2i p7)), (9, .int (b2i p6)), (7, .long p8.1), (5, .long p8.2), (3, .long g1.1), (0, .ref (ad 0)), (1, .int (b2i sg)), (2, .int sz)] → W p l e rm_X5_divide s m args below meth c H locs 0 0 Q (F0 m 331 ls [.long p22, .int (0 : Int32), .ref (ad 7)]) := by
                                intro H locs ls hP hS hl
                                refine ms_7 hx hb hK hI hP hS (show ¬ ((0 : Int32) < 0 ∨ 16 ≤ (0 : Int32).toNatClampNeg) by decide) dX5_divide_331 (fun d23 ed23 H locs hP hS => ?_)
                                replace hr := hr.trans (bnd_eq ed23)
                                refine lv_aload_n hx hb dX5_divide_332 rfl (lv_at hl 9 rfl) ?_
                                refine mg_0_16 hx hb hts hown hK hP (hts _ q687) dX5_divide_333 ?_
                                refine lv_iconst (v := (2 : Int32)) hx hb dX5_divide_336 ic_2 ?_
                                refine lv_iload hx hb dX5_divide_337 (lv_at hl 5 rfl) ?_
                                refine lv_if_eq (tgt := 348) hx hb dX5_divide_339 (by decide) (fun c_339 => ?_) (fun c_339 => ?_)
                                · replace hr := hr.trans (if_pos c_339)
                                  refine lv_lload hx hb dX5_divide_348 (lv_at hl 1 rfl) ?_
                                  refine ms_7 hx hb hK hI hP hS (show ¬ ((2 : Int32) < 0 ∨ 16 ≤ (2 : Int32).toNatClampNeg) by decide) dX5_divide_350 (fun d24 ed24 H locs hP hS => ?_)
                                  replace hr := hr.trans (bnd_eq ed24)
                                  exact g_endUv (Pic := (fun u => mB D ad ca K u)) (u := d24) hF hQ hr hP hS dX5_divide_351
                                · replace hr := hr.trans (if_neg c_339)
                                  refine lv_lload hx hb dX5_divide_342 (lv_at hl 1 rfl) ?_
                                  refine lv_lneg hx hb dX5_divide_344 ?_
                                  refine lv_goto (tgt := 350) hx hb dX5_divide_345 (by decide) ?_
                                  refine ms_7 hx hb hK hI hP hS (show ¬ ((2 : Int32) < 0 ∨ 16 ≤ (2 : Int32).toNatClampNeg) by decide) dX5_divide_350 (fun d25 ed25 H locs hP hS => ?_)
                                  replace hr := hr.trans (bnd_eq ed25)
                                  exact g_endUv (Pic := (fun u => mB D ad ca K u)) (u := d25) hF hQ hr hP hS dX5_divide_351
                              replace hr := ep22
                              refine lv_if_eq (tgt := 329) hx hb dX5_divide_320 (by decide) (fun c_320 => ?_) (fun c_320 => ?_)
                              · replace hr := hr.trans (if_pos c_320)
                                refine lv_lload hx hb dX5_divide_329 (lv_at hl 2 rfl) ?_
                                subst hr
                                exact kp22 _ _ ls hP hS (lv_sub hl [0, 1, 2, 3, 4, 5, 6, 7, 8, 9, 10, 11] rfl)
                              · replace hr := hr.trans (if_neg c_320)
                                refine lv_lload hx hb dX5_divide_323 (lv_at hl 2 rfl) ?_
                                refine lv_lneg hx hb dX5_divide_325 ?_
                                refine lv_goto (tgt := 331) hx hb dX5_divide_326 (by decide) ?_
                                subst hr
                                exact kp22 _ _ ls hP hS (lv_sub hl [0, 1, 2, 3, 4, 5, 6, 7, 8, 9, 10, 11] rfl)
                            · replace hr := hr.trans (if_neg c_293)
                              refine lv_goto (tgt := 306) hx hb dX5_divide_296 (by decide) ?_
                              refine lv_aload_n hx hb dX5_divide_306 rfl (lv_at hl 9 rfl) ?_
                              refine lv_iconst (v := (5 : Int32)) hx hb dX5_divide_307 ic_5 ?_
                              refine lv_lconst (v := (0 : Int64)) hx hb dX5_divide_308 lc_0 ?_
                              obtain ⟨g26, eg26⟩ : ∃ z, z = m_stopWith (5 : Int32) (0 : Int64) dl186 := ⟨_, rfl⟩
                              replace hr := hr.trans (bnd_eq eg26)
                              refine g_UV0 (As := [.int (5 : Int32), .long (0 : Int64)]) (rest := []) hC (m_X5_stopWith hI (K := K) (d := dl186) (5 : Int32) (0 : Int64) g26 eg26) (cwV 2 hts cw_X5_180 rfl rfl rfl hd_X5_stopWith ⟨Nat.le_of_ble_eq_true rfl, Nat.le_of_ble_eq_true rfl⟩) mKst (va_recv hK hP (ci := 5) (q0 := 0) rfl rfl) hP hKp ⟨Nat.zero_le _, Nat.zero_le _⟩ hS (fun _ h => h) rfl hl.1 rfl (Nat.le_of_ble_eq_true rfl) dX5_divide_309 (fun H locs hP hS => ?_)
                              have hP : va_P D xcl (MW ad ca K g26) H := hP
                              exact g_endUv (Pic := (fun u => mB D ad ca K u)) (u := g26) hF hQ hr hP hS dX5_divide_312
                      · replace hr := hr.trans (if_neg c_188)
                        refine lv_lload hx hb dX5_divide_191 (lv_at hl 1 rfl) ?_
                        refine lv_lconst (v := (0 : Int64)) hx hb dX5_divide_193 lc_0 ?_
                        obtain ⟨p27, ep27⟩ : ∃ z : Bool, z = (if (0 : Int64) ≤ w186_15 then false else true) := ⟨_, rfl⟩
                        replace hr := hr.trans (bnd_eq ep27)
                        have kp27 : ∀ (H : Heap) (locs : List Loc) (ls : Array Slot), va_P D xcl (MW ad ca K dl186) H → va_S (mA ad) s.heap H locs → lv_has ls 20 [(17, .int w186_17), (15, .long w186_15), (13, .long w186_13), (11, .long p12), (10, .int (b2i p7)), (9, .int (b2i p6)), (7, .long p8.1), (5, .long p8.2), (3, .long g1.1), (0, .ref (ad 0)), (1, .int (b2i sg)), (2, .int sz)] → W p l e rm_X5_divide s m args below meth c H locs 0 0 Q (F0 m 203 ls [.int (b2i p27)]) := by
                          intro H locs ls hP hS hl
                          refine lv_istore (lv' := [(18, .int (b2i p27)), (17, .int w186_17), (15, .long w186_15), (13, .long w186_13), (11, .long p12), (10, .int (b2i p7)), (9, .int (b2i p6)), (7, .long p8.1), (5, .long p8.2), (3, .long g1.1), (0, .ref (ad 0)), (1, .int (b2i sg)), (2, .int sz)]) hx hb dX5_divide_203 hl (by decide) rfl (fun ls hl => ?_)
                          refine lv_lload hx hb dX5_divide_205 (lv_at hl 2 rfl) ?_
                          refine lv_iconst (v := (1 : Int32)) hx hb dX5_divide_207 ic_1 ?_
                          refine lv_lshl (v := (lshl_ w186_15 (1 : Int32))) hx hb dX5_divide_208 rfl ?_
                          refine lv_lload hx hb dX5_divide_209 (lv_at hl 7 rfl) ?_
                          refine lv_iload hx hb dX5_divide_211 (lv_at hl 1 rfl) ?_
                          refine lv_lushr (v := (lushr_ p8.1 w186_17)) hx hb dX5_divide_213 rfl ?_
                          refine lv_lconst (v := (1 : Int64)) hx hb dX5_divide_214 lc_1 ?_
                          refine lv_land hx hb dX5_divide_215 ?_
                          refine lv_lor hx hb dX5_divide_216 ?_
                          refine lv_topl (fun v28 ev28 => ?_)
                          replace hr := hr.trans (bnd_eq ev28)
                          refine lv_lstore (lv' := [(15, .long v28), (18, .int (b2i p27)), (17, .int w186_17), (13, .long w186_13), (11, .long p12), (10, .int (b2i p7)), (9, .int (b2i p6)), (7, .long p8.1), (5, .long p8.2), (3, .long g1.1), (0, .ref (ad 0)), (1, .int (b2i sg)), (2, .int sz)]) hx hb dX5_divide_217 hl (by decide) rfl (fun ls hl => ?_)
                          refine lv_iload hx hb dX5_divide_219 (lv_at hl 1 rfl) ?_
                          obtain ⟨p29, ep29⟩ : ∃ z : Bool, z = (if (b2i p27) = 0 then (if (b2i (m_below v28 p12)) = 0 then true else false) else true) := ⟨_, rfl⟩
                          replace hr := hr.trans (bnd_eq ep29)
                          have kp29 : ∀ (H : Heap) (locs : List Loc) (ls : Array Slot), va_P D xcl (MW ad ca K dl186) H → va_S (mA ad) s.heap H locs → lv_has ls 20 [(15, .long v28), (18, .int (b2i p27)), (17, .int w186_17), (13, .long w186_13), (11, .long p12), (10, .int (b2i p7)), (9, .int (b2i p6)), (7, .long p8.1), (5, .long p8.2), (3, .long g1.1), (0, .ref (ad 0)), (1, .int (b2i sg)), (2, .int sz)] → W p l e rm_X5_divide s m args below meth c H locs 0 0 Q (F0 m 239 ls [.int (b2i p29)]) := by
                            intro H locs ls hP hS hl
                            refine lv_istore (lv' := [(19, .int (b2i p29)), (15, .long v28), (18, .int (b2i p27)), (17, .int w186_17), (13, .long w186_13), (11, .long p12), (10, .int (b2i p7)), (9, .int (b2i p6)), (7, .long p8.1), (5, .long p8.2), (3, .long g1.1), (0, .ref (ad 0)), (1, .int (b2i sg)), (2, .int sz)]) hx hb dX5_divide_239 hl (by decide) rfl (fun ls hl => ?_)
                            refine lv_iload hx hb dX5_divide_241 (lv_at hl 0 rfl) ?_
                            obtain ⟨p30, ep30⟩ : ∃ z : Int64, z = (if (b2i p29) = 0 then v28 else (bnd (α := Int64) ((v28 - p12)) fun v31 => v31)) := ⟨_, rfl⟩
                            replace hr := hr.trans (bnd_eq ep30)
                            have kp30 : ∀ (H : Heap) (locs : List Loc) (ls : Array Slot), va_P D xcl (MW ad ca K dl186) H → va_S (mA ad) s.heap H locs → lv_has ls 20 [(19, .int (b2i p29)), (15, .long p30), (18, .int (b2i p27)), (17, .int w186_17), (13, .long w186_13), (11, .long p12), (10, .int (b2i p7)), (9, .int (b2i p6)), (7, .long p8.1), (5, .long p8.2), (3, .long g1.1), (0, .ref (ad 0)), (1, .int (b2i sg)), (2, .int sz)] → W p l e rm_X5_divide s m args below meth c H locs 0 0 Q (F0 m 253 ls []) := by
                              intro H locs ls hP hS hl
                              refine lv_lload hx hb dX5_divide_253 (lv_at hl 4 rfl) ?_
                              refine lv_iconst (v := (1 : Int32)) hx hb dX5_divide_255 ic_1 ?_
                              refine lv_lshl (v := (lshl_ w186_13 (1 : Int32))) hx hb dX5_divide_256 rfl ?_
                              refine lv_iload hx hb dX5_divide_257 (lv_at hl 0 rfl) ?_
                              refine lv_if_eq (tgt := 266) hx hb dX5_divide_259 (by decide) (fun c_259 => ?_) (fun c_259 => ?_)
                              · replace hr := hr.trans (if_pos c_259)
                                refine lv_lconst (v := (0 : Int64)) hx hb dX5_divide_266 lc_0 ?_
                                refine lv_lor hx hb dX5_divide_267 ?_
                                refine lv_topl (fun v32 ev32 => ?_)
                                replace hr := hr.trans (bnd_eq ev32)
                                refine lv_lstore (lv' := [(13, .long v32), (19, .int (b2i p29)), (15, .long p30), (18, .int (b2i p27)), (17, .int w186_17), (11, .long p12), (10, .int (b2i p7)), (9, .int (b2i p6)), (7, .long p8.1), (5, .long p8.2), (3, .long g1.1), (0, .ref (ad 0)), (1, .int (b2i sg)), (2, .int sz)]) hx hb dX5_divide_268 hl (by decide) rfl (fun ls hl => ?_)
                                obtain ⟨v33, ev33⟩ : ∃ z : Int32, z = (w186_17 + (-1 : Int32)) := ⟨_, rfl⟩
                                replace hr := hr.trans (bnd_eq ev33)
                                refine lv_iinc (v := v33) (lv' := [(17, .int v33), (13, .long v32), (19, .int (b2i p29)), (15, .long p30), (18, .int (b2i p27)), (11, .long p12), (10, .int (b2i p7)), (9, .int (b2i p6)), (7, .long p8.1), (5, .long p8.2), (3, .long g1.1), (0, .ref (ad 0)), (1, .int (b2i sg)), (2, .int sz)]) hx hb dX5_divide_270 hl (k := 4) rfl (by rw [ev33, ← ic_m1]) (by decide) rfl (fun ls hl => ?_)
                                refine lv_goto (tgt := 186) hx hb dX5_divide_273 (by decide) ?_
                                exact ih v32 p30 v33 dl186 _ _ ls (mDn_dec c_188 hm ev33) hr hP hS (lv_sub hl [0, 3, 1, 5, 6, 7, 8, 9, 10, 11, 12, 13] rfl)
                              · replace hr := hr.trans (if_neg c_259)
                                refine lv_lconst (v := (1 : Int64)) hx hb dX5_divide_262 lc_1 ?_
                                refine lv_goto (tgt := 267) hx hb dX5_divide_263 (by decide) ?_
                                refine lv_lor hx hb dX5_divide_267 ?_
                                refine lv_topl (fun v34 ev34 => ?_)
                                replace hr := hr.trans (bnd_eq ev34)
                                refine lv_lstore (lv' := [(13, .long v34), (19, .int (b2i p29)), (15, .long p30), (18, .int (b2i p27)), (17, .int w186_17), (11, .long p12), (10, .int (b2i p7)), (9, .int (b2i p6)), (7, .long p8.1), (5, .long p8.2), (3, .long g1.1), (0, .ref (ad 0)), (1, .int (b2i sg)), (2, .int sz)]) hx hb dX5_divide_268 hl (by decide) rfl (fun ls hl => ?_)
                                obtain ⟨v35, ev35⟩ : ∃ z : Int32, z = (w186_17 + (-1 : Int32)) := ⟨_, rfl⟩
                                replace hr := hr.trans (bnd_eq ev35)
                                refine lv_iinc (v := v35) (lv' := [(17, .int v35), (13, .long v34), (19, .int (b2i p29)), (15, .long p30), (18, .int (b2i p27)), (11, .long p12), (10, .int (b2i p7)), (9, .int (b2i p6)), (7, .long p8.1), (5, .long p8.2), (3, .long g1.1), (0, .ref (ad 0)), (1, .int (b2i sg)), (2, .int sz)]) hx hb dX5_divide_270 hl (k := 4) rfl (by rw [ev35, ← ic_m1]) (by decide) rfl (fun ls hl => ?_)
                                refine lv_goto (tgt := 186) hx hb dX5_divide_273 (by decide) ?_
                                exact ih v34 p30 v35 dl186 _ _ ls (mDn_dec c_188 hm ev35) hr hP hS (lv_sub hl [0, 3, 1, 5, 6, 7, 8, 9, 10, 11, 12, 13] rfl)
                            replace hr := ep30
                            refine lv_if_eq (tgt := 253) hx hb dX5_divide_243 (by decide) (fun c_243 => ?_) (fun c_243 => ?_)
                            · replace hr := hr.trans (if_pos c_243)
                              subst hr
                              exact kp30 _ _ ls hP hS (lv_sub hl [0, 1, 2, 3, 4, 5, 6, 7, 8, 9, 10, 11, 12, 13] rfl)
                            · replace hr := hr.trans (if_neg c_243)
                              refine lv_lload hx hb dX5_divide_246 (lv_at hl 1 rfl) ?_
                              refine lv_lload hx hb dX5_divide_248 (lv_at hl 5 rfl) ?_
                              refine lv_lsub hx hb dX5_divide_250 ?_
                              refine lv_topl (fun v31 ev31 => ?_)
                              replace hr := hr.trans (bnd_eq ev31)
                              refine lv_lstore (lv' := [(15, .long v31), (19, .int (b2i p29)), (18, .int (b2i p27)), (17, .int w186_17), (13, .long w186_13), (11, .long p12), (10, .int (b2i p7)), (9, .int (b2i p6)), (7, .long p8.1), (5, .long p8.2), (3, .long g1.1), (0, .ref (ad 0)), (1, .int (b2i sg)), (2, .int sz)]) hx hb dX5_divide_251 hl (by decide) rfl (fun ls hl => ?_)
                              subst hr
                              exact kp30 _ _ ls hP hS (lv_sub hl [1, 0, 2, 3, 4, 5, 6, 7, 8, 9, 10, 11, 12, 13] rfl)
                          replace hr := ep29
                          refine lv_if_ne (tgt := 234) hx hb dX5_divide_221 (by decide) (fun c_221 => ?_) (fun c_221 => ?_)
                          · replace hr := hr.trans (if_neg c_221)
                            refine lv_iconst (v := (1 : Int32)) hx hb dX5_divide_234 ic_1 ?_
                            refine lv_goto (tgt := 239) hx hb dX5_divide_235 (by decide) ?_
                            subst hr
                            exact kp29 _ _ ls hP hS (lv_sub hl [0, 1, 2, 3, 4, 5, 6, 7, 8, 9, 10, 11, 12] rfl)
                          · replace hr := hr.trans (if_pos c_221)
                            refine lv_lload hx hb dX5_divide_224 (lv_at hl 0 rfl) ?_
                            refine lv_lload hx hb dX5_divide_226 (lv_at hl 4 rfl) ?_
                            refine g_RS (As := [.long v28, .long p12]) (rest := []) hC (m_X5_below v28 p12 _ rfl) (va_cwS 2 hts cw_X5_233 rfl rfl rfl hd_X5_below ⟨Nat.le_of_ble_eq_true rfl, Nat.le_of_ble_eq_true rfl⟩) g_Kst0 trivial trivial ⟨Nat.zero_le _, Nat.zero_le _⟩ rfl hl.1 rfl (Nat.le_of_ble_eq_true rfl) dX5_divide_228 ?_
                            refine lv_if_ne (tgt := 238) hx hb dX5_divide_231 (by decide) (fun c_231 => ?_) (fun c_231 => ?_)
                            · replace hr := hr.trans (if_neg c_231)
                              refine lv_iconst (v := (0 : Int32)) hx hb dX5_divide_238 ic_0 ?_
                              subst hr
                              exact kp29 _ _ ls hP hS (lv_sub hl [0, 1, 2, 3, 4, 5, 6, 7, 8, 9, 10, 11, 12] rfl)
                            · replace hr := hr.trans (if_pos c_231)
                              refine lv_iconst (v := (1 : Int32)) hx hb dX5_divide_234 ic_1 ?_
                              refine lv_goto (tgt := 239) hx hb dX5_divide_235 (by decide) ?_
                              subst hr
                              exact kp29 _ _ ls hP hS (lv_sub hl [0, 1, 2, 3, 4, 5, 6, 7, 8, 9, 10, 11, 12] rfl)
                        replace hr := ep27
                        refine lq_ge (tgt := 202) hx hb dX5_divide_194 dX5_divide_195 (by decide) (fun c_194 => ?_) (fun c_194 => ?_)
                        · replace hr := hr.trans (if_pos c_194)
                          refine lv_iconst (v := (0 : Int32)) hx hb dX5_divide_202 ic_0 ?_
                          subst hr
                          exact kp27 _ _ ls hP hS (lv_sub hl [0, 1, 2, 3, 4, 5, 6, 7, 8, 9, 10, 11] rfl)
                        · replace hr := hr.trans (if_neg c_194)
                          refine lv_iconst (v := (1 : Int32)) hx hb dX5_divide_198 ic_1 ?_
                          refine lv_goto (tgt := 203) hx hb dX5_divide_199 (by decide) ?_
                          subst hr
                          exact kp27 _ _ ls hP hS (lv_sub hl [0, 1, 2, 3, 4, 5, 6, 7, 8, 9, 10, 11] rfl)
                  exact lp186 (mDn (63 : Int32) + 1) (0 : Int64) p8.2 (63 : Int32) p2 _ _ ls (Nat.lt_succ_self _) hr hP hS (lv_sub hl [0, 1, 2, 3, 4, 5, 6, 7, 8, 9, 10, 11] rfl)
                · replace hr := hr.trans (if_pos c_165)
                  refine lv_aload_n hx hb dX5_divide_168 rfl (lv_at hl 6 rfl) ?_
                  refine lv_iconst (v := (5 : Int32)) hx hb dX5_divide_169 ic_5 ?_
                  refine lv_lconst (v := (0 : Int64)) hx hb dX5_divide_170 lc_0 ?_
                  obtain ⟨g36, eg36⟩ : ∃ z, z = m_stopWith (5 : Int32) (0 : Int64) p2 := ⟨_, rfl⟩
                  replace hr := hr.trans (bnd_eq eg36)
                  refine g_UV0 (As := [.int (5 : Int32), .long (0 : Int64)]) (rest := []) hC (m_X5_stopWith hI (K := K) (d := p2) (5 : Int32) (0 : Int64) g36 eg36) (cwV 2 hts cw_X5_180 rfl rfl rfl hd_X5_stopWith ⟨Nat.le_of_ble_eq_true rfl, Nat.le_of_ble_eq_true rfl⟩) mKst (va_recv hK hP (ci := 5) (q0 := 0) rfl rfl) hP hKp ⟨Nat.zero_le _, Nat.zero_le _⟩ hS (fun _ h => h) rfl hl.1 rfl (Nat.le_of_ble_eq_true rfl) dX5_divide_171 (fun H locs hP hS => ?_)
                  have hP : va_P D xcl (MW ad ca K g36) H := hP
                  exact g_endUv (Pic := (fun u => mB D ad ca K u)) (u := g36) hF hQ hr hP hS dX5_divide_174
              replace hr := ep12
              refine lv_if_eq (tgt := 155) hx hb dX5_divide_141 (by decide) (fun c_141 => ?_) (fun c_141 => ?_)
              · replace hr := hr.trans (if_pos c_141)
                refine lv_lload_n hx hb dX5_divide_155 rfl (lv_at hl 4 rfl) ?_
                subst hr
                exact kp12 _ _ ls hP hS (lv_sub hl [0, 1, 2, 3, 4, 5, 6, 7] rfl)
              · replace hr := hr.trans (if_neg c_141)
                refine lv_lload_n hx hb dX5_divide_144 rfl (lv_at hl 4 rfl) ?_
                refine lv_lconst (v := (0 : Int64)) hx hb dX5_divide_145 lc_0 ?_
                refine lq_ge (tgt := 155) hx hb dX5_divide_146 dX5_divide_147 (by decide) (fun c_146 => ?_) (fun c_146 => ?_)
                · replace hr := hr.trans (if_pos c_146)
                  refine lv_lload_n hx hb dX5_divide_155 rfl (lv_at hl 4 rfl) ?_
                  subst hr
                  exact kp12 _ _ ls hP hS (lv_sub hl [0, 1, 2, 3, 4, 5, 6, 7] rfl)
                · replace hr := hr.trans (if_neg c_146)
                  refine lv_lload_n hx hb dX5_divide_150 rfl (lv_at hl 4 rfl) ?_
                  refine lv_lneg hx hb dX5_divide_151 ?_
                  refine lv_goto (tgt := 156) hx hb dX5_divide_152 (by decide) ?_
                  subst hr
                  exact kp12 _ _ ls hP hS (lv_sub hl [0, 1, 2, 3, 4, 5, 6, 7] rfl)
            replace hr := ep8
            refine lv_if_eq (tgt := 140) hx hb dX5_divide_111 (by decide) (fun c_111 => ?_) (fun c_111 => ?_)
            · replace hr := hr.trans (if_pos c_111)
              subst hr
              exact kp8 _ _ ls hP hS (lv_sub hl [0, 1, 2, 3, 4, 5, 6, 7] rfl)
            · replace hr := hr.trans (if_neg c_111)
              refine lv_lload hx hb dX5_divide_114 (lv_at hl 2 rfl) ?_
              refine lv_lneg hx hb dX5_divide_116 ?_
              refine lv_topl (fun v9 ev9 => ?_)
              replace hr := hr.trans (bnd_eq ev9)
              refine lv_lstore (lv' := [(7, .long v9), (10, .int (b2i p7)), (9, .int (b2i p6)), (5, .long v4), (3, .long g1.1), (0, .ref (ad 0)), (1, .int (b2i sg)), (2, .int sz)]) hx hb dX5_divide_117 hl (by decide) rfl (fun ls hl => ?_)
              refine lv_lload hx hb dX5_divide_119 (lv_at hl 3 rfl) ?_
              refine lv_ldc2 hx hb hown (hts _ q963) dX5_divide_121 ?_
              refine lv_lxor hx hb dX5_divide_124 ?_
              refine lv_lload hx hb dX5_divide_125 (lv_at hl 0 rfl) ?_
              refine lv_lconst (v := (0 : Int64)) hx hb dX5_divide_127 lc_0 ?_
              refine lq_ne (tgt := 136) hx hb dX5_divide_128 dX5_divide_129 (by decide) (fun c_128 => ?_) (fun c_128 => ?_)
              · replace hr := hr.trans (if_neg c_128)
                refine lv_lconst (v := (0 : Int64)) hx hb dX5_divide_136 lc_0 ?_
                refine lv_ladd hx hb dX5_divide_137 ?_
                refine lv_topl (fun v10 ev10 => ?_)
                replace hr := hr.trans (bnd_eq ev10)
                refine lv_lstore (lv' := [(5, .long v10), (7, .long v9), (10, .int (b2i p7)), (9, .int (b2i p6)), (3, .long g1.1), (0, .ref (ad 0)), (1, .int (b2i sg)), (2, .int sz)]) hx hb dX5_divide_138 hl (by decide) rfl (fun ls hl => ?_)
                subst hr
                exact kp8 _ _ ls hP hS (lv_sub hl [2, 3, 1, 0, 4, 5, 6, 7] rfl)
              · replace hr := hr.trans (if_pos c_128)
                refine lv_lconst (v := (1 : Int64)) hx hb dX5_divide_132 lc_1 ?_
                refine lv_goto (tgt := 137) hx hb dX5_divide_133 (by decide) ?_
                refine lv_ladd hx hb dX5_divide_137 ?_
                refine lv_topl (fun v11 ev11 => ?_)
                replace hr := hr.trans (bnd_eq ev11)
                refine lv_lstore (lv' := [(5, .long v11), (7, .long v9), (10, .int (b2i p7)), (9, .int (b2i p6)), (3, .long g1.1), (0, .ref (ad 0)), (1, .int (b2i sg)), (2, .int sz)]) hx hb dX5_divide_138 hl (by decide) rfl (fun ls hl => ?_)
                subst hr
                exact kp8 _ _ ls hP hS (lv_sub hl [2, 3, 1, 0, 4, 5, 6, 7] rfl)
          replace hr := ep7
          refine lv_if_eq (tgt := 106) hx hb dX5_divide_83 (by decide) (fun c_83 => ?_) (fun c_83 => ?_)
          · replace hr := hr.trans (if_pos c_83)
            refine lv_iconst (v := (0 : Int32)) hx hb dX5_divide_106 ic_0 ?_
            subst hr
            exact kp7 _ _ ls hP hS (lv_sub hl [0, 1, 2, 3, 4, 5, 6] rfl)
          · replace hr := hr.trans (if_neg c_83)
            refine lv_iload hx hb dX5_divide_86 (lv_at hl 0 rfl) ?_
            refine lv_lload_n hx hb dX5_divide_88 rfl (lv_at hl 3 rfl) ?_
            refine lv_lconst (v := (0 : Int64)) hx hb dX5_divide_89 lc_0 ?_
            refine lq_ge (tgt := 98) hx hb dX5_divide_90 dX5_divide_91 (by decide) (fun c_90 => ?_) (fun c_90 => ?_)
            · replace hr := hr.trans (if_pos c_90)
              refine lv_iconst (v := (0 : Int32)) hx hb dX5_divide_98 ic_0 ?_
              refine lv_icmp_eq (tgt := 106) hx hb dX5_divide_99 (by decide) (fun c_99 => ?_) (fun c_99 => ?_)
              · replace hr := hr.trans (if_pos c_99)
                refine lv_iconst (v := (0 : Int32)) hx hb dX5_divide_106 ic_0 ?_
                subst hr
                exact kp7 _ _ ls hP hS (lv_sub hl [0, 1, 2, 3, 4, 5, 6] rfl)
              · replace hr := hr.trans (if_neg c_99)
                refine lv_iconst (v := (1 : Int32)) hx hb dX5_divide_102 ic_1 ?_
                refine lv_goto (tgt := 107) hx hb dX5_divide_103 (by decide) ?_
                subst hr
                exact kp7 _ _ ls hP hS (lv_sub hl [0, 1, 2, 3, 4, 5, 6] rfl)
            · replace hr := hr.trans (if_neg c_90)
              refine lv_iconst (v := (1 : Int32)) hx hb dX5_divide_94 ic_1 ?_
              refine lv_goto (tgt := 99) hx hb dX5_divide_95 (by decide) ?_
              refine lv_icmp_eq (tgt := 106) hx hb dX5_divide_99 (by decide) (fun c_99 => ?_) (fun c_99 => ?_)
              · replace hr := hr.trans (if_pos c_99)
                refine lv_iconst (v := (0 : Int32)) hx hb dX5_divide_106 ic_0 ?_
                subst hr
                exact kp7 _ _ ls hP hS (lv_sub hl [0, 1, 2, 3, 4, 5, 6] rfl)
              · replace hr := hr.trans (if_neg c_99)
                refine lv_iconst (v := (1 : Int32)) hx hb dX5_divide_102 ic_1 ?_
                refine lv_goto (tgt := 107) hx hb dX5_divide_103 (by decide) ?_
                subst hr
                exact kp7 _ _ ls hP hS (lv_sub hl [0, 1, 2, 3, 4, 5, 6] rfl)
        replace hr := ep6
        refine lv_if_eq (tgt := 79) hx hb dX5_divide_65 (by decide) (fun c_65 => ?_) (fun c_65 => ?_)
        · replace hr := hr.trans (if_pos c_65)
          refine lv_iconst (v := (0 : Int32)) hx hb dX5_divide_79 ic_0 ?_
          subst hr
          exact kp6 _ _ ls hP hS (lv_sub hl [0, 1, 2, 3, 4, 5] rfl)
        · replace hr := hr.trans (if_neg c_65)
          refine lv_lload hx hb dX5_divide_68 (lv_at hl 1 rfl) ?_
          refine lv_lconst (v := (0 : Int64)) hx hb dX5_divide_70 lc_0 ?_
          refine lq_ge (tgt := 79) hx hb dX5_divide_71 dX5_divide_72 (by decide) (fun c_71 => ?_) (fun c_71 => ?_)
          · replace hr := hr.trans (if_pos c_71)
            refine lv_iconst (v := (0 : Int32)) hx hb dX5_divide_79 ic_0 ?_
            subst hr
            exact kp6 _ _ ls hP hS (lv_sub hl [0, 1, 2, 3, 4, 5] rfl)
          · replace hr := hr.trans (if_neg c_71)
            refine lv_iconst (v := (1 : Int32)) hx hb dX5_divide_75 ic_1 ?_
            refine lv_goto (tgt := 80) hx hb dX5_divide_76 (by decide) ?_
            subst hr
            exact kp6 _ _ ls hP hS (lv_sub hl [0, 1, 2, 3, 4, 5] rfl)
      · replace hr := hr.trans (if_neg c_37)
        refine lv_aload_n hx hb dX5_divide_40 rfl (lv_at hl 1 rfl) ?_
        refine lv_iload_n hx hb dX5_divide_41 rfl (lv_at hl 2 rfl) ?_
        refine lv_iload_n hx hb dX5_divide_42 rfl (lv_at hl 3 rfl) ?_
        refine lv_lload_n hx hb dX5_divide_43 rfl (lv_at hl 0 rfl) ?_
        obtain ⟨g37, eg37⟩ : ∃ z, z = m_divideSmall sg sz g1.1 p2 := ⟨_, rfl⟩
        replace hr := hr.trans (bnd_eq eg37)
        refine g_UV0 (As := [.int (b2i sg), .int sz, .long g1.1]) (rest := []) hC (m_X5_divideSmall hI (K := K) (d := p2) sg sz g1.1 g37 eg37 (dv_nz2 hsg eg1 ep2 c_30)) (cwV 3 hts cw_X5_290 rfl rfl rfl hd_X5_divideSmall ⟨Nat.le_of_ble_eq_true rfl, Nat.le_of_ble_eq_true rfl⟩) mKst (va_recv hK hP (ci := 5) (q0 := 0) rfl rfl) hP hKp ⟨Nat.zero_le _, Nat.zero_le _⟩ hS (fun _ h => h) rfl hl.1 rfl (Nat.le_of_ble_eq_true rfl) dX5_divide_44 (fun H locs hP hS => ?_)
        have hP : va_P D xcl (MW ad ca K g37) H := hP
        exact g_endUv (Pic := (fun u => mB D ad ca K u)) (u := g37) hF hQ hr hP hS dX5_divide_47
    · replace hr := hr.trans (if_neg c_30)
      exact g_endUv (Pic := (fun u => mB D ad ca K u)) (u := p2) hF hQ hr hP hS dX5_divide_33
  replace hr := ep2
  refine lv_if_ne (tgt := 26) hx hb dX5_divide_11 (by decide) (fun c_11 => ?_) (fun c_11 => ?_)
  · replace hr := hr.trans (if_neg c_11)
    subst hr
    exact kp2 _ _ ls hP hS (lv_sub hl [0, 1, 2, 3] rfl)
  · replace hr := hr.trans (if_pos c_11)
    refine lv_lload_n hx hb dX5_divide_14 rfl (lv_at hl 0 rfl) ?_
    refine lv_lconst (v := (0 : Int64)) hx hb dX5_divide_15 lc_0 ?_
    refine lq_ne (tgt := 26) hx hb dX5_divide_16 dX5_divide_17 (by decide) (fun c_16 => ?_) (fun c_16 => ?_)
    · replace hr := hr.trans (if_neg c_16)
      subst hr
      exact kp2 _ _ ls hP hS (lv_sub hl [0, 1, 2, 3] rfl)
    · replace hr := hr.trans (if_pos c_16)
      refine lv_aload_n hx hb dX5_divide_20 rfl (lv_at hl 1 rfl) ?_
      refine lv_iconst (v := (5 : Int32)) hx hb dX5_divide_21 ic_5 ?_
      refine lv_lconst (v := (0 : Int64)) hx hb dX5_divide_22 lc_0 ?_
      obtain ⟨g3, eg3⟩ : ∃ z, z = m_stopWith (5 : Int32) (0 : Int64) g1.2 := ⟨_, rfl⟩
      replace hr := hr.trans (bnd_eq eg3)
      refine g_UV0 (As := [.int (5 : Int32), .long (0 : Int64)]) (rest := []) hC (m_X5_stopWith hI (K := K) (d := g1.2) (5 : Int32) (0 : Int64) g3 eg3) (cwV 2 hts cw_X5_180 rfl rfl rfl hd_X5_stopWith ⟨Nat.le_of_ble_eq_true rfl, Nat.le_of_ble_eq_true rfl⟩) mKst (va_recv hK hP (ci := 5) (q0 := 0) rfl rfl) hP hKp ⟨Nat.zero_le _, Nat.zero_le _⟩ hS (fun _ h => h) rfl hl.1 rfl (Nat.le_of_ble_eq_true rfl) dX5_divide_23 (fun H locs hP hS => ?_)
      have hP : va_P D xcl (MW ad ca K g3) H := hP
      subst hr
      exact kp2 _ _ ls hP hS (lv_sub hl [0, 1, 2, 3] rfl)
def m_product (K : MK) (sz : Int32) (d : MD) : MD := bnd (α := Bool) (if (m_kindAt K (2 : Int32)) = 0 then false else true) fun p1 => bnd (α := Bool) (if (b2i p1) = 0 then false else true) fun p2 => bnd (m_take K (b2i p2) sz d) fun g3 => bnd (α := Int64) ((m_signed g3.1 sz)) fun v4 => bnd (α := Int64 × MD) (if (b2i p1) = 0 then (bnd (m_take K (1 : Int32) sz g3.2) fun g6 => ((m_signed g6.1 sz), g6.2)) else ((km_number K), g3.2)) fun p5 => bnd (α := Int64) ((v4 * p5.1)) fun v7 => bnd (α := Bool) (if sz = (4 : Int32) then (if v7 = ((v7.toInt32).toInt64) then false else true) else (if (m_highSigned v4 p5.1) = (lshr_ v7 (63 : Int32)) then false else true)) fun p8 => bnd (dm_carry_ p8 p5.2) fun d9 => bnd (dm_over_ (dm_carry d9) d9) fun d10 => bnd (m_put K (0 : Int32) sz (m_cut v7 sz) d10) fun g11 => g11
abbrev rm_X5_product : Room := { frames := 4, cells := 0, slots := 0, locals := 99 }
set_option maxHeartbeats 4000000 in
set_option maxRecDepth 100000 in
theorem m_X5_product {l : Launch} {D : va_G} {ad : Nat → Nat} {ca : Nat → ClassId} (hI : mInj ad) {K : MK} {d : MD} (sz : Int32) (RES : MD) (hr : RES = m_product K sz d) (hgd : MGd K) : g_U l yX5_product (ws_ yX5_product cX5_product 9 none) rm_X5_product [.ref (ad 0), .int sz] (mKp D ca) (mB D ad ca K d) none (mB D ad ca K RES) (mA ad) := by
  refine g_ofU (by decide) (Nat.le_of_ble_eq_true rfl) ?_
  intro p e s m args below meth c ls Q hF hB hKp hl hQ
  obtain ⟨hx, hb, -, -, hml, hown, hts⟩ := id hF
  have hown : s.vm.findClass RX5 = some m.cls := hown
  have hC : CallFix p m c cX5_product 9 s args lw_all RX5 := ⟨hx, hb, hml, hown, hts⟩
  have hK : va_K D xcl (mtys ca) s := hKp
  have hP : va_P D xcl (MW ad ca K d) s.heap := hB
  have hS : va_S (mA ad) s.heap s.heap [] := va_S.rf
  have hl : lv_has ls 9 [(0, .ref (ad 0)), (1, .int sz)] := hl
  unfold m_product at hr
  refine lv_aload_n hx hb dX5_product_0 rfl (lv_at hl 0 rfl) ?_
  refine lv_iconst (v := (2 : Int32)) hx hb dX5_product_1 ic_2 ?_
  refine g_RV (As := [.int (2 : Int32)]) (rest := []) hC (m_X5_kindAt (K := K) (d := d) (2 : Int32) _ rfl (show ¬ ((2 : Int32) < 0 ∨ 3 ≤ (2 : Int32).toNatClampNeg) by decide)) (cwV 1 hts cw_X5_194 rfl rfl rfl hd_X5_kindAt ⟨Nat.le_of_ble_eq_true rfl, Nat.le_of_ble_eq_true rfl⟩) mKst (va_recv hK hP (ci := 5) (q0 := 0) rfl rfl) hP hKp ⟨Nat.zero_le _, Nat.zero_le _⟩ rfl hl.1 rfl (Nat.le_of_ble_eq_true rfl) dX5_product_2 ?_
  obtain ⟨p1, ep1⟩ : ∃ z : Bool, z = (if (m_kindAt K (2 : Int32)) = 0 then false else true) := ⟨_, rfl⟩
  replace hr := hr.trans (bnd_eq ep1)
  have kp1 : ∀ (H : Heap) (locs : List Loc) (ls : Array Slot), va_P D xcl (MW ad ca K d) H → va_S (mA ad) s.heap H locs → lv_has ls 9 [(0, .ref (ad 0)), (1, .int sz)] → W p l e rm_X5_product s m args below meth c H locs 0 0 Q (F0 m 13 ls [.int (b2i p1)]) := by
    intro H locs ls hP hS hl
    refine lv_istore_n (lv' := [(2, .int (b2i p1)), (0, .ref (ad 0)), (1, .int sz)]) hx hb dX5_product_13 rfl hl (by decide) rfl (fun ls hl => ?_)
    refine lv_aload_n hx hb dX5_product_14 rfl (lv_at hl 1 rfl) ?_
    refine lv_iload_n hx hb dX5_product_15 rfl (lv_at hl 0 rfl) ?_
    obtain ⟨p2, ep2⟩ : ∃ z : Bool, z = (if (b2i p1) = 0 then false else true) := ⟨_, rfl⟩
    replace hr := hr.trans (bnd_eq ep2)
    have kp2 : ∀ (H : Heap) (locs : List Loc) (ls : Array Slot), va_P D xcl (MW ad ca K d) H → va_S (mA ad) s.heap H locs → lv_has ls 9 [(2, .int (b2i p1)), (0, .ref (ad 0)), (1, .int sz)] → W p l e rm_X5_product s m args below meth c H locs 0 0 Q (F0 m 24 ls [.int (b2i p2), .ref (ad 0)]) := by
      intro H locs ls hP hS hl
      refine lv_iload_n hx hb dX5_product_24 rfl (lv_at hl 2 rfl) ?_
      obtain ⟨g3, eg3⟩ : ∃ z, z = m_take K (b2i p2) sz d := ⟨_, rfl⟩
      replace hr := hr.trans (bnd_eq eg3)
      refine g_UV1 (As := [.int (b2i p2), .int sz]) (rest := []) hC (m_X5_take hI (K := K) (d := d) (b2i p2) sz g3 eg3 (b2i_in3 _) hgd) (cwV 2 hts cw_X5_257 rfl rfl rfl hd_X5_take ⟨Nat.le_of_ble_eq_true rfl, Nat.le_of_ble_eq_true rfl⟩) mKst (va_recv hK hP (ci := 5) (q0 := 0) rfl rfl) hP hKp ⟨Nat.zero_le _, Nat.zero_le _⟩ hS (fun _ h => h) rfl hl.1 rfl (Nat.le_of_ble_eq_true rfl) dX5_product_25 (fun H locs hP hS => ?_)
      have hP : va_P D xcl (MW ad ca K g3.2) H := hP
      refine lv_iload_n hx hb dX5_product_28 rfl (lv_at hl 2 rfl) ?_
      refine g_RS (As := [.long g3.1, .int sz]) (rest := []) hC (m_X5_signed g3.1 sz _ rfl) (va_cwS 2 hts cw_X5_274 rfl rfl rfl hd_X5_signed ⟨Nat.le_of_ble_eq_true rfl, Nat.le_of_ble_eq_true rfl⟩) g_Kst0 trivial trivial ⟨Nat.zero_le _, Nat.zero_le _⟩ rfl hl.1 rfl (Nat.le_of_ble_eq_true rfl) dX5_product_29 ?_
      refine lv_topl (fun v4 ev4 => ?_)
      replace hr := hr.trans (bnd_eq ev4)
      refine lv_lstore_n (lv' := [(3, .long v4), (2, .int (b2i p1)), (0, .ref (ad 0)), (1, .int sz)]) hx hb dX5_product_32 rfl hl (by decide) rfl (fun ls hl => ?_)
      refine lv_iload_n hx hb dX5_product_33 rfl (lv_at hl 1 rfl) ?_
      obtain ⟨p5, ep5⟩ : ∃ z : Int64 × MD, z = (if (b2i p1) = 0 then (bnd (m_take K (1 : Int32) sz g3.2) fun g6 => ((m_signed g6.1 sz), g6.2)) else ((km_number K), g3.2)) := ⟨_, rfl⟩
      replace hr := hr.trans (bnd_eq ep5)
      have kp5 : ∀ (H : Heap) (locs : List Loc) (ls : Array Slot), va_P D xcl (MW ad ca K p5.2) H → va_S (mA ad) s.heap H locs → lv_has ls 9 [(3, .long v4), (2, .int (b2i p1)), (0, .ref (ad 0)), (1, .int sz)] → W p l e rm_X5_product s m args below meth c H locs 0 0 Q (F0 m 54 ls [.long p5.1]) := by
        intro H locs ls hP hS hl
        refine lv_lstore (lv' := [(5, .long p5.1), (3, .long v4), (2, .int (b2i p1)), (0, .ref (ad 0)), (1, .int sz)]) hx hb dX5_product_54 hl (by decide) rfl (fun ls hl => ?_)
        refine lv_lload_n hx hb dX5_product_56 rfl (lv_at hl 1 rfl) ?_
        refine lv_lload hx hb dX5_product_57 (lv_at hl 0 rfl) ?_
        refine lv_lmul hx hb dX5_product_59 ?_
        refine lv_topl (fun v7 ev7 => ?_)
        replace hr := hr.trans (bnd_eq ev7)
        refine lv_lstore (lv' := [(7, .long v7), (5, .long p5.1), (3, .long v4), (2, .int (b2i p1)), (0, .ref (ad 0)), (1, .int sz)]) hx hb dX5_product_60 hl (by decide) rfl (fun ls hl => ?_)
        refine lv_aload_n hx hb dX5_product_62 rfl (lv_at hl 4 rfl) ?_
        refine lv_iload_n hx hb dX5_product_63 rfl (lv_at hl 5 rfl) ?_
        refine lv_iconst (v := (4 : Int32)) hx hb dX5_product_64 ic_4 ?_
        obtain ⟨p8, ep8⟩ : ∃ z : Bool, z = (if sz = (4 : Int32) then (if v7 = ((v7.toInt32).toInt64) then false else true) else (if (m_highSigned v4 p5.1) = (lshr_ v7 (63 : Int32)) then false else true)) := ⟨_, rfl⟩
        replace hr := hr.trans (bnd_eq ep8)
        have kp8 : ∀ (H : Heap) (locs : List Loc) (ls : Array Slot), va_P D xcl (MW ad ca K p5.2) H → va_S (mA ad) s.heap H locs → lv_has ls 9 [(7, .long v7), (5, .long p5.1), (3, .long v4), (2, .int (b2i p1)), (0, .ref (ad 0)), (1, .int sz)] → W p l e rm_X5_product s m args below meth c H locs 0 0 Q (F0 m 106 ls [.int (b2i p8), .ref (ad 0)]) := by
          intro H locs ls hP hS hl
          refine mp_0_21 (v := p8) hx hb hts hown hK hI hP hS (hts _ q692) dX5_product_106 (fun d9 ed9 H locs hP hS => ?_)
          replace hr := hr.trans (bnd_eq ed9)
          refine lv_aload_n hx hb dX5_product_109 rfl (lv_at hl 4 rfl) ?_
          refine lv_aload_n hx hb dX5_product_110 rfl (lv_at hl 4 rfl) ?_
          refine mg_0_21 hx hb hts hown hK hP (hts _ q692) dX5_product_111 ?_
          refine mp_0_25 (v := (dm_carry d9)) hx hb hts hown hK hI hP hS (hts _ q696) dX5_product_114 (fun d10 ed10 H locs hP hS => ?_)
          replace hr := hr.trans (bnd_eq ed10)
          refine lv_aload_n hx hb dX5_product_117 rfl (lv_at hl 4 rfl) ?_
          refine lv_iconst (v := (0 : Int32)) hx hb dX5_product_118 ic_0 ?_
          refine lv_iload_n hx hb dX5_product_119 rfl (lv_at hl 5 rfl) ?_
          refine lv_lload hx hb dX5_product_120 (lv_at hl 0 rfl) ?_
          refine lv_iload_n hx hb dX5_product_122 rfl (lv_at hl 5 rfl) ?_
          refine g_RS (As := [.long v7, .int sz]) (rest := [.int sz, .int (0 : Int32), .ref (ad 0)]) hC (m_X5_cut v7 sz _ rfl) (va_cwS 2 hts cw_X5_200 rfl rfl rfl hd_X5_cut ⟨Nat.le_of_ble_eq_true rfl, Nat.le_of_ble_eq_true rfl⟩) g_Kst0 trivial trivial ⟨Nat.zero_le _, Nat.zero_le _⟩ rfl hl.1 rfl (Nat.le_of_ble_eq_true rfl) dX5_product_123 ?_
          obtain ⟨g11, eg11⟩ : ∃ z, z = m_put K (0 : Int32) sz (m_cut v7 sz) d10 := ⟨_, rfl⟩
          replace hr := hr.trans (bnd_eq eg11)
          refine g_UV0 (As := [.int (0 : Int32), .int sz, .long (m_cut v7 sz)]) (rest := []) hC (m_X5_put hI (K := K) (d := d10) (0 : Int32) sz (m_cut v7 sz) g11 eg11 (show ¬ ((0 : Int32) < 0 ∨ 3 ≤ (0 : Int32).toNatClampNeg) by decide) hgd) (cwV 3 hts cw_X5_268 rfl rfl rfl hd_X5_put ⟨Nat.le_of_ble_eq_true rfl, Nat.le_of_ble_eq_true rfl⟩) mKst (va_recv hK hP (ci := 5) (q0 := 0) rfl rfl) hP hKp ⟨Nat.zero_le _, Nat.zero_le _⟩ hS (fun _ h => h) rfl hl.1 rfl (Nat.le_of_ble_eq_true rfl) dX5_product_126 (fun H locs hP hS => ?_)
          have hP : va_P D xcl (MW ad ca K g11) H := hP
          exact g_endUv (Pic := (fun u => mB D ad ca K u)) (u := g11) hF hQ hr hP hS dX5_product_129
        replace hr := ep8
        refine lv_icmp_ne (tgt := 86) hx hb dX5_product_65 (by decide) (fun c_65 => ?_) (fun c_65 => ?_)
        · replace hr := hr.trans (if_neg c_65)
          refine lv_lload_n hx hb dX5_product_86 rfl (lv_at hl 2 rfl) ?_
          refine lv_lload hx hb dX5_product_87 (lv_at hl 1 rfl) ?_
          refine g_RS (As := [.long v4, .long p5.1]) (rest := [.ref (ad 0)]) hC (m_X5_highSigned v4 p5.1 _ rfl) (va_cwS 2 hts cw_X5_287 rfl rfl rfl hd_X5_highSigned ⟨Nat.le_of_ble_eq_true rfl, Nat.le_of_ble_eq_true rfl⟩) g_Kst0 trivial trivial ⟨Nat.zero_le _, Nat.zero_le _⟩ rfl hl.1 rfl (Nat.le_of_ble_eq_true rfl) dX5_product_89 ?_
          refine lv_lload hx hb dX5_product_92 (lv_at hl 0 rfl) ?_
          refine lv_bipush (v := (63 : Int32)) hx hb dX5_product_94 bp_63 ?_
          refine lv_lshr (v := (lshr_ v7 (63 : Int32))) hx hb dX5_product_96 rfl ?_
          refine lq_eq (tgt := 105) hx hb dX5_product_97 dX5_product_98 (by decide) (fun c_97 => ?_) (fun c_97 => ?_)
          · replace hr := hr.trans (if_pos c_97)
            refine lv_iconst (v := (0 : Int32)) hx hb dX5_product_105 ic_0 ?_
            subst hr
            exact kp8 _ _ ls hP hS (lv_sub hl [0, 1, 2, 3, 4, 5] rfl)
          · replace hr := hr.trans (if_neg c_97)
            refine lv_iconst (v := (1 : Int32)) hx hb dX5_product_101 ic_1 ?_
            refine lv_goto (tgt := 106) hx hb dX5_product_102 (by decide) ?_
            subst hr
            exact kp8 _ _ ls hP hS (lv_sub hl [0, 1, 2, 3, 4, 5] rfl)
        · replace hr := hr.trans (if_pos c_65)
          refine lv_lload hx hb dX5_product_68 (lv_at hl 0 rfl) ?_
          refine lv_lload hx hb dX5_product_70 (lv_at hl 0 rfl) ?_
          refine lv_l2i (v := v7.toInt32) hx hb dX5_product_72 rfl ?_
          refine lv_i2l (v := (v7.toInt32).toInt64) hx hb dX5_product_73 rfl ?_
          refine lq_eq (tgt := 82) hx hb dX5_product_74 dX5_product_75 (by decide) (fun c_74 => ?_) (fun c_74 => ?_)
          · replace hr := hr.trans (if_pos c_74)
            refine lv_iconst (v := (0 : Int32)) hx hb dX5_product_82 ic_0 ?_
            refine lv_goto (tgt := 106) hx hb dX5_product_83 (by decide) ?_
            subst hr
            exact kp8 _ _ ls hP hS (lv_sub hl [0, 1, 2, 3, 4, 5] rfl)
          · replace hr := hr.trans (if_neg c_74)
            refine lv_iconst (v := (1 : Int32)) hx hb dX5_product_78 ic_1 ?_
            refine lv_goto (tgt := 106) hx hb dX5_product_79 (by decide) ?_
            subst hr
            exact kp8 _ _ ls hP hS (lv_sub hl [0, 1, 2, 3, 4, 5] rfl)
      replace hr := ep5
      refine lv_if_eq (tgt := 44) hx hb dX5_product_34 (by decide) (fun c_34 => ?_) (fun c_34 => ?_)
      · replace hr := hr.trans (if_pos c_34)
        refine lv_aload_n hx hb dX5_product_44 rfl (lv_at hl 2 rfl) ?_
        refine lv_iconst (v := (1 : Int32)) hx hb dX5_product_45 ic_1 ?_
        refine lv_iload_n hx hb dX5_product_46 rfl (lv_at hl 3 rfl) ?_
        obtain ⟨g6, eg6⟩ : ∃ z, z = m_take K (1 : Int32) sz g3.2 := ⟨_, rfl⟩
        replace hr := hr.trans (bnd_eq eg6)
        refine g_UV1 (As := [.int (1 : Int32), .int sz]) (rest := []) hC (m_X5_take hI (K := K) (d := g3.2) (1 : Int32) sz g6 eg6 (show ¬ ((1 : Int32) < 0 ∨ 3 ≤ (1 : Int32).toNatClampNeg) by decide) hgd) (cwV 2 hts cw_X5_257 rfl rfl rfl hd_X5_take ⟨Nat.le_of_ble_eq_true rfl, Nat.le_of_ble_eq_true rfl⟩) mKst (va_recv hK hP (ci := 5) (q0 := 0) rfl rfl) hP hKp ⟨Nat.zero_le _, Nat.zero_le _⟩ hS (fun _ h => h) rfl hl.1 rfl (Nat.le_of_ble_eq_true rfl) dX5_product_47 (fun H locs hP hS => ?_)
        have hP : va_P D xcl (MW ad ca K g6.2) H := hP
        refine lv_iload_n hx hb dX5_product_50 rfl (lv_at hl 3 rfl) ?_
        refine g_RS (As := [.long g6.1, .int sz]) (rest := []) hC (m_X5_signed g6.1 sz _ rfl) (va_cwS 2 hts cw_X5_274 rfl rfl rfl hd_X5_signed ⟨Nat.le_of_ble_eq_true rfl, Nat.le_of_ble_eq_true rfl⟩) g_Kst0 trivial trivial ⟨Nat.zero_le _, Nat.zero_le _⟩ rfl hl.1 rfl (Nat.le_of_ble_eq_true rfl) dX5_product_51 ?_
        subst hr
        exact kp5 _ _ ls hP hS (lv_sub hl [0, 1, 2, 3] rfl)
      · replace hr := hr.trans (if_neg c_34)
        refine lv_aload_n hx hb dX5_product_37 rfl (lv_at hl 2 rfl) ?_
        refine mg_0_38 hx hb hts hown hK hP (hts _ q709) dX5_product_38 ?_
        refine lv_goto (tgt := 54) hx hb dX5_product_41 (by decide) ?_
        subst hr
        exact kp5 _ _ ls hP hS (lv_sub hl [0, 1, 2, 3] rfl)
    replace hr := ep2
    refine lv_if_eq (tgt := 23) hx hb dX5_product_16 (by decide) (fun c_16 => ?_) (fun c_16 => ?_)
    · replace hr := hr.trans (if_pos c_16)
      refine lv_iconst (v := (0 : Int32)) hx hb dX5_product_23 ic_0 ?_
      subst hr
      exact kp2 _ _ ls hP hS (lv_sub hl [0, 1, 2] rfl)
    · replace hr := hr.trans (if_neg c_16)
      refine lv_iconst (v := (1 : Int32)) hx hb dX5_product_19 ic_1 ?_
      refine lv_goto (tgt := 24) hx hb dX5_product_20 (by decide) ?_
      subst hr
      exact kp2 _ _ ls hP hS (lv_sub hl [0, 1, 2] rfl)
  replace hr := ep1
  refine lv_if_eq (tgt := 12) hx hb dX5_product_5 (by decide) (fun c_5 => ?_) (fun c_5 => ?_)
  · replace hr := hr.trans (if_pos c_5)
    refine lv_iconst (v := (0 : Int32)) hx hb dX5_product_12 ic_0 ?_
    subst hr
    exact kp1 _ _ ls hP hS (lv_sub hl [0, 1] rfl)
  · replace hr := hr.trans (if_neg c_5)
    refine lv_iconst (v := (1 : Int32)) hx hb dX5_product_8 ic_1 ?_
    refine lv_goto (tgt := 13) hx hb dX5_product_9 (by decide) ?_
    subst hr
    exact kp1 _ _ ls hP hS (lv_sub hl [0, 1] rfl)
def m_shift_L57 (K : MK) (o : Int32) (sz : Int32) (v4 : Int32) (v5 : Int64) (v6 : Int32) : Nat → Int64 → Int32 → MD → MD
  | 0, w57_6, w57_11, dl57 => dl57
  | n + 1, w57_6, w57_11, dl57 => if v4 ≤ w57_11 then (bnd (α := Int64) ((m_upper w57_6 sz)) fun v7 => bnd (α := MD) (if v4 = (1 : Int32) then (bnd (α := Bool) (if o = (24 : Int32) then true else (if o = (26 : Int32) then true else false)) fun b9 => if b9 = true then (bnd (α := Bool) (if v7 = (1 : Int64) then true else false) fun p10 => if (b2i (dm_carry dl57)) = (b2i p10) then (bnd (dm_over_ false dl57) fun d11 => d11) else (bnd (dm_over_ true dl57) fun d12 => d12)) else (if o = (25 : Int32) then (if v7 = ((lushr_ w57_6 (v6 - (1 : Int32))) &&& (1 : Int64)) then (bnd (dm_over_ false dl57) fun d16 => d16) else (bnd (dm_over_ true dl57) fun d17 => d17)) else (if o = (27 : Int32) then (if v5 = (1 : Int64) then (bnd (dm_over_ true dl57) fun d15 => d15) else (bnd (dm_over_ false dl57) fun d14 => d14)) else (bnd (dm_over_ false dl57) fun d13 => d13)))) else dl57) fun p8 => bnd (α := MD) (if o ≤ (25 : Int32) then p8 else (bnd (m_zsp w57_6 sz p8) fun g19 => g19)) fun p18 => bnd (m_put K (0 : Int32) sz w57_6 p18) fun g20 => g20) else (bnd (α := Bool) (if o = (24 : Int32) then true else (if o = (26 : Int32) then true else false)) fun p21 => bnd (α := Int64) (if (b2i p21) = 0 then (w57_6 &&& (1 : Int64)) else ((lushr_ w57_6 v6) &&& (1 : Int64))) fun p22 => bnd (α := Bool) (if p22 = (1 : Int64) then true else false) fun p23 => bnd (dm_carry_ p23 dl57) fun d24 => if (b2i p21) = 0 then (bnd (α := Int64) (if o = (25 : Int32) then p22 else (if o = (28 : Int32) then ((lushr_ w57_6 v6) &&& (1 : Int64)) else (0 : Int64))) fun p25 => bnd (α := Int64) (((lushr_ w57_6 (1 : Int32)) ||| (lshl_ p25 v6))) fun v26 => bnd (α := Int32) ((w57_11 + (1 : Int32))) fun v27 => m_shift_L57 K o sz v4 v5 v6 n v26 v27 d24) else (bnd (α := Int64) (if o = (24 : Int32) then p22 else (0 : Int64)) fun p28 => bnd (α := Int64) (((m_cut (lshl_ w57_6 (1 : Int32)) sz) ||| p28)) fun v29 => bnd (α := Int32) ((w57_11 + (1 : Int32))) fun v30 => m_shift_L57 K o sz v4 v5 v6 n v29 v30 d24))
theorem m_shift_L57_s (K : MK) (o : Int32) (sz : Int32) (v4 : Int32) (v5 : Int64) (v6 : Int32) (n : Nat) (w57_6 : Int64) (w57_11 : Int32) (dl57 : MD) : m_shift_L57 K o sz v4 v5 v6 (n + 1) w57_6 w57_11 dl57 = if v4 ≤ w57_11 then (bnd (α := Int64) ((m_upper w57_6 sz)) fun v7 => bnd (α := MD) (if v4 = (1 : Int32) then (bnd (α := Bool) (if o = (24 : Int32) then true else (if o = (26 : Int32) then true else false)) fun b9 => if b9 = true then (bnd (α := Bool) (if v7 = (1 : Int64) then true else false) fun p10 => if (b2i (dm_carry dl57)) = (b2i p10) then (bnd (dm_over_ false dl57) fun d11 => d11) else (bnd (dm_over_ true dl57) fun d12 => d12)) else (if o = (25 : Int32) then (if v7 = ((lushr_ w57_6 (v6 - (1 : Int32))) &&& (1 : Int64)) then (bnd (dm_over_ false dl57) fun d16 => d16) else (bnd (dm_over_ true dl57) fun d17 => d17)) else (if o = (27 : Int32) then (if v5 = (1 : Int64) then (bnd (dm_over_ true dl57) fun d15 => d15) else (bnd (dm_over_ false dl57) fun d14 => d14)) else (bnd (dm_over_ false dl57) fun d13 => d13)))) else dl57) fun p8 => bnd (α := MD) (if o ≤ (25 : Int32) then p8 else (bnd (m_zsp w57_6 sz p8) fun g19 => g19)) fun p18 => bnd (m_put K (0 : Int32) sz w57_6 p18) fun g20 => g20) else (bnd (α := Bool) (if o = (24 : Int32) then true else (if o = (26 : Int32) then true else false)) fun p21 => bnd (α := Int64) (if (b2i p21) = 0 then (w57_6 &&& (1 : Int64)) else ((lushr_ w57_6 v6) &&& (1 : Int64))) fun p22 => bnd (α := Bool) (if p22 = (1 : Int64) then true else false) fun p23 => bnd (dm_carry_ p23 dl57) fun d24 => if (b2i p21) = 0 then (bnd (α := Int64) (if o = (25 : Int32) then p22 else (if o = (28 : Int32) then ((lushr_ w57_6 v6) &&& (1 : Int64)) else (0 : Int64))) fun p25 => bnd (α := Int64) (((lushr_ w57_6 (1 : Int32)) ||| (lshl_ p25 v6))) fun v26 => bnd (α := Int32) ((w57_11 + (1 : Int32))) fun v27 => m_shift_L57 K o sz v4 v5 v6 n v26 v27 d24) else (bnd (α := Int64) (if o = (24 : Int32) then p22 else (0 : Int64)) fun p28 => bnd (α := Int64) (((m_cut (lshl_ w57_6 (1 : Int32)) sz) ||| p28)) fun v29 => bnd (α := Int32) ((w57_11 + (1 : Int32))) fun v30 => m_shift_L57 K o sz v4 v5 v6 n v29 v30 d24)) := rfl
def m_shift (K : MK) (o : Int32) (sz : Int32) (d : MD) : MD := bnd (m_take K (0 : Int32) sz d) fun g1 => bnd (m_take K (1 : Int32) (1 : Int32) g1.2) fun g2 => bnd (α := Int32) (if sz = (8 : Int32) then (63 : Int32) else (31 : Int32)) fun p3 => bnd (α := Int32) (((g2.1.toInt32) &&& p3)) fun v4 => if v4 = 0 then g2.2 else (bnd (α := Int64) ((m_upper g1.1 sz)) fun v5 => bnd (α := Int32) ((((8 : Int32) * sz) - (1 : Int32))) fun v6 => m_shift_L57 K o sz v4 v5 v6 (mI (0 : Int32) v4 + 1) g1.1 (0 : Int32) g2.2)
abbrev rm_X5_shift : Room := { frames := 4, cells := 0, slots := 0, locals := 99 }
set_option maxHeartbeats 4000000 in
set_option maxRecDepth 100000 in
theorem m_X5_shift {l : Launch} {D : va_G} {ad : Nat → Nat} {ca : Nat → ClassId} (hI : mInj ad) {K : MK} {d : MD} (o : Int32) (sz : Int32) (RES : MD) (hr : RES = m_shift K o sz d) (hgd : MGd K) : g_U l yX5_shift (ws_ yX5_shift cX5_shift 15 none) rm_X5_shift [.ref (ad 0), .int o, .int sz] (mKp D ca) (mB D ad ca K d) none (mB D ad ca K RES) (mA ad) := by
  refine g_ofU (by decide) (Nat.le_of_ble_eq_true rfl) ?_
  intro p e s m args below meth c ls Q hF hB hKp hl hQ
  obtain ⟨hx, hb, -, -, hml, hown, hts⟩ := id hF
  have hown : s.vm.findClass RX5 = some m.cls := hown
  have hC : CallFix p m c cX5_shift 15 s args lw_all RX5 := ⟨hx, hb, hml, hown, hts⟩
  have hK : va_K D xcl (mtys ca) s := hKp
  have hP : va_P D xcl (MW ad ca K d) s.heap := hB
  have hS : va_S (mA ad) s.heap s.heap [] := va_S.rf
  have hl : lv_has ls 15 [(0, .ref (ad 0)), (1, .int o), (2, .int sz)] := hl
  unfold m_shift at hr
  refine lv_aload_n hx hb dX5_shift_0 rfl (lv_at hl 0 rfl) ?_
  refine lv_iconst (v := (0 : Int32)) hx hb dX5_shift_1 ic_0 ?_
  refine lv_iload_n hx hb dX5_shift_2 rfl (lv_at hl 2 rfl) ?_
  obtain ⟨g1, eg1⟩ : ∃ z, z = m_take K (0 : Int32) sz d := ⟨_, rfl⟩
  replace hr := hr.trans (bnd_eq eg1)
  refine g_UV1 (As := [.int (0 : Int32), .int sz]) (rest := []) hC (m_X5_take hI (K := K) (d := d) (0 : Int32) sz g1 eg1 (show ¬ ((0 : Int32) < 0 ∨ 3 ≤ (0 : Int32).toNatClampNeg) by decide) hgd) (cwV 2 hts cw_X5_257 rfl rfl rfl hd_X5_take ⟨Nat.le_of_ble_eq_true rfl, Nat.le_of_ble_eq_true rfl⟩) mKst (va_recv hK hP (ci := 5) (q0 := 0) rfl rfl) hP hKp ⟨Nat.zero_le _, Nat.zero_le _⟩ hS (fun _ h => h) rfl hl.1 rfl (Nat.le_of_ble_eq_true rfl) dX5_shift_3 (fun H locs hP hS => ?_)
  have hP : va_P D xcl (MW ad ca K g1.2) H := hP
  refine lv_lstore_n (lv' := [(3, .long g1.1), (0, .ref (ad 0)), (1, .int o), (2, .int sz)]) hx hb dX5_shift_6 rfl hl (by decide) rfl (fun ls hl => ?_)
  refine lv_aload_n hx hb dX5_shift_7 rfl (lv_at hl 1 rfl) ?_
  refine lv_iconst (v := (1 : Int32)) hx hb dX5_shift_8 ic_1 ?_
  refine lv_iconst (v := (1 : Int32)) hx hb dX5_shift_9 ic_1 ?_
  obtain ⟨g2, eg2⟩ : ∃ z, z = m_take K (1 : Int32) (1 : Int32) g1.2 := ⟨_, rfl⟩
  replace hr := hr.trans (bnd_eq eg2)
  refine g_UV1 (As := [.int (1 : Int32), .int (1 : Int32)]) (rest := []) hC (m_X5_take hI (K := K) (d := g1.2) (1 : Int32) (1 : Int32) g2 eg2 (show ¬ ((1 : Int32) < 0 ∨ 3 ≤ (1 : Int32).toNatClampNeg) by decide) hgd) (cwV 2 hts cw_X5_257 rfl rfl rfl hd_X5_take ⟨Nat.le_of_ble_eq_true rfl, Nat.le_of_ble_eq_true rfl⟩) mKst (va_recv hK hP (ci := 5) (q0 := 0) rfl rfl) hP hKp ⟨Nat.zero_le _, Nat.zero_le _⟩ hS (fun _ h => h) rfl hl.1 rfl (Nat.le_of_ble_eq_true rfl) dX5_shift_10 (fun H locs hP hS => ?_)
  have hP : va_P D xcl (MW ad ca K g2.2) H := hP
  refine lv_l2i (v := g2.1.toInt32) hx hb dX5_shift_13 rfl ?_
  refine lv_iload_n hx hb dX5_shift_14 rfl (lv_at hl 3 rfl) ?_
  refine lv_bipush (v := (8 : Int32)) hx hb dX5_shift_15 bp_8 ?_
  obtain ⟨p3, ep3⟩ : ∃ z : Int32, z = (if sz = (8 : Int32) then (63 : Int32) else (31 : Int32)) := ⟨_, rfl⟩
  replace hr := hr.trans (bnd_eq ep3)
  have kp3 : ∀ (H : Heap) (locs : List Loc) (ls : Array Slot), va_P D xcl (MW ad ca K g2.2) H → va_S (mA ad) s.heap H locs → lv_has ls 15 [(3, .long g1.1), (0, .ref (ad 0)), (1, .int o), (2, .int sz)] → W p l e rm_X5_shift s m args below meth c H locs 0 0 Q (F0 m 27 ls [.int p3, .int (g2.1.toInt32)]) := by
    intro H locs ls hP hS hl
    refine lv_iand hx hb dX5_shift_27 ?_
    refine lv_topi (fun v4 ev4 => ?_)
    replace hr := hr.trans (bnd_eq ev4)
    refine lv_istore (lv' := [(5, .int v4), (3, .long g1.1), (0, .ref (ad 0)), (1, .int o), (2, .int sz)]) hx hb dX5_shift_28 hl (by decide) rfl (fun ls hl => ?_)
    refine lv_iload hx hb dX5_shift_30 (lv_at hl 0 rfl) ?_
    refine lv_if_ne (tgt := 36) hx hb dX5_shift_32 (by decide) (fun c_32 => ?_) (fun c_32 => ?_)
    · replace hr := hr.trans (if_neg c_32)
      refine lv_lload_n hx hb dX5_shift_36 rfl (lv_at hl 1 rfl) ?_
      refine lv_lstore (lv' := [(6, .long g1.1), (5, .int v4), (3, .long g1.1), (0, .ref (ad 0)), (1, .int o), (2, .int sz)]) hx hb dX5_shift_37 hl (by decide) rfl (fun ls hl => ?_)
      refine lv_lload_n hx hb dX5_shift_39 rfl (lv_at hl 2 rfl) ?_
      refine lv_iload_n hx hb dX5_shift_40 rfl (lv_at hl 5 rfl) ?_
      refine g_RS (As := [.long g1.1, .int sz]) (rest := []) hC (m_X5_upper g1.1 sz _ rfl) (va_cwS 2 hts cw_X5_224 rfl rfl rfl hd_X5_upper ⟨Nat.le_of_ble_eq_true rfl, Nat.le_of_ble_eq_true rfl⟩) g_Kst0 trivial trivial ⟨Nat.zero_le _, Nat.zero_le _⟩ rfl hl.1 rfl (Nat.le_of_ble_eq_true rfl) dX5_shift_41 ?_
      refine lv_topl (fun v5 ev5 => ?_)
      replace hr := hr.trans (bnd_eq ev5)
      refine lv_lstore (lv' := [(8, .long v5), (6, .long g1.1), (5, .int v4), (3, .long g1.1), (0, .ref (ad 0)), (1, .int o), (2, .int sz)]) hx hb dX5_shift_44 hl (by decide) rfl (fun ls hl => ?_)
      refine lv_bipush (v := (8 : Int32)) hx hb dX5_shift_46 bp_8 ?_
      refine lv_iload_n hx hb dX5_shift_48 rfl (lv_at hl 6 rfl) ?_
      refine lv_imul hx hb dX5_shift_49 ?_
      refine lv_iconst (v := (1 : Int32)) hx hb dX5_shift_50 ic_1 ?_
      refine lv_isub hx hb dX5_shift_51 ?_
      refine lv_topi (fun v6 ev6 => ?_)
      replace hr := hr.trans (bnd_eq ev6)
      refine lv_istore (lv' := [(10, .int v6), (8, .long v5), (6, .long g1.1), (5, .int v4), (3, .long g1.1), (0, .ref (ad 0)), (1, .int o), (2, .int sz)]) hx hb dX5_shift_52 hl (by decide) rfl (fun ls hl => ?_)
      refine lv_iconst (v := (0 : Int32)) hx hb dX5_shift_54 ic_0 ?_
      refine lv_istore (lv' := [(11, .int (0 : Int32)), (10, .int v6), (8, .long v5), (6, .long g1.1), (5, .int v4), (3, .long g1.1), (0, .ref (ad 0)), (1, .int o), (2, .int sz)]) hx hb dX5_shift_55 hl (by decide) rfl (fun ls hl => ?_)
      have lp57 : ∀ (n : Nat) (w57_6 : Int64) (w57_11 : Int32) (dl57 : MD) (H : Heap) (locs : List Loc) (ls : Array Slot), mI w57_11 v4 < n → RES = m_shift_L57 K o sz v4 v5 v6 n w57_6 w57_11 dl57 → va_P D xcl (MW ad ca K dl57) H → va_S (mA ad) s.heap H locs → lv_has ls 15 [(11, .int w57_11), (10, .int v6), (8, .long v5), (6, .long w57_6), (5, .int v4), (3, .long g1.1), (0, .ref (ad 0)), (1, .int o), (2, .int sz)] → W p l e rm_X5_shift s m args below meth c H locs 0 0 Q (F0 m 57 ls []) := by
        intro n
        induction n with
        | zero =>
          intro w57_6 w57_11 dl57 H locs ls hm
          exact absurd hm (Nat.not_lt_zero _)
        | succ n ih =>
          intro w57_6 w57_11 dl57 H locs ls hm  hr hP hS hl
          replace hr := hr.trans (m_shift_L57_s K o sz v4 v5 v6 n w57_6 w57_11 dl57)
          refine lv_iload hx hb dX5_shift_57 (lv_at hl 0 rfl) ?_
          refine lv_iload hx hb dX5_shift_59 (lv_at hl 4 rfl) ?_
          refine lv_icmp_ge (tgt := 195) hx hb dX5_shift_61 (by decide) (fun c_61 => ?_) (fun c_61 => ?_)
          · replace hr := hr.trans (if_pos c_61)
            refine lv_lload hx hb dX5_shift_195 (lv_at hl 3 rfl) ?_
            refine lv_iload_n hx hb dX5_shift_197 rfl (lv_at hl 8 rfl) ?_
            refine g_RS (As := [.long w57_6, .int sz]) (rest := []) hC (m_X5_upper w57_6 sz _ rfl) (va_cwS 2 hts cw_X5_224 rfl rfl rfl hd_X5_upper ⟨Nat.le_of_ble_eq_true rfl, Nat.le_of_ble_eq_true rfl⟩) g_Kst0 trivial trivial ⟨Nat.zero_le _, Nat.zero_le _⟩ rfl hl.1 rfl (Nat.le_of_ble_eq_true rfl) dX5_shift_198 ?_
            refine lv_topl (fun v7 ev7 => ?_)
            replace hr := hr.trans (bnd_eq ev7)
            refine lv_lstore (lv' := [(11, .long v7), (10, .int v6), (8, .long v5), (6, .long w57_6), (5, .int v4), (3, .long g1.1), (0, .ref (ad 0)), (1, .int o), (2, .int sz)]) hx hb dX5_shift_201 hl (by decide) rfl (fun ls hl => ?_)
            refine lv_iload hx hb dX5_shift_203 (lv_at hl 4 rfl) ?_
            refine lv_iconst (v := (1 : Int32)) hx hb dX5_shift_205 ic_1 ?_
            obtain ⟨p8, ep8⟩ : ∃ z : MD, z = (if v4 = (1 : Int32) then (bnd (α := Bool) (if o = (24 : Int32) then true else (if o = (26 : Int32) then true else false)) fun b9 => if b9 = true then (bnd (α := Bool) (if v7 = (1 : Int64) then true else false) fun p10 => if (b2i (dm_carry dl57)) = (b2i p10) then (bnd (dm_over_ false dl57) fun d11 => d11) else (bnd (dm_over_ true dl57) fun d12 => d12)) else (if o = (25 : Int32) then (if v7 = ((lushr_ w57_6 (v6 - (1 : Int32))) &&& (1 : Int64)) then (bnd (dm_over_ false dl57) fun d16 => d16) else (bnd (dm_over_ true dl57) fun d17 => d17)) else (if o = (27 : Int32) then (if v5 = (1 : Int64) then (bnd (dm_over_ true dl57) fun d15 => d15) else (bnd (dm_over_ false dl57) fun d14 => d14)) else (bnd (dm_over_ false dl57) fun d13 => d13)))) else dl57) := ⟨_, rfl⟩
            replace hr := hr.trans (bnd_eq ep8)
            have kp8 : ∀ (H : Heap) (locs : List Loc) (ls : Array Slot), va_P D xcl (MW ad ca K p8) H → va_S (mA ad) s.heap H locs → lv_has ls 15 [(11, .long v7), (10, .int v6), (8, .long v5), (6, .long w57_6), (5, .int v4), (3, .long g1.1), (0, .ref (ad 0)), (1, .int o), (2, .int sz)] → W p l e rm_X5_shift s m args below meth c H locs 0 0 Q (F0 m 299 ls []) := by
              intro H locs ls hP hS hl
              refine lv_iload_n hx hb dX5_shift_299 rfl (lv_at hl 7 rfl) ?_
              refine lv_bipush (v := (25 : Int32)) hx hb dX5_shift_300 bp_25 ?_
              obtain ⟨p18, ep18⟩ : ∃ z : MD, z = (if o ≤ (25 : Int32) then p8 else (bnd (m_zsp w57_6 sz p8) fun g19 => g19)) := ⟨_, rfl⟩
              replace hr := hr.trans (bnd_eq ep18)
              have kp18 : ∀ (H : Heap) (locs : List Loc) (ls : Array Slot), va_P D xcl (MW ad ca K p18) H → va_S (mA ad) s.heap H locs → lv_has ls 15 [(11, .long v7), (10, .int v6), (8, .long v5), (6, .long w57_6), (5, .int v4), (3, .long g1.1), (0, .ref (ad 0)), (1, .int o), (2, .int sz)] → W p l e rm_X5_shift s m args below meth c H locs 0 0 Q (F0 m 312 ls []) := by
                intro H locs ls hP hS hl
                refine lv_aload_n hx hb dX5_shift_312 rfl (lv_at hl 6 rfl) ?_
                refine lv_iconst (v := (0 : Int32)) hx hb dX5_shift_313 ic_0 ?_
                refine lv_iload_n hx hb dX5_shift_314 rfl (lv_at hl 8 rfl) ?_
                refine lv_lload hx hb dX5_shift_315 (lv_at hl 3 rfl) ?_
                obtain ⟨g20, eg20⟩ : ∃ z, z = m_put K (0 : Int32) sz w57_6 p18 := ⟨_, rfl⟩
                replace hr := hr.trans (bnd_eq eg20)
                refine g_UV0 (As := [.int (0 : Int32), .int sz, .long w57_6]) (rest := []) hC (m_X5_put hI (K := K) (d := p18) (0 : Int32) sz w57_6 g20 eg20 (show ¬ ((0 : Int32) < 0 ∨ 3 ≤ (0 : Int32).toNatClampNeg) by decide) hgd) (cwV 3 hts cw_X5_268 rfl rfl rfl hd_X5_put ⟨Nat.le_of_ble_eq_true rfl, Nat.le_of_ble_eq_true rfl⟩) mKst (va_recv hK hP (ci := 5) (q0 := 0) rfl rfl) hP hKp ⟨Nat.zero_le _, Nat.zero_le _⟩ hS (fun _ h => h) rfl hl.1 rfl (Nat.le_of_ble_eq_true rfl) dX5_shift_317 (fun H locs hP hS => ?_)
                have hP : va_P D xcl (MW ad ca K g20) H := hP
                exact g_endUv (Pic := (fun u => mB D ad ca K u)) (u := g20) hF hQ hr hP hS dX5_shift_320
              replace hr := ep18
              refine lv_icmp_le (tgt := 312) hx hb dX5_shift_302 (by decide) (fun c_302 => ?_) (fun c_302 => ?_)
              · replace hr := hr.trans (if_pos c_302)
                subst hr
                exact kp18 _ _ ls hP hS (lv_sub hl [0, 1, 2, 3, 4, 5, 6, 7, 8] rfl)
              · replace hr := hr.trans (if_neg c_302)
                refine lv_aload_n hx hb dX5_shift_305 rfl (lv_at hl 6 rfl) ?_
                refine lv_lload hx hb dX5_shift_306 (lv_at hl 3 rfl) ?_
                refine lv_iload_n hx hb dX5_shift_308 rfl (lv_at hl 8 rfl) ?_
                obtain ⟨g19, eg19⟩ : ∃ z, z = m_zsp w57_6 sz p8 := ⟨_, rfl⟩
                replace hr := hr.trans (bnd_eq eg19)
                refine g_UV0 (As := [.long w57_6, .int sz]) (rest := []) hC (m_X5_zsp hI (K := K) (d := p8) w57_6 sz g19 eg19) (cwV 2 hts cw_X5_243 rfl rfl rfl hd_X5_zsp ⟨Nat.le_of_ble_eq_true rfl, Nat.le_of_ble_eq_true rfl⟩) mKst (va_recv hK hP (ci := 5) (q0 := 0) rfl rfl) hP hKp ⟨Nat.zero_le _, Nat.zero_le _⟩ hS (fun _ h => h) rfl hl.1 rfl (Nat.le_of_ble_eq_true rfl) dX5_shift_309 (fun H locs hP hS => ?_)
                have hP : va_P D xcl (MW ad ca K g19) H := hP
                subst hr
                exact kp18 _ _ ls hP hS (lv_sub hl [0, 1, 2, 3, 4, 5, 6, 7, 8] rfl)
            replace hr := ep8
            refine lv_icmp_ne (tgt := 299) hx hb dX5_shift_206 (by decide) (fun c_206 => ?_) (fun c_206 => ?_)
            · replace hr := hr.trans (if_neg c_206)
              subst hr
              exact kp8 _ _ ls hP hS (lv_sub hl [0, 1, 2, 3, 4, 5, 6, 7, 8] rfl)
            · replace hr := hr.trans (if_pos c_206)
              refine lv_aload_n hx hb dX5_shift_209 rfl (lv_at hl 6 rfl) ?_
              refine lv_iload_n hx hb dX5_shift_210 rfl (lv_at hl 7 rfl) ?_
              refine lv_bipush (v := (24 : Int32)) hx hb dX5_shift_211 bp_24 ?_
              obtain ⟨b9, eb9⟩ : ∃ z : Bool, z = (if o = (24 : Int32) then true else (if o = (26 : Int32) then true else false)) := ⟨_, rfl⟩
              replace hr := hr.trans (bnd_eq eb9)
              have kb9T : b9 = true → W p l e rm_X5_shift s m args below meth c H locs 0 0 Q (F0 m 222 ls [.ref (ad 0)]) := by
                intro hb9
                replace hr := hr.trans (if_pos hb9)
                refine lv_aload_n hx hb dX5_shift_222 rfl (lv_at hl 6 rfl) ?_
                refine mg_0_21 hx hb hts hown hK hP (hts _ q692) dX5_shift_223 ?_
                refine lv_lload hx hb dX5_shift_226 (lv_at hl 0 rfl) ?_
                refine lv_lconst (v := (1 : Int64)) hx hb dX5_shift_228 lc_1 ?_
                obtain ⟨p10, ep10⟩ : ∃ z : Bool, z = (if v7 = (1 : Int64) then true else false) := ⟨_, rfl⟩
                replace hr := hr.trans (bnd_eq ep10)
                have kp10 : ∀ (H : Heap) (locs : List Loc) (ls : Array Slot), va_P D xcl (MW ad ca K dl57) H → va_S (mA ad) s.heap H locs → lv_has ls 15 [(11, .long v7), (10, .int v6), (8, .long v5), (6, .long w57_6), (5, .int v4), (3, .long g1.1), (0, .ref (ad 0)), (1, .int o), (2, .int sz)] → W p l e rm_X5_shift s m args below meth c H locs 0 0 Q (F0 m 238 ls [.int (b2i p10), .int (b2i (dm_carry dl57)), .ref (ad 0)]) := by
                  intro H locs ls hP hS hl
                  refine lv_icmp_eq (tgt := 245) hx hb dX5_shift_238 (by decide) (fun c_238 => ?_) (fun c_238 => ?_)
                  · replace hr := hr.trans (if_pos c_238)
                    refine lv_iconst (v := (0 : Int32)) hx hb dX5_shift_245 ic_0 ?_
                    refine lv_goto (tgt := 296) hx hb dX5_shift_246 (by decide) ?_
                    refine mp_0_25 (v := false) hx hb hts hown hK hI hP hS (hts _ q696) dX5_shift_296 (fun d11 ed11 H locs hP hS => ?_)
                    replace hr := hr.trans (bnd_eq ed11)
                    subst hr
                    exact kp8 _ _ ls hP hS (lv_sub hl [0, 1, 2, 3, 4, 5, 6, 7, 8] rfl)
                  · replace hr := hr.trans (if_neg c_238)
                    refine lv_iconst (v := (1 : Int32)) hx hb dX5_shift_241 ic_1 ?_
                    refine lv_goto (tgt := 296) hx hb dX5_shift_242 (by decide) ?_
                    refine mp_0_25 (v := true) hx hb hts hown hK hI hP hS (hts _ q696) dX5_shift_296 (fun d12 ed12 H locs hP hS => ?_)
                    replace hr := hr.trans (bnd_eq ed12)
                    subst hr
                    exact kp8 _ _ ls hP hS (lv_sub hl [0, 1, 2, 3, 4, 5, 6, 7, 8] rfl)
                replace hr := ep10
                refine lq_ne (tgt := 237) hx hb dX5_shift_229 dX5_shift_230 (by decide) (fun c_229 => ?_) (fun c_229 => ?_)
                · replace hr := hr.trans (if_neg c_229)
                  refine lv_iconst (v := (0 : Int32)) hx hb dX5_shift_237 ic_0 ?_
                  subst hr
                  exact kp10 _ _ ls hP hS (lv_sub hl [0, 1, 2, 3, 4, 5, 6, 7, 8] rfl)
                · replace hr := hr.trans (if_pos c_229)
                  refine lv_iconst (v := (1 : Int32)) hx hb dX5_shift_233 ic_1 ?_
                  refine lv_goto (tgt := 238) hx hb dX5_shift_234 (by decide) ?_
                  subst hr
                  exact kp10 _ _ ls hP hS (lv_sub hl [0, 1, 2, 3, 4, 5, 6, 7, 8] rfl)
              have kb9F : ¬ b9 = true → W p l e rm_X5_shift s m args below meth c H locs 0 0 Q (F0 m 249 ls [.ref (ad 0)]) := by
                intro hb9
                replace hr := hr.trans (if_neg hb9)
                have er := eb9
                have hf := Bool.eq_false_iff.mpr hb9
                have c_213 : ¬ (o = (24 : Int32)) := fun q => absurd (hf.symm.trans (er.trans (if_pos q))) (by decide)
                have er := er.trans (if_neg c_213)
                have c_219 : ¬ (o = (26 : Int32)) := fun q => absurd (hf.symm.trans (er.trans (if_pos q))) (by decide)
                have er := er.trans (if_neg c_219)
                clear er
                refine lv_iload_n hx hb dX5_shift_249 rfl (lv_at hl 7 rfl) ?_
                refine lv_bipush (v := (25 : Int32)) hx hb dX5_shift_250 bp_25 ?_
                refine lv_icmp_ne (tgt := 278) hx hb dX5_shift_252 (by decide) (fun c_252 => ?_) (fun c_252 => ?_)
                · replace hr := hr.trans (if_neg c_252)
                  refine lv_iload_n hx hb dX5_shift_278 rfl (lv_at hl 7 rfl) ?_
                  refine lv_bipush (v := (27 : Int32)) hx hb dX5_shift_279 bp_27 ?_
                  refine lv_icmp_ne (tgt := 295) hx hb dX5_shift_281 (by decide) (fun c_281 => ?_) (fun c_281 => ?_)
                  · replace hr := hr.trans (if_neg c_281)
                    refine lv_iconst (v := (0 : Int32)) hx hb dX5_shift_295 ic_0 ?_
                    refine mp_0_25 (v := false) hx hb hts hown hK hI hP hS (hts _ q696) dX5_shift_296 (fun d13 ed13 H locs hP hS => ?_)
                    replace hr := hr.trans (bnd_eq ed13)
                    subst hr
                    exact kp8 _ _ ls hP hS (lv_sub hl [0, 1, 2, 3, 4, 5, 6, 7, 8] rfl)
                  · replace hr := hr.trans (if_pos c_281)
                    refine lv_lload hx hb dX5_shift_284 (lv_at hl 2 rfl) ?_
                    refine lv_lconst (v := (1 : Int64)) hx hb dX5_shift_286 lc_1 ?_
                    refine lq_ne (tgt := 295) hx hb dX5_shift_287 dX5_shift_288 (by decide) (fun c_287 => ?_) (fun c_287 => ?_)
                    · replace hr := hr.trans (if_neg c_287)
                      refine lv_iconst (v := (0 : Int32)) hx hb dX5_shift_295 ic_0 ?_
                      refine mp_0_25 (v := false) hx hb hts hown hK hI hP hS (hts _ q696) dX5_shift_296 (fun d14 ed14 H locs hP hS => ?_)
                      replace hr := hr.trans (bnd_eq ed14)
                      subst hr
                      exact kp8 _ _ ls hP hS (lv_sub hl [0, 1, 2, 3, 4, 5, 6, 7, 8] rfl)
                    · replace hr := hr.trans (if_pos c_287)
                      refine lv_iconst (v := (1 : Int32)) hx hb dX5_shift_291 ic_1 ?_
                      refine lv_goto (tgt := 296) hx hb dX5_shift_292 (by decide) ?_
                      refine mp_0_25 (v := true) hx hb hts hown hK hI hP hS (hts _ q696) dX5_shift_296 (fun d15 ed15 H locs hP hS => ?_)
                      replace hr := hr.trans (bnd_eq ed15)
                      subst hr
                      exact kp8 _ _ ls hP hS (lv_sub hl [0, 1, 2, 3, 4, 5, 6, 7, 8] rfl)
                · replace hr := hr.trans (if_pos c_252)
                  refine lv_lload hx hb dX5_shift_255 (lv_at hl 0 rfl) ?_
                  refine lv_lload hx hb dX5_shift_257 (lv_at hl 3 rfl) ?_
                  refine lv_iload hx hb dX5_shift_259 (lv_at hl 1 rfl) ?_
                  refine lv_iconst (v := (1 : Int32)) hx hb dX5_shift_261 ic_1 ?_
                  refine lv_isub hx hb dX5_shift_262 ?_
                  refine lv_lushr (v := (lushr_ w57_6 (v6 - (1 : Int32)))) hx hb dX5_shift_263 rfl ?_
                  refine lv_lconst (v := (1 : Int64)) hx hb dX5_shift_264 lc_1 ?_
                  refine lv_land hx hb dX5_shift_265 ?_
                  refine lq_eq (tgt := 274) hx hb dX5_shift_266 dX5_shift_267 (by decide) (fun c_266 => ?_) (fun c_266 => ?_)
                  · replace hr := hr.trans (if_pos c_266)
                    refine lv_iconst (v := (0 : Int32)) hx hb dX5_shift_274 ic_0 ?_
                    refine lv_goto (tgt := 296) hx hb dX5_shift_275 (by decide) ?_
                    refine mp_0_25 (v := false) hx hb hts hown hK hI hP hS (hts _ q696) dX5_shift_296 (fun d16 ed16 H locs hP hS => ?_)
                    replace hr := hr.trans (bnd_eq ed16)
                    subst hr
                    exact kp8 _ _ ls hP hS (lv_sub hl [0, 1, 2, 3, 4, 5, 6, 7, 8] rfl)
                  · replace hr := hr.trans (if_neg c_266)
                    refine lv_iconst (v := (1 : Int32)) hx hb dX5_shift_270 ic_1 ?_
                    refine lv_goto (tgt := 296) hx hb dX5_shift_271 (by decide) ?_
                    refine mp_0_25 (v := true) hx hb hts hown hK hI hP hS (hts _ q696) dX5_shift_296 (fun d17 ed17 H locs hP hS => ?_)
                    replace hr := hr.trans (bnd_eq ed17)
                    subst hr
                    exact kp8 _ _ ls hP hS (lv_sub hl [0, 1, 2, 3, 4, 5, 6, 7, 8] rfl)
              replace hr := eb9
              refine lv_icmp_eq (tgt := 222) hx hb dX5_shift_213 (by decide) (fun c_213 => ?_) (fun c_213 => ?_)
              · replace hr := hr.trans (if_pos c_213)
                exact kb9T hr
              · replace hr := hr.trans (if_neg c_213)
                refine lv_iload_n hx hb dX5_shift_216 rfl (lv_at hl 7 rfl) ?_
                refine lv_bipush (v := (26 : Int32)) hx hb dX5_shift_217 bp_26 ?_
                refine lv_icmp_ne (tgt := 249) hx hb dX5_shift_219 (by decide) (fun c_219 => ?_) (fun c_219 => ?_)
                · replace hr := hr.trans (if_neg c_219)
                  exact kb9F (by rw [hr]; decide)
                · replace hr := hr.trans (if_pos c_219)
                  exact kb9T hr
          · replace hr := hr.trans (if_neg c_61)
            refine lv_iload_n hx hb dX5_shift_64 rfl (lv_at hl 7 rfl) ?_
            refine lv_bipush (v := (24 : Int32)) hx hb dX5_shift_65 bp_24 ?_
            obtain ⟨p21, ep21⟩ : ∃ z : Bool, z = (if o = (24 : Int32) then true else (if o = (26 : Int32) then true else false)) := ⟨_, rfl⟩
            replace hr := hr.trans (bnd_eq ep21)
            have kp21 : ∀ (H : Heap) (locs : List Loc) (ls : Array Slot), va_P D xcl (MW ad ca K dl57) H → va_S (mA ad) s.heap H locs → lv_has ls 15 [(11, .int w57_11), (10, .int v6), (8, .long v5), (6, .long w57_6), (5, .int v4), (3, .long g1.1), (0, .ref (ad 0)), (1, .int o), (2, .int sz)] → W p l e rm_X5_shift s m args below meth c H locs 0 0 Q (F0 m 81 ls [.int (b2i p21)]) := by
              intro H locs ls hP hS hl
              refine lv_istore (lv' := [(12, .int (b2i p21)), (11, .int w57_11), (10, .int v6), (8, .long v5), (6, .long w57_6), (5, .int v4), (3, .long g1.1), (0, .ref (ad 0)), (1, .int o), (2, .int sz)]) hx hb dX5_shift_81 hl (by decide) rfl (fun ls hl => ?_)
              refine lv_iload hx hb dX5_shift_83 (lv_at hl 0 rfl) ?_
              obtain ⟨p22, ep22⟩ : ∃ z : Int64, z = (if (b2i p21) = 0 then (w57_6 &&& (1 : Int64)) else ((lushr_ w57_6 v6) &&& (1 : Int64))) := ⟨_, rfl⟩
              replace hr := hr.trans (bnd_eq ep22)
              have kp22 : ∀ (H : Heap) (locs : List Loc) (ls : Array Slot), va_P D xcl (MW ad ca K dl57) H → va_S (mA ad) s.heap H locs → lv_has ls 15 [(12, .int (b2i p21)), (11, .int w57_11), (10, .int v6), (8, .long v5), (6, .long w57_6), (5, .int v4), (3, .long g1.1), (0, .ref (ad 0)), (1, .int o), (2, .int sz)] → W p l e rm_X5_shift s m args below meth c H locs 0 0 Q (F0 m 102 ls [.long p22]) := by
                intro H locs ls hP hS hl
                refine lv_lstore (lv' := [(13, .long p22), (12, .int (b2i p21)), (11, .int w57_11), (10, .int v6), (8, .long v5), (6, .long w57_6), (5, .int v4), (3, .long g1.1), (0, .ref (ad 0)), (1, .int o), (2, .int sz)]) hx hb dX5_shift_102 hl (by decide) rfl (fun ls hl => ?_)
                refine lv_aload_n hx hb dX5_shift_104 rfl (lv_at hl 8 rfl) ?_
                refine lv_lload hx hb dX5_shift_105 (lv_at hl 0 rfl) ?_
                refine lv_lconst (v := (1 : Int64)) hx hb dX5_shift_107 lc_1 ?_
                obtain ⟨p23, ep23⟩ : ∃ z : Bool, z = (if p22 = (1 : Int64) then true else false) := ⟨_, rfl⟩
                replace hr := hr.trans (bnd_eq ep23)
                have kp23 : ∀ (H : Heap) (locs : List Loc) (ls : Array Slot), va_P D xcl (MW ad ca K dl57) H → va_S (mA ad) s.heap H locs → lv_has ls 15 [(13, .long p22), (12, .int (b2i p21)), (11, .int w57_11), (10, .int v6), (8, .long v5), (6, .long w57_6), (5, .int v4), (3, .long g1.1), (0, .ref (ad 0)), (1, .int o), (2, .int sz)] → W p l e rm_X5_shift s m args below meth c H locs 0 0 Q (F0 m 117 ls [.int (b2i p23), .ref (ad 0)]) := by
                  intro H locs ls hP hS hl
                  refine mp_0_21 (v := p23) hx hb hts hown hK hI hP hS (hts _ q692) dX5_shift_117 (fun d24 ed24 H locs hP hS => ?_)
                  replace hr := hr.trans (bnd_eq ed24)
                  refine lv_iload hx hb dX5_shift_120 (lv_at hl 1 rfl) ?_
                  refine lv_if_eq (tgt := 151) hx hb dX5_shift_122 (by decide) (fun c_122 => ?_) (fun c_122 => ?_)
                  · replace hr := hr.trans (if_pos c_122)
                    refine lv_lload hx hb dX5_shift_151 (lv_at hl 5 rfl) ?_
                    refine lv_iconst (v := (1 : Int32)) hx hb dX5_shift_153 ic_1 ?_
                    refine lv_lushr (v := (lushr_ w57_6 (1 : Int32))) hx hb dX5_shift_154 rfl ?_
                    refine lv_iload_n hx hb dX5_shift_155 rfl (lv_at hl 9 rfl) ?_
                    refine lv_bipush (v := (25 : Int32)) hx hb dX5_shift_156 bp_25 ?_
                    obtain ⟨p25, ep25⟩ : ∃ z : Int64, z = (if o = (25 : Int32) then p22 else (if o = (28 : Int32) then ((lushr_ w57_6 v6) &&& (1 : Int64)) else (0 : Int64))) := ⟨_, rfl⟩
                    replace hr := hr.trans (bnd_eq ep25)
                    have kp25 : ∀ (H : Heap) (locs : List Loc) (ls : Array Slot), va_P D xcl (MW ad ca K d24) H → va_S (mA ad) s.heap H locs → lv_has ls 15 [(13, .long p22), (12, .int (b2i p21)), (11, .int w57_11), (10, .int v6), (8, .long v5), (6, .long w57_6), (5, .int v4), (3, .long g1.1), (0, .ref (ad 0)), (1, .int o), (2, .int sz)] → W p l e rm_X5_shift s m args below meth c H locs 0 0 Q (F0 m 183 ls [.long p25, .long (lushr_ w57_6 (1 : Int32))]) := by
                      intro H locs ls hP hS hl
                      refine lv_iload hx hb dX5_shift_183 (lv_at hl 3 rfl) ?_
                      refine lv_lshl (v := (lshl_ p25 v6)) hx hb dX5_shift_185 rfl ?_
                      refine lv_lor hx hb dX5_shift_186 ?_
                      refine lv_topl (fun v26 ev26 => ?_)
                      replace hr := hr.trans (bnd_eq ev26)
                      refine lv_lstore (lv' := [(6, .long v26), (13, .long p22), (12, .int (b2i p21)), (11, .int w57_11), (10, .int v6), (8, .long v5), (5, .int v4), (3, .long g1.1), (0, .ref (ad 0)), (1, .int o), (2, .int sz)]) hx hb dX5_shift_187 hl (by decide) rfl (fun ls hl => ?_)
                      obtain ⟨v27, ev27⟩ : ∃ z : Int32, z = (w57_11 + (1 : Int32)) := ⟨_, rfl⟩
                      replace hr := hr.trans (bnd_eq ev27)
                      refine lv_iinc (v := v27) (lv' := [(11, .int v27), (6, .long v26), (13, .long p22), (12, .int (b2i p21)), (10, .int v6), (8, .long v5), (5, .int v4), (3, .long g1.1), (0, .ref (ad 0)), (1, .int o), (2, .int sz)]) hx hb dX5_shift_189 hl (k := 3) rfl (by rw [ev27, ← ic_1]) (by decide) rfl (fun ls hl => ?_)
                      refine lv_goto (tgt := 57) hx hb dX5_shift_192 (by decide) ?_
                      exact ih v26 v27 d24 _ _ ls (mI_dec c_61 hm ev27) hr hP hS (lv_sub hl [0, 4, 5, 1, 6, 7, 8, 9, 10] rfl)
                    replace hr := ep25
                    refine lv_icmp_ne (tgt := 166) hx hb dX5_shift_158 (by decide) (fun c_158 => ?_) (fun c_158 => ?_)
                    · replace hr := hr.trans (if_neg c_158)
                      refine lv_iload_n hx hb dX5_shift_166 rfl (lv_at hl 9 rfl) ?_
                      refine lv_bipush (v := (28 : Int32)) hx hb dX5_shift_167 bp_28 ?_
                      refine lv_icmp_ne (tgt := 182) hx hb dX5_shift_169 (by decide) (fun c_169 => ?_) (fun c_169 => ?_)
                      · replace hr := hr.trans (if_neg c_169)
                        refine lv_lconst (v := (0 : Int64)) hx hb dX5_shift_182 lc_0 ?_
                        subst hr
                        exact kp25 _ _ ls hP hS (lv_sub hl [0, 1, 2, 3, 4, 5, 6, 7, 8, 9, 10] rfl)
                      · replace hr := hr.trans (if_pos c_169)
                        refine lv_lload hx hb dX5_shift_172 (lv_at hl 5 rfl) ?_
                        refine lv_iload hx hb dX5_shift_174 (lv_at hl 3 rfl) ?_
                        refine lv_lushr (v := (lushr_ w57_6 v6)) hx hb dX5_shift_176 rfl ?_
                        refine lv_lconst (v := (1 : Int64)) hx hb dX5_shift_177 lc_1 ?_
                        refine lv_land hx hb dX5_shift_178 ?_
                        refine lv_goto (tgt := 183) hx hb dX5_shift_179 (by decide) ?_
                        subst hr
                        exact kp25 _ _ ls hP hS (lv_sub hl [0, 1, 2, 3, 4, 5, 6, 7, 8, 9, 10] rfl)
                    · replace hr := hr.trans (if_pos c_158)
                      refine lv_lload hx hb dX5_shift_161 (lv_at hl 0 rfl) ?_
                      refine lv_goto (tgt := 183) hx hb dX5_shift_163 (by decide) ?_
                      subst hr
                      exact kp25 _ _ ls hP hS (lv_sub hl [0, 1, 2, 3, 4, 5, 6, 7, 8, 9, 10] rfl)
                  · replace hr := hr.trans (if_neg c_122)
                    refine lv_lload hx hb dX5_shift_125 (lv_at hl 5 rfl) ?_
                    refine lv_iconst (v := (1 : Int32)) hx hb dX5_shift_127 ic_1 ?_
                    refine lv_lshl (v := (lshl_ w57_6 (1 : Int32))) hx hb dX5_shift_128 rfl ?_
                    refine lv_iload_n hx hb dX5_shift_129 rfl (lv_at hl 10 rfl) ?_
                    refine g_RS (As := [.long (lshl_ w57_6 (1 : Int32)), .int sz]) (rest := []) hC (m_X5_cut (lshl_ w57_6 (1 : Int32)) sz _ rfl) (va_cwS 2 hts cw_X5_200 rfl rfl rfl hd_X5_cut ⟨Nat.le_of_ble_eq_true rfl, Nat.le_of_ble_eq_true rfl⟩) g_Kst0 trivial trivial ⟨Nat.zero_le _, Nat.zero_le _⟩ rfl hl.1 rfl (Nat.le_of_ble_eq_true rfl) dX5_shift_130 ?_
                    refine lv_iload_n hx hb dX5_shift_133 rfl (lv_at hl 9 rfl) ?_
                    refine lv_bipush (v := (24 : Int32)) hx hb dX5_shift_134 bp_24 ?_
                    obtain ⟨p28, ep28⟩ : ∃ z : Int64, z = (if o = (24 : Int32) then p22 else (0 : Int64)) := ⟨_, rfl⟩
                    replace hr := hr.trans (bnd_eq ep28)
                    have kp28 : ∀ (H : Heap) (locs : List Loc) (ls : Array Slot), va_P D xcl (MW ad ca K d24) H → va_S (mA ad) s.heap H locs → lv_has ls 15 [(13, .long p22), (12, .int (b2i p21)), (11, .int w57_11), (10, .int v6), (8, .long v5), (6, .long w57_6), (5, .int v4), (3, .long g1.1), (0, .ref (ad 0)), (1, .int o), (2, .int sz)] → W p l e rm_X5_shift s m args below meth c H locs 0 0 Q (F0 m 145 ls [.long p28, .long (m_cut (lshl_ w57_6 (1 : Int32)) sz)]) := by
                      intro H locs ls hP hS hl
                      refine lv_lor hx hb dX5_shift_145 ?_
                      refine lv_topl (fun v29 ev29 => ?_)
                      replace hr := hr.trans (bnd_eq ev29)
                      refine lv_lstore (lv' := [(6, .long v29), (13, .long p22), (12, .int (b2i p21)), (11, .int w57_11), (10, .int v6), (8, .long v5), (5, .int v4), (3, .long g1.1), (0, .ref (ad 0)), (1, .int o), (2, .int sz)]) hx hb dX5_shift_146 hl (by decide) rfl (fun ls hl => ?_)
                      refine lv_goto (tgt := 189) hx hb dX5_shift_148 (by decide) ?_
                      obtain ⟨v30, ev30⟩ : ∃ z : Int32, z = (w57_11 + (1 : Int32)) := ⟨_, rfl⟩
                      replace hr := hr.trans (bnd_eq ev30)
                      refine lv_iinc (v := v30) (lv' := [(11, .int v30), (6, .long v29), (13, .long p22), (12, .int (b2i p21)), (10, .int v6), (8, .long v5), (5, .int v4), (3, .long g1.1), (0, .ref (ad 0)), (1, .int o), (2, .int sz)]) hx hb dX5_shift_189 hl (k := 3) rfl (by rw [ev30, ← ic_1]) (by decide) rfl (fun ls hl => ?_)
                      refine lv_goto (tgt := 57) hx hb dX5_shift_192 (by decide) ?_
                      exact ih v29 v30 d24 _ _ ls (mI_dec c_61 hm ev30) hr hP hS (lv_sub hl [0, 4, 5, 1, 6, 7, 8, 9, 10] rfl)
                    replace hr := ep28
                    refine lv_icmp_ne (tgt := 144) hx hb dX5_shift_136 (by decide) (fun c_136 => ?_) (fun c_136 => ?_)
                    · replace hr := hr.trans (if_neg c_136)
                      refine lv_lconst (v := (0 : Int64)) hx hb dX5_shift_144 lc_0 ?_
                      subst hr
                      exact kp28 _ _ ls hP hS (lv_sub hl [0, 1, 2, 3, 4, 5, 6, 7, 8, 9, 10] rfl)
                    · replace hr := hr.trans (if_pos c_136)
                      refine lv_lload hx hb dX5_shift_139 (lv_at hl 0 rfl) ?_
                      refine lv_goto (tgt := 145) hx hb dX5_shift_141 (by decide) ?_
                      subst hr
                      exact kp28 _ _ ls hP hS (lv_sub hl [0, 1, 2, 3, 4, 5, 6, 7, 8, 9, 10] rfl)
                replace hr := ep23
                refine lq_ne (tgt := 116) hx hb dX5_shift_108 dX5_shift_109 (by decide) (fun c_108 => ?_) (fun c_108 => ?_)
                · replace hr := hr.trans (if_neg c_108)
                  refine lv_iconst (v := (0 : Int32)) hx hb dX5_shift_116 ic_0 ?_
                  subst hr
                  exact kp23 _ _ ls hP hS (lv_sub hl [0, 1, 2, 3, 4, 5, 6, 7, 8, 9, 10] rfl)
                · replace hr := hr.trans (if_pos c_108)
                  refine lv_iconst (v := (1 : Int32)) hx hb dX5_shift_112 ic_1 ?_
                  refine lv_goto (tgt := 117) hx hb dX5_shift_113 (by decide) ?_
                  subst hr
                  exact kp23 _ _ ls hP hS (lv_sub hl [0, 1, 2, 3, 4, 5, 6, 7, 8, 9, 10] rfl)
              replace hr := ep22
              refine lv_if_eq (tgt := 98) hx hb dX5_shift_85 (by decide) (fun c_85 => ?_) (fun c_85 => ?_)
              · replace hr := hr.trans (if_pos c_85)
                refine lv_lload hx hb dX5_shift_98 (lv_at hl 4 rfl) ?_
                refine lv_lconst (v := (1 : Int64)) hx hb dX5_shift_100 lc_1 ?_
                refine lv_land hx hb dX5_shift_101 ?_
                subst hr
                exact kp22 _ _ ls hP hS (lv_sub hl [0, 1, 2, 3, 4, 5, 6, 7, 8, 9] rfl)
              · replace hr := hr.trans (if_neg c_85)
                refine lv_lload hx hb dX5_shift_88 (lv_at hl 4 rfl) ?_
                refine lv_iload hx hb dX5_shift_90 (lv_at hl 2 rfl) ?_
                refine lv_lushr (v := (lushr_ w57_6 v6)) hx hb dX5_shift_92 rfl ?_
                refine lv_lconst (v := (1 : Int64)) hx hb dX5_shift_93 lc_1 ?_
                refine lv_land hx hb dX5_shift_94 ?_
                refine lv_goto (tgt := 102) hx hb dX5_shift_95 (by decide) ?_
                subst hr
                exact kp22 _ _ ls hP hS (lv_sub hl [0, 1, 2, 3, 4, 5, 6, 7, 8, 9] rfl)
            replace hr := ep21
            refine lv_icmp_eq (tgt := 76) hx hb dX5_shift_67 (by decide) (fun c_67 => ?_) (fun c_67 => ?_)
            · replace hr := hr.trans (if_pos c_67)
              refine lv_iconst (v := (1 : Int32)) hx hb dX5_shift_76 ic_1 ?_
              refine lv_goto (tgt := 81) hx hb dX5_shift_77 (by decide) ?_
              subst hr
              exact kp21 _ _ ls hP hS (lv_sub hl [0, 1, 2, 3, 4, 5, 6, 7, 8] rfl)
            · replace hr := hr.trans (if_neg c_67)
              refine lv_iload_n hx hb dX5_shift_70 rfl (lv_at hl 7 rfl) ?_
              refine lv_bipush (v := (26 : Int32)) hx hb dX5_shift_71 bp_26 ?_
              refine lv_icmp_ne (tgt := 80) hx hb dX5_shift_73 (by decide) (fun c_73 => ?_) (fun c_73 => ?_)
              · replace hr := hr.trans (if_neg c_73)
                refine lv_iconst (v := (0 : Int32)) hx hb dX5_shift_80 ic_0 ?_
                subst hr
                exact kp21 _ _ ls hP hS (lv_sub hl [0, 1, 2, 3, 4, 5, 6, 7, 8] rfl)
              · replace hr := hr.trans (if_pos c_73)
                refine lv_iconst (v := (1 : Int32)) hx hb dX5_shift_76 ic_1 ?_
                refine lv_goto (tgt := 81) hx hb dX5_shift_77 (by decide) ?_
                subst hr
                exact kp21 _ _ ls hP hS (lv_sub hl [0, 1, 2, 3, 4, 5, 6, 7, 8] rfl)
      exact lp57 (mI (0 : Int32) v4 + 1) g1.1 (0 : Int32) g2.2 _ _ ls (Nat.lt_succ_self _) hr hP hS (lv_sub hl [0, 1, 2, 3, 4, 5, 6, 7, 8] rfl)
    · replace hr := hr.trans (if_pos c_32)
      exact g_endUv (Pic := (fun u => mB D ad ca K u)) (u := g2.2) hF hQ hr hP hS dX5_shift_35
  replace hr := ep3
  refine lv_icmp_ne (tgt := 25) hx hb dX5_shift_17 (by decide) (fun c_17 => ?_) (fun c_17 => ?_)
  · replace hr := hr.trans (if_neg c_17)
    refine lv_bipush (v := (31 : Int32)) hx hb dX5_shift_25 bp_31 ?_
    subst hr
    exact kp3 _ _ ls hP hS (lv_sub hl [0, 1, 2, 3] rfl)
  · replace hr := hr.trans (if_pos c_17)
    refine lv_bipush (v := (63 : Int32)) hx hb dX5_shift_20 bp_63 ?_
    refine lv_goto (tgt := 27) hx hb dX5_shift_22 (by decide) ?_
    subst hr
    exact kp3 _ _ ls hP hS (lv_sub hl [0, 1, 2, 3] rfl)
