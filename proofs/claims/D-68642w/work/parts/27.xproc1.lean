def x_arithmetic (K : XK) (o : Int32) (sz : Int32) (d : XD) : XD := bnd (x_get K (0 : Int32) sz d) fun g1 => bnd (x_get K (1 : Int32) sz g1.2) fun g2 => bnd (α := Bool) ((x_is (1 : Int32) g2.2)) fun b3 => bnd (α := Int64 × XD) (bnd (α := Bool) (if o = 0 then true else (if o = (2 : Int32) then true else false)) fun b5 => if b5 = true then (bnd (α := Bool) (if o = (2 : Int32) then (if (b2i b3) = 0 then false else true) else false) fun b6 => if b6 = true then (bnd (x_sum g1.1 g2.1 true sz g2.2) fun g7 => (g7.1, g7.2)) else (bnd (x_sum g1.1 g2.1 false sz g2.2) fun g8 => (g8.1, g8.2))) else (bnd (α := Bool) (if o = (3 : Int32) then true else (if o = (5 : Int32) then true else (if o = (7 : Int32) then true else false))) fun b9 => if b9 = true then (bnd (α := Bool) (if o = (3 : Int32) then (if (b2i b3) = 0 then false else true) else false) fun b10 => if b10 = true then (bnd (x_difference g1.1 g2.1 true sz g2.2) fun g11 => (g11.1, g11.2)) else (bnd (x_difference g1.1 g2.1 false sz g2.2) fun g12 => (g12.1, g12.2))) else (bnd (x_logic o g1.1 g2.1 sz g2.2) fun g13 => (g13.1, g13.2)))) fun p4 => if o = (7 : Int32) then p4.2 else (bnd (x_put K (0 : Int32) sz p4.1 p4.2) fun g14 => g14)
abbrev rm_X2_arithmetic : Room := { frames := 5, cells := 0, slots := 0, locals := 124 }
set_option maxHeartbeats 4000000 in
set_option maxRecDepth 100000 in
theorem m_X2_arithmetic {l : Launch} {D : va_G} {ad : Nat → Nat} {ca : Nat → ClassId} (hI : xInj ad) {K : XK} {d : XD} (o : Int32) (sz : Int32) (RES : XD) (hr : RES = x_arithmetic K o sz d) (hgd : XGd K) : g_U l yX2_arithmetic (ws_ yX2_arithmetic cX2_arithmetic 10 none) rm_X2_arithmetic [.ref (ad 4), .int o, .int sz] (xKp D ca) (xB D ad ca K d) none (xB D ad ca K RES) (xA ad) := by
  refine g_ofU (by decide) (Nat.le_of_ble_eq_true rfl) ?_
  intro p e s m args below meth c ls Q hF hB hKp hl hQ
  obtain ⟨hx, hb, -, -, hml, hown, hts⟩ := id hF
  have hown : s.vm.findClass RX2 = some m.cls := hown
  have hC : CallFix p m c cX2_arithmetic 10 s args lw_all RX2 := ⟨hx, hb, hml, hown, hts⟩
  obtain ⟨hK, hN⟩ := id hKp
  have hP : va_P D xcl (XW ad ca K d) s.heap := hB
  have hS : va_S (xA ad) s.heap s.heap [] := va_S.rf
  have hl : lv_has ls 10 [(0, .ref (ad 4)), (1, .int o), (2, .int sz)] := hl
  unfold x_arithmetic at hr
  refine lv_aload_n hx hb dX2_arithmetic_0 rfl (lv_at hl 0 rfl) ?_
  refine lv_iconst (v := (0 : Int32)) hx hb dX2_arithmetic_1 ic_0 ?_
  refine lv_iload_n hx hb dX2_arithmetic_2 rfl (lv_at hl 2 rfl) ?_
  obtain ⟨g1, eg1⟩ : ∃ z, z = x_get K (0 : Int32) sz d := ⟨_, rfl⟩
  replace hr := hr.trans (bnd_eq eg1)
  refine g_UV1 (As := [.int (0 : Int32), .int sz]) (rest := []) hC (m_X2_get hI (K := K) (d := d) (0 : Int32) sz g1 eg1 (show ¬ ((0 : Int32) < 0 ∨ 3 ≤ (0 : Int32).toNatClampNeg) by decide) hgd) (cwV 2 hts cw_X2_160 rfl rfl rfl hd_X2_get ⟨Nat.le_of_ble_eq_true rfl, Nat.le_of_ble_eq_true rfl⟩) xKst (va_recv hK hP (ci := 2) (q0 := 4) rfl rfl) hP hKp ⟨Nat.zero_le _, Nat.zero_le _⟩ hS (fun _ h => h) rfl hl.1 rfl (Nat.le_of_ble_eq_true rfl) dX2_arithmetic_3 (fun H locs hP hS => ?_)
  have hP : va_P D xcl (XW ad ca K g1.2) H := hP
  refine lv_lstore_n (lv' := [(3, .long g1.1), (0, .ref (ad 4)), (1, .int o), (2, .int sz)]) hx hb dX2_arithmetic_6 rfl hl (by decide) rfl (fun ls hl => ?_)
  refine lv_aload_n hx hb dX2_arithmetic_7 rfl (lv_at hl 1 rfl) ?_
  refine lv_iconst (v := (1 : Int32)) hx hb dX2_arithmetic_8 ic_1 ?_
  refine lv_iload_n hx hb dX2_arithmetic_9 rfl (lv_at hl 3 rfl) ?_
  obtain ⟨g2, eg2⟩ : ∃ z, z = x_get K (1 : Int32) sz g1.2 := ⟨_, rfl⟩
  replace hr := hr.trans (bnd_eq eg2)
  refine g_UV1 (As := [.int (1 : Int32), .int sz]) (rest := []) hC (m_X2_get hI (K := K) (d := g1.2) (1 : Int32) sz g2 eg2 (show ¬ ((1 : Int32) < 0 ∨ 3 ≤ (1 : Int32).toNatClampNeg) by decide) hgd) (cwV 2 hts cw_X2_160 rfl rfl rfl hd_X2_get ⟨Nat.le_of_ble_eq_true rfl, Nat.le_of_ble_eq_true rfl⟩) xKst (va_recv hK hP (ci := 2) (q0 := 4) rfl rfl) hP hKp ⟨Nat.zero_le _, Nat.zero_le _⟩ hS (fun _ h => h) rfl hl.1 rfl (Nat.le_of_ble_eq_true rfl) dX2_arithmetic_10 (fun H locs hP hS => ?_)
  have hP : va_P D xcl (XW ad ca K g2.2) H := hP
  refine lv_lstore (lv' := [(5, .long g2.1), (3, .long g1.1), (0, .ref (ad 4)), (1, .int o), (2, .int sz)]) hx hb dX2_arithmetic_13 hl (by decide) rfl (fun ls hl => ?_)
  refine lv_aload_n hx hb dX2_arithmetic_15 rfl (lv_at hl 2 rfl) ?_
  refine lv_iconst (v := (1 : Int32)) hx hb dX2_arithmetic_16 ic_1 ?_
  refine g_RV (As := [.int (1 : Int32)]) (rest := []) hC (m_X2_is (K := K) (d := g2.2) (1 : Int32) _ rfl) (cwV 1 hts cw_X2_142 rfl rfl rfl hd_X2_is ⟨Nat.le_of_ble_eq_true rfl, Nat.le_of_ble_eq_true rfl⟩) xKst (va_recv hK hP (ci := 2) (q0 := 4) rfl rfl) hP hKp ⟨Nat.zero_le _, Nat.zero_le _⟩ rfl hl.1 rfl (Nat.le_of_ble_eq_true rfl) dX2_arithmetic_17 ?_
  obtain ⟨b3, eb3⟩ : ∃ z : Bool, z = (x_is (1 : Int32) g2.2) := ⟨_, rfl⟩
  rw [← eb3]
  replace hr := hr.trans (bnd_eq eb3)
  refine lv_istore (lv' := [(7, .int (b2i b3)), (5, .long g2.1), (3, .long g1.1), (0, .ref (ad 4)), (1, .int o), (2, .int sz)]) hx hb dX2_arithmetic_20 hl (by decide) rfl (fun ls hl => ?_)
  refine lv_iload_n hx hb dX2_arithmetic_22 rfl (lv_at hl 4 rfl) ?_
  obtain ⟨p4, ep4⟩ : ∃ z : Int64 × XD, z = (bnd (α := Bool) (if o = 0 then true else (if o = (2 : Int32) then true else false)) fun b5 => if b5 = true then (bnd (α := Bool) (if o = (2 : Int32) then (if (b2i b3) = 0 then false else true) else false) fun b6 => if b6 = true then (bnd (x_sum g1.1 g2.1 true sz g2.2) fun g7 => (g7.1, g7.2)) else (bnd (x_sum g1.1 g2.1 false sz g2.2) fun g8 => (g8.1, g8.2))) else (bnd (α := Bool) (if o = (3 : Int32) then true else (if o = (5 : Int32) then true else (if o = (7 : Int32) then true else false))) fun b9 => if b9 = true then (bnd (α := Bool) (if o = (3 : Int32) then (if (b2i b3) = 0 then false else true) else false) fun b10 => if b10 = true then (bnd (x_difference g1.1 g2.1 true sz g2.2) fun g11 => (g11.1, g11.2)) else (bnd (x_difference g1.1 g2.1 false sz g2.2) fun g12 => (g12.1, g12.2))) else (bnd (x_logic o g1.1 g2.1 sz g2.2) fun g13 => (g13.1, g13.2)))) := ⟨_, rfl⟩
  replace hr := hr.trans (bnd_eq ep4)
  have kp4 : ∀ (H : Heap) (locs : List Loc) (ls : Array Slot), va_P D xcl (XW ad ca K p4.2) H → va_S (xA ad) s.heap H locs → lv_has ls 10 [(7, .int (b2i b3)), (5, .long g2.1), (3, .long g1.1), (0, .ref (ad 4)), (1, .int o), (2, .int sz)] → W p l e rm_X2_arithmetic s m args below meth c H locs 0 0 Q (F0 m 108 ls [.long p4.1]) := by
    intro H locs ls hP hS hl
    refine lv_lstore (lv' := [(8, .long p4.1), (7, .int (b2i b3)), (5, .long g2.1), (3, .long g1.1), (0, .ref (ad 4)), (1, .int o), (2, .int sz)]) hx hb dX2_arithmetic_108 hl (by decide) rfl (fun ls hl => ?_)
    refine lv_iload_n hx hb dX2_arithmetic_110 rfl (lv_at hl 5 rfl) ?_
    refine lv_bipush (v := (7 : Int32)) hx hb dX2_arithmetic_111 bp_7 ?_
    refine lv_icmp_eq (tgt := 124) hx hb dX2_arithmetic_113 (by decide) (fun c_113 => ?_) (fun c_113 => ?_)
    · replace hr := hr.trans (if_pos c_113)
      exact g_endUv (Pic := (fun u => xB D ad ca K u)) (u := p4.2) hF hQ hr hP hS dX2_arithmetic_124
    · replace hr := hr.trans (if_neg c_113)
      refine lv_aload_n hx hb dX2_arithmetic_116 rfl (lv_at hl 4 rfl) ?_
      refine lv_iconst (v := (0 : Int32)) hx hb dX2_arithmetic_117 ic_0 ?_
      refine lv_iload_n hx hb dX2_arithmetic_118 rfl (lv_at hl 6 rfl) ?_
      refine lv_lload hx hb dX2_arithmetic_119 (lv_at hl 0 rfl) ?_
      obtain ⟨g14, eg14⟩ : ∃ z, z = x_put K (0 : Int32) sz p4.1 p4.2 := ⟨_, rfl⟩
      replace hr := hr.trans (bnd_eq eg14)
      refine g_UV0 (As := [.int (0 : Int32), .int sz, .long p4.1]) (rest := []) hC (m_X2_put hI (K := K) (d := p4.2) (0 : Int32) sz p4.1 g14 eg14 (show ¬ ((0 : Int32) < 0 ∨ 3 ≤ (0 : Int32).toNatClampNeg) by decide) hgd) (cwV 3 hts cw_X2_188 rfl rfl rfl hd_X2_put ⟨Nat.le_of_ble_eq_true rfl, Nat.le_of_ble_eq_true rfl⟩) xKst (va_recv hK hP (ci := 2) (q0 := 4) rfl rfl) hP hKp ⟨Nat.zero_le _, Nat.zero_le _⟩ hS (fun _ h => h) rfl hl.1 rfl (Nat.le_of_ble_eq_true rfl) dX2_arithmetic_121 (fun H locs hP hS => ?_)
      have hP : va_P D xcl (XW ad ca K g14) H := hP
      exact g_endUv (Pic := (fun u => xB D ad ca K u)) (u := g14) hF hQ hr hP hS dX2_arithmetic_124
  replace hr := ep4
  obtain ⟨b5, eb5⟩ : ∃ z : Bool, z = (if o = 0 then true else (if o = (2 : Int32) then true else false)) := ⟨_, rfl⟩
  replace hr := hr.trans (bnd_eq eb5)
  have kb5T : b5 = true → W p l e rm_X2_arithmetic s m args below meth c H locs 0 0 Q (F0 m 31 ls []) := by
    intro hb5
    replace hr := hr.trans (if_pos hb5)
    refine lv_aload_n hx hb dX2_arithmetic_31 rfl (lv_at hl 3 rfl) ?_
    refine lv_lload_n hx hb dX2_arithmetic_32 rfl (lv_at hl 2 rfl) ?_
    refine lv_lload hx hb dX2_arithmetic_33 (lv_at hl 1 rfl) ?_
    refine lv_iload_n hx hb dX2_arithmetic_35 rfl (lv_at hl 4 rfl) ?_
    refine lv_iconst (v := (2 : Int32)) hx hb dX2_arithmetic_36 ic_2 ?_
    obtain ⟨b6, eb6⟩ : ∃ z : Bool, z = (if o = (2 : Int32) then (if (b2i b3) = 0 then false else true) else false) := ⟨_, rfl⟩
    replace hr := hr.trans (bnd_eq eb6)
    have kb6T : b6 = true → W p l e rm_X2_arithmetic s m args below meth c H locs 0 0 Q (F0 m 45 ls [.long g2.1, .long g1.1, .ref (ad 4)]) := by
      intro hb6
      replace hr := hr.trans (if_pos hb6)
      have er := eb6
      have c_37 : o = (2 : Int32) := Decidable.byContradiction (fun q => absurd (hb6.symm.trans (er.trans (if_neg q))) (by decide))
      have er := er.trans (if_pos c_37)
      have c_42 : ¬ ((b2i b3) = 0) := fun q => absurd (hb6.symm.trans (er.trans (if_pos q))) (by decide)
      have er := er.trans (if_neg c_42)
      clear er
      refine lv_iconst (v := (1 : Int32)) hx hb dX2_arithmetic_45 ic_1 ?_
      refine lv_goto (tgt := 50) hx hb dX2_arithmetic_46 (by decide) ?_
      refine lv_iload_n hx hb dX2_arithmetic_50 rfl (lv_at hl 5 rfl) ?_
      obtain ⟨g7, eg7⟩ : ∃ z, z = x_sum g1.1 g2.1 true sz g2.2 := ⟨_, rfl⟩
      replace hr := hr.trans (bnd_eq eg7)
      refine g_UV1 (As := [.long g1.1, .long g2.1, .int (b2i true), .int sz]) (rest := []) hC (m_X2_sum hI (K := K) (d := g2.2) g1.1 g2.1 true sz g7 eg7) (cwV 4 hts cw_X2_177 rfl rfl rfl hd_X2_sum ⟨Nat.le_of_ble_eq_true rfl, Nat.le_of_ble_eq_true rfl⟩) xKst (va_recv hK hP (ci := 2) (q0 := 4) rfl rfl) hP hKp ⟨Nat.zero_le _, Nat.zero_le _⟩ hS (fun _ h => h) rfl hl.1 rfl (Nat.le_of_ble_eq_true rfl) dX2_arithmetic_51 (fun H locs hP hS => ?_)
      have hP : va_P D xcl (XW ad ca K g7.2) H := hP
      refine lv_goto (tgt := 108) hx hb dX2_arithmetic_54 (by decide) ?_
      subst hr
      exact kp4 _ _ ls hP hS (lv_sub hl [0, 1, 2, 3, 4, 5] rfl)
    have kb6F : ¬ b6 = true → W p l e rm_X2_arithmetic s m args below meth c H locs 0 0 Q (F0 m 49 ls [.long g2.1, .long g1.1, .ref (ad 4)]) := by
      intro hb6
      replace hr := hr.trans (if_neg hb6)
      refine lv_iconst (v := (0 : Int32)) hx hb dX2_arithmetic_49 ic_0 ?_
      refine lv_iload_n hx hb dX2_arithmetic_50 rfl (lv_at hl 5 rfl) ?_
      obtain ⟨g8, eg8⟩ : ∃ z, z = x_sum g1.1 g2.1 false sz g2.2 := ⟨_, rfl⟩
      replace hr := hr.trans (bnd_eq eg8)
      refine g_UV1 (As := [.long g1.1, .long g2.1, .int (b2i false), .int sz]) (rest := []) hC (m_X2_sum hI (K := K) (d := g2.2) g1.1 g2.1 false sz g8 eg8) (cwV 4 hts cw_X2_177 rfl rfl rfl hd_X2_sum ⟨Nat.le_of_ble_eq_true rfl, Nat.le_of_ble_eq_true rfl⟩) xKst (va_recv hK hP (ci := 2) (q0 := 4) rfl rfl) hP hKp ⟨Nat.zero_le _, Nat.zero_le _⟩ hS (fun _ h => h) rfl hl.1 rfl (Nat.le_of_ble_eq_true rfl) dX2_arithmetic_51 (fun H locs hP hS => ?_)
      have hP : va_P D xcl (XW ad ca K g8.2) H := hP
      refine lv_goto (tgt := 108) hx hb dX2_arithmetic_54 (by decide) ?_
      subst hr
      exact kp4 _ _ ls hP hS (lv_sub hl [0, 1, 2, 3, 4, 5] rfl)
    replace hr := eb6
    refine lv_icmp_ne (tgt := 49) hx hb dX2_arithmetic_37 (by decide) (fun c_37 => ?_) (fun c_37 => ?_)
    · replace hr := hr.trans (if_neg c_37)
      exact kb6F (by rw [hr]; decide)
    · replace hr := hr.trans (if_pos c_37)
      refine lv_iload hx hb dX2_arithmetic_40 (lv_at hl 0 rfl) ?_
      refine lv_if_eq (tgt := 49) hx hb dX2_arithmetic_42 (by decide) (fun c_42 => ?_) (fun c_42 => ?_)
      · replace hr := hr.trans (if_pos c_42)
        exact kb6F (by rw [hr]; decide)
      · replace hr := hr.trans (if_neg c_42)
        exact kb6T hr
  have kb5F : ¬ b5 = true → W p l e rm_X2_arithmetic s m args below meth c H locs 0 0 Q (F0 m 57 ls []) := by
    intro hb5
    replace hr := hr.trans (if_neg hb5)
    have er := eb5
    have hf := Bool.eq_false_iff.mpr hb5
    have c_23 : ¬ (o = 0) := fun q => absurd (hf.symm.trans (er.trans (if_pos q))) (by decide)
    have er := er.trans (if_neg c_23)
    have c_28 : ¬ (o = (2 : Int32)) := fun q => absurd (hf.symm.trans (er.trans (if_pos q))) (by decide)
    have er := er.trans (if_neg c_28)
    clear er
    refine lv_iload_n hx hb dX2_arithmetic_57 rfl (lv_at hl 4 rfl) ?_
    refine lv_iconst (v := (3 : Int32)) hx hb dX2_arithmetic_58 ic_3 ?_
    obtain ⟨b9, eb9⟩ : ∃ z : Bool, z = (if o = (3 : Int32) then true else (if o = (5 : Int32) then true else (if o = (7 : Int32) then true else false))) := ⟨_, rfl⟩
    replace hr := hr.trans (bnd_eq eb9)
    have kb9T : b9 = true → W p l e rm_X2_arithmetic s m args below meth c H locs 0 0 Q (F0 m 73 ls []) := by
      intro hb9
      replace hr := hr.trans (if_pos hb9)
      refine lv_aload_n hx hb dX2_arithmetic_73 rfl (lv_at hl 3 rfl) ?_
      refine lv_lload_n hx hb dX2_arithmetic_74 rfl (lv_at hl 2 rfl) ?_
      refine lv_lload hx hb dX2_arithmetic_75 (lv_at hl 1 rfl) ?_
      refine lv_iload_n hx hb dX2_arithmetic_77 rfl (lv_at hl 4 rfl) ?_
      refine lv_iconst (v := (3 : Int32)) hx hb dX2_arithmetic_78 ic_3 ?_
      obtain ⟨b10, eb10⟩ : ∃ z : Bool, z = (if o = (3 : Int32) then (if (b2i b3) = 0 then false else true) else false) := ⟨_, rfl⟩
      replace hr := hr.trans (bnd_eq eb10)
      have kb10T : b10 = true → W p l e rm_X2_arithmetic s m args below meth c H locs 0 0 Q (F0 m 87 ls [.long g2.1, .long g1.1, .ref (ad 4)]) := by
        intro hb10
        replace hr := hr.trans (if_pos hb10)
        have er := eb10
        have c_79 : o = (3 : Int32) := Decidable.byContradiction (fun q => absurd (hb10.symm.trans (er.trans (if_neg q))) (by decide))
        have er := er.trans (if_pos c_79)
        have c_84 : ¬ ((b2i b3) = 0) := fun q => absurd (hb10.symm.trans (er.trans (if_pos q))) (by decide)
        have er := er.trans (if_neg c_84)
        clear er
        refine lv_iconst (v := (1 : Int32)) hx hb dX2_arithmetic_87 ic_1 ?_
        refine lv_goto (tgt := 92) hx hb dX2_arithmetic_88 (by decide) ?_
        refine lv_iload_n hx hb dX2_arithmetic_92 rfl (lv_at hl 5 rfl) ?_
        obtain ⟨g11, eg11⟩ : ∃ z, z = x_difference g1.1 g2.1 true sz g2.2 := ⟨_, rfl⟩
        replace hr := hr.trans (bnd_eq eg11)
        refine g_UV1 (As := [.long g1.1, .long g2.1, .int (b2i true), .int sz]) (rest := []) hC (m_X2_difference hI (K := K) (d := g2.2) g1.1 g2.1 true sz g11 eg11) (cwV 4 hts cw_X2_181 rfl rfl rfl hd_X2_difference ⟨Nat.le_of_ble_eq_true rfl, Nat.le_of_ble_eq_true rfl⟩) xKst (va_recv hK hP (ci := 2) (q0 := 4) rfl rfl) hP hKp ⟨Nat.zero_le _, Nat.zero_le _⟩ hS (fun _ h => h) rfl hl.1 rfl (Nat.le_of_ble_eq_true rfl) dX2_arithmetic_93 (fun H locs hP hS => ?_)
        have hP : va_P D xcl (XW ad ca K g11.2) H := hP
        refine lv_goto (tgt := 108) hx hb dX2_arithmetic_96 (by decide) ?_
        subst hr
        exact kp4 _ _ ls hP hS (lv_sub hl [0, 1, 2, 3, 4, 5] rfl)
      have kb10F : ¬ b10 = true → W p l e rm_X2_arithmetic s m args below meth c H locs 0 0 Q (F0 m 91 ls [.long g2.1, .long g1.1, .ref (ad 4)]) := by
        intro hb10
        replace hr := hr.trans (if_neg hb10)
        refine lv_iconst (v := (0 : Int32)) hx hb dX2_arithmetic_91 ic_0 ?_
        refine lv_iload_n hx hb dX2_arithmetic_92 rfl (lv_at hl 5 rfl) ?_
        obtain ⟨g12, eg12⟩ : ∃ z, z = x_difference g1.1 g2.1 false sz g2.2 := ⟨_, rfl⟩
        replace hr := hr.trans (bnd_eq eg12)
        refine g_UV1 (As := [.long g1.1, .long g2.1, .int (b2i false), .int sz]) (rest := []) hC (m_X2_difference hI (K := K) (d := g2.2) g1.1 g2.1 false sz g12 eg12) (cwV 4 hts cw_X2_181 rfl rfl rfl hd_X2_difference ⟨Nat.le_of_ble_eq_true rfl, Nat.le_of_ble_eq_true rfl⟩) xKst (va_recv hK hP (ci := 2) (q0 := 4) rfl rfl) hP hKp ⟨Nat.zero_le _, Nat.zero_le _⟩ hS (fun _ h => h) rfl hl.1 rfl (Nat.le_of_ble_eq_true rfl) dX2_arithmetic_93 (fun H locs hP hS => ?_)
        have hP : va_P D xcl (XW ad ca K g12.2) H := hP
        refine lv_goto (tgt := 108) hx hb dX2_arithmetic_96 (by decide) ?_
        subst hr
        exact kp4 _ _ ls hP hS (lv_sub hl [0, 1, 2, 3, 4, 5] rfl)
      replace hr := eb10
      refine lv_icmp_ne (tgt := 91) hx hb dX2_arithmetic_79 (by decide) (fun c_79 => ?_) (fun c_79 => ?_)
      · replace hr := hr.trans (if_neg c_79)
        exact kb10F (by rw [hr]; decide)
      · replace hr := hr.trans (if_pos c_79)
        refine lv_iload hx hb dX2_arithmetic_82 (lv_at hl 0 rfl) ?_
        refine lv_if_eq (tgt := 91) hx hb dX2_arithmetic_84 (by decide) (fun c_84 => ?_) (fun c_84 => ?_)
        · replace hr := hr.trans (if_pos c_84)
          exact kb10F (by rw [hr]; decide)
        · replace hr := hr.trans (if_neg c_84)
          exact kb10T hr
    have kb9F : ¬ b9 = true → W p l e rm_X2_arithmetic s m args below meth c H locs 0 0 Q (F0 m 99 ls []) := by
      intro hb9
      replace hr := hr.trans (if_neg hb9)
      have er := eb9
      have hf := Bool.eq_false_iff.mpr hb9
      have c_59 : ¬ (o = (3 : Int32)) := fun q => absurd (hf.symm.trans (er.trans (if_pos q))) (by decide)
      have er := er.trans (if_neg c_59)
      have c_64 : ¬ (o = (5 : Int32)) := fun q => absurd (hf.symm.trans (er.trans (if_pos q))) (by decide)
      have er := er.trans (if_neg c_64)
      have c_70 : ¬ (o = (7 : Int32)) := fun q => absurd (hf.symm.trans (er.trans (if_pos q))) (by decide)
      have er := er.trans (if_neg c_70)
      clear er
      refine lv_aload_n hx hb dX2_arithmetic_99 rfl (lv_at hl 3 rfl) ?_
      refine lv_iload_n hx hb dX2_arithmetic_100 rfl (lv_at hl 4 rfl) ?_
      refine lv_lload_n hx hb dX2_arithmetic_101 rfl (lv_at hl 2 rfl) ?_
      refine lv_lload hx hb dX2_arithmetic_102 (lv_at hl 1 rfl) ?_
      refine lv_iload_n hx hb dX2_arithmetic_104 rfl (lv_at hl 5 rfl) ?_
      obtain ⟨g13, eg13⟩ : ∃ z, z = x_logic o g1.1 g2.1 sz g2.2 := ⟨_, rfl⟩
      replace hr := hr.trans (bnd_eq eg13)
      refine g_UV1 (As := [.int o, .long g1.1, .long g2.1, .int sz]) (rest := []) hC (m_X2_logic hI (K := K) (d := g2.2) o g1.1 g2.1 sz g13 eg13) (cwV 4 hts cw_X2_184 rfl rfl rfl hd_X2_logic ⟨Nat.le_of_ble_eq_true rfl, Nat.le_of_ble_eq_true rfl⟩) xKst (va_recv hK hP (ci := 2) (q0 := 4) rfl rfl) hP hKp ⟨Nat.zero_le _, Nat.zero_le _⟩ hS (fun _ h => h) rfl hl.1 rfl (Nat.le_of_ble_eq_true rfl) dX2_arithmetic_105 (fun H locs hP hS => ?_)
      have hP : va_P D xcl (XW ad ca K g13.2) H := hP
      subst hr
      exact kp4 _ _ ls hP hS (lv_sub hl [0, 1, 2, 3, 4, 5] rfl)
    replace hr := eb9
    refine lv_icmp_eq (tgt := 73) hx hb dX2_arithmetic_59 (by decide) (fun c_59 => ?_) (fun c_59 => ?_)
    · replace hr := hr.trans (if_pos c_59)
      exact kb9T hr
    · replace hr := hr.trans (if_neg c_59)
      refine lv_iload_n hx hb dX2_arithmetic_62 rfl (lv_at hl 4 rfl) ?_
      refine lv_iconst (v := (5 : Int32)) hx hb dX2_arithmetic_63 ic_5 ?_
      refine lv_icmp_eq (tgt := 73) hx hb dX2_arithmetic_64 (by decide) (fun c_64 => ?_) (fun c_64 => ?_)
      · replace hr := hr.trans (if_pos c_64)
        exact kb9T hr
      · replace hr := hr.trans (if_neg c_64)
        refine lv_iload_n hx hb dX2_arithmetic_67 rfl (lv_at hl 4 rfl) ?_
        refine lv_bipush (v := (7 : Int32)) hx hb dX2_arithmetic_68 bp_7 ?_
        refine lv_icmp_ne (tgt := 99) hx hb dX2_arithmetic_70 (by decide) (fun c_70 => ?_) (fun c_70 => ?_)
        · replace hr := hr.trans (if_neg c_70)
          exact kb9F (by rw [hr]; decide)
        · replace hr := hr.trans (if_pos c_70)
          exact kb9T hr
  replace hr := eb5
  refine lv_if_eq (tgt := 31) hx hb dX2_arithmetic_23 (by decide) (fun c_23 => ?_) (fun c_23 => ?_)
  · replace hr := hr.trans (if_pos c_23)
    exact kb5T hr
  · replace hr := hr.trans (if_neg c_23)
    refine lv_iload_n hx hb dX2_arithmetic_26 rfl (lv_at hl 4 rfl) ?_
    refine lv_iconst (v := (2 : Int32)) hx hb dX2_arithmetic_27 ic_2 ?_
    refine lv_icmp_ne (tgt := 57) hx hb dX2_arithmetic_28 (by decide) (fun c_28 => ?_) (fun c_28 => ?_)
    · replace hr := hr.trans (if_neg c_28)
      exact kb5F (by rw [hr]; decide)
    · replace hr := hr.trans (if_pos c_28)
      exact kb5T hr
def x_times (K : XK) (sz : Int32) (d : XD) : XD := bnd (α := Bool) (if ((kx_kinds K) (2 : Int32).toNatClampNeg) = (3 : Int32) then true else false) fun p1 => bnd (α := Bool) (if (b2i p1) = 0 then false else true) fun p2 => bnd (x_get K (b2i p2) sz d) fun g3 => bnd (α := Int64) ((x_signed g3.1 sz)) fun v4 => bnd (α := Int64 × XD) (if (b2i p1) = 0 then (bnd (x_get K (1 : Int32) sz g3.2) fun g6 => ((x_signed g6.1 sz), g6.2)) else ((kx_number K), g3.2)) fun p5 => bnd (α := Int64) ((v4 * p5.1)) fun v7 => bnd (α := Bool) (if sz = (8 : Int32) then (if (x_upperSigned v4 p5.1) = (lshr_ v7 (63 : Int32)) then true else false) else (if v7 = (x_signed v7 sz) then true else false)) fun p8 => bnd (α := Bool) (if (b2i p8) = 0 then true else false) fun p9 => bnd (x_mark (2049 : Int32) p9 p5.2) fun g10 => bnd (x_put K (0 : Int32) sz v7 g10) fun g11 => g11
abbrev rm_X2_times : Room := { frames := 5, cells := 0, slots := 0, locals := 124 }
set_option maxHeartbeats 4000000 in
set_option maxRecDepth 100000 in
theorem m_X2_times {l : Launch} {D : va_G} {ad : Nat → Nat} {ca : Nat → ClassId} (hI : xInj ad) {K : XK} {d : XD} (sz : Int32) (RES : XD) (hr : RES = x_times K sz d) (hgd : XGd K) : g_U l yX2_times (ws_ yX2_times cX2_times 10 none) rm_X2_times [.ref (ad 4), .int sz] (xKp D ca) (xB D ad ca K d) none (xB D ad ca K RES) (xA ad) := by
  refine g_ofU (by decide) (Nat.le_of_ble_eq_true rfl) ?_
  intro p e s m args below meth c ls Q hF hB hKp hl hQ
  obtain ⟨hx, hb, -, -, hml, hown, hts⟩ := id hF
  have hown : s.vm.findClass RX2 = some m.cls := hown
  have hC : CallFix p m c cX2_times 10 s args lw_all RX2 := ⟨hx, hb, hml, hown, hts⟩
  obtain ⟨hK, hN⟩ := id hKp
  have hP : va_P D xcl (XW ad ca K d) s.heap := hB
  have hS : va_S (xA ad) s.heap s.heap [] := va_S.rf
  have hl : lv_has ls 10 [(0, .ref (ad 4)), (1, .int sz)] := hl
  unfold x_times at hr
  refine lv_aload_n hx hb dX2_times_0 rfl (lv_at hl 0 rfl) ?_
  refine xg_4_3 hx hb hts hown hK hP (hts _ q231) dX2_times_1 ?_
  refine xgn_9_3 hx hb hts hown hK hP (xq_q186 hN) dX2_times_4 ?_
  refine lv_iconst (v := (2 : Int32)) hx hb dX2_times_7 ic_2 ?_
  refine xl_10 hx hb hK hP (show ¬ ((2 : Int32) < 0 ∨ 3 ≤ (2 : Int32).toNatClampNeg) by decide) dX2_times_8 ?_
  refine lv_iconst (v := (3 : Int32)) hx hb dX2_times_9 ic_3 ?_
  obtain ⟨p1, ep1⟩ : ∃ z : Bool, z = (if ((kx_kinds K) (2 : Int32).toNatClampNeg) = (3 : Int32) then true else false) := ⟨_, rfl⟩
  replace hr := hr.trans (bnd_eq ep1)
  have kp1 : ∀ (H : Heap) (locs : List Loc) (ls : Array Slot), va_P D xcl (XW ad ca K d) H → va_S (xA ad) s.heap H locs → lv_has ls 10 [(0, .ref (ad 4)), (1, .int sz)] → W p l e rm_X2_times s m args below meth c H locs 0 0 Q (F0 m 18 ls [.int (b2i p1)]) := by
    intro H locs ls hP hS hl
    refine lv_istore_n (lv' := [(2, .int (b2i p1)), (0, .ref (ad 4)), (1, .int sz)]) hx hb dX2_times_18 rfl hl (by decide) rfl (fun ls hl => ?_)
    refine lv_aload_n hx hb dX2_times_19 rfl (lv_at hl 1 rfl) ?_
    refine lv_iload_n hx hb dX2_times_20 rfl (lv_at hl 0 rfl) ?_
    obtain ⟨p2, ep2⟩ : ∃ z : Bool, z = (if (b2i p1) = 0 then false else true) := ⟨_, rfl⟩
    replace hr := hr.trans (bnd_eq ep2)
    have kp2 : ∀ (H : Heap) (locs : List Loc) (ls : Array Slot), va_P D xcl (XW ad ca K d) H → va_S (xA ad) s.heap H locs → lv_has ls 10 [(2, .int (b2i p1)), (0, .ref (ad 4)), (1, .int sz)] → W p l e rm_X2_times s m args below meth c H locs 0 0 Q (F0 m 29 ls [.int (b2i p2), .ref (ad 4)]) := by
      intro H locs ls hP hS hl
      refine lv_iload_n hx hb dX2_times_29 rfl (lv_at hl 2 rfl) ?_
      obtain ⟨g3, eg3⟩ : ∃ z, z = x_get K (b2i p2) sz d := ⟨_, rfl⟩
      replace hr := hr.trans (bnd_eq eg3)
      refine g_UV1 (As := [.int (b2i p2), .int sz]) (rest := []) hC (m_X2_get hI (K := K) (d := d) (b2i p2) sz g3 eg3 (b2i_in3 _) hgd) (cwV 2 hts cw_X2_160 rfl rfl rfl hd_X2_get ⟨Nat.le_of_ble_eq_true rfl, Nat.le_of_ble_eq_true rfl⟩) xKst (va_recv hK hP (ci := 2) (q0 := 4) rfl rfl) hP hKp ⟨Nat.zero_le _, Nat.zero_le _⟩ hS (fun _ h => h) rfl hl.1 rfl (Nat.le_of_ble_eq_true rfl) dX2_times_30 (fun H locs hP hS => ?_)
      have hP : va_P D xcl (XW ad ca K g3.2) H := hP
      refine lv_iload_n hx hb dX2_times_33 rfl (lv_at hl 2 rfl) ?_
      refine g_RS (As := [.long g3.1, .int sz]) (rest := []) hC (m_X2_signed g3.1 sz _ rfl) (va_cwS 2 hts cw_X2_122 rfl rfl rfl hd_X2_signed ⟨Nat.le_of_ble_eq_true rfl, Nat.le_of_ble_eq_true rfl⟩) g_Kst0 trivial trivial ⟨Nat.zero_le _, Nat.zero_le _⟩ rfl hl.1 rfl (Nat.le_of_ble_eq_true rfl) dX2_times_34 ?_
      refine lv_topl (fun v4 ev4 => ?_)
      replace hr := hr.trans (bnd_eq ev4)
      refine lv_lstore_n (lv' := [(3, .long v4), (2, .int (b2i p1)), (0, .ref (ad 4)), (1, .int sz)]) hx hb dX2_times_37 rfl hl (by decide) rfl (fun ls hl => ?_)
      refine lv_iload_n hx hb dX2_times_38 rfl (lv_at hl 1 rfl) ?_
      obtain ⟨p5, ep5⟩ : ∃ z : Int64 × XD, z = (if (b2i p1) = 0 then (bnd (x_get K (1 : Int32) sz g3.2) fun g6 => ((x_signed g6.1 sz), g6.2)) else ((kx_number K), g3.2)) := ⟨_, rfl⟩
      replace hr := hr.trans (bnd_eq ep5)
      have kp5 : ∀ (H : Heap) (locs : List Loc) (ls : Array Slot), va_P D xcl (XW ad ca K p5.2) H → va_S (xA ad) s.heap H locs → lv_has ls 10 [(3, .long v4), (2, .int (b2i p1)), (0, .ref (ad 4)), (1, .int sz)] → W p l e rm_X2_times s m args below meth c H locs 0 0 Q (F0 m 62 ls [.long p5.1]) := by
        intro H locs ls hP hS hl
        refine lv_lstore (lv' := [(5, .long p5.1), (3, .long v4), (2, .int (b2i p1)), (0, .ref (ad 4)), (1, .int sz)]) hx hb dX2_times_62 hl (by decide) rfl (fun ls hl => ?_)
        refine lv_lload_n hx hb dX2_times_64 rfl (lv_at hl 1 rfl) ?_
        refine lv_lload hx hb dX2_times_65 (lv_at hl 0 rfl) ?_
        refine lv_lmul hx hb dX2_times_67 ?_
        refine lv_topl (fun v7 ev7 => ?_)
        replace hr := hr.trans (bnd_eq ev7)
        refine lv_lstore (lv' := [(7, .long v7), (5, .long p5.1), (3, .long v4), (2, .int (b2i p1)), (0, .ref (ad 4)), (1, .int sz)]) hx hb dX2_times_68 hl (by decide) rfl (fun ls hl => ?_)
        refine lv_iload_n hx hb dX2_times_70 rfl (lv_at hl 5 rfl) ?_
        refine lv_bipush (v := (8 : Int32)) hx hb dX2_times_71 bp_8 ?_
        obtain ⟨p8, ep8⟩ : ∃ z : Bool, z = (if sz = (8 : Int32) then (if (x_upperSigned v4 p5.1) = (lshr_ v7 (63 : Int32)) then true else false) else (if v7 = (x_signed v7 sz) then true else false)) := ⟨_, rfl⟩
        replace hr := hr.trans (bnd_eq ep8)
        have kp8 : ∀ (H : Heap) (locs : List Loc) (ls : Array Slot), va_P D xcl (XW ad ca K p5.2) H → va_S (xA ad) s.heap H locs → lv_has ls 10 [(7, .long v7), (5, .long p5.1), (3, .long v4), (2, .int (b2i p1)), (0, .ref (ad 4)), (1, .int sz)] → W p l e rm_X2_times s m args below meth c H locs 0 0 Q (F0 m 116 ls [.int (b2i p8)]) := by
          intro H locs ls hP hS hl
          refine lv_istore (lv' := [(9, .int (b2i p8)), (7, .long v7), (5, .long p5.1), (3, .long v4), (2, .int (b2i p1)), (0, .ref (ad 4)), (1, .int sz)]) hx hb dX2_times_116 hl (by decide) rfl (fun ls hl => ?_)
          refine lv_aload_n hx hb dX2_times_118 rfl (lv_at hl 5 rfl) ?_
          refine lv_sipush (v := (2049 : Int32)) hx hb dX2_times_119 sp_2049 ?_
          refine lv_iload hx hb dX2_times_122 (lv_at hl 0 rfl) ?_
          obtain ⟨p9, ep9⟩ : ∃ z : Bool, z = (if (b2i p8) = 0 then true else false) := ⟨_, rfl⟩
          replace hr := hr.trans (bnd_eq ep9)
          have kp9 : ∀ (H : Heap) (locs : List Loc) (ls : Array Slot), va_P D xcl (XW ad ca K p5.2) H → va_S (xA ad) s.heap H locs → lv_has ls 10 [(9, .int (b2i p8)), (7, .long v7), (5, .long p5.1), (3, .long v4), (2, .int (b2i p1)), (0, .ref (ad 4)), (1, .int sz)] → W p l e rm_X2_times s m args below meth c H locs 0 0 Q (F0 m 132 ls [.int (b2i p9), .int (2049 : Int32), .ref (ad 4)]) := by
            intro H locs ls hP hS hl
            obtain ⟨g10, eg10⟩ : ∃ z, z = x_mark (2049 : Int32) p9 p5.2 := ⟨_, rfl⟩
            replace hr := hr.trans (bnd_eq eg10)
            refine g_UV0 (As := [.int (2049 : Int32), .int (b2i p9)]) (rest := []) hC (m_X2_mark hI (K := K) (d := p5.2) (2049 : Int32) p9 g10 eg10) (cwV 2 hts cw_X2_125 rfl rfl rfl hd_X2_mark ⟨Nat.le_of_ble_eq_true rfl, Nat.le_of_ble_eq_true rfl⟩) xKst (va_recv hK hP (ci := 2) (q0 := 4) rfl rfl) hP hKp ⟨Nat.zero_le _, Nat.zero_le _⟩ hS (fun _ h => h) rfl hl.1 rfl (Nat.le_of_ble_eq_true rfl) dX2_times_132 (fun H locs hP hS => ?_)
            have hP : va_P D xcl (XW ad ca K g10) H := hP
            refine lv_aload_n hx hb dX2_times_135 rfl (lv_at hl 5 rfl) ?_
            refine lv_iconst (v := (0 : Int32)) hx hb dX2_times_136 ic_0 ?_
            refine lv_iload_n hx hb dX2_times_137 rfl (lv_at hl 6 rfl) ?_
            refine lv_lload hx hb dX2_times_138 (lv_at hl 1 rfl) ?_
            obtain ⟨g11, eg11⟩ : ∃ z, z = x_put K (0 : Int32) sz v7 g10 := ⟨_, rfl⟩
            replace hr := hr.trans (bnd_eq eg11)
            refine g_UV0 (As := [.int (0 : Int32), .int sz, .long v7]) (rest := []) hC (m_X2_put hI (K := K) (d := g10) (0 : Int32) sz v7 g11 eg11 (show ¬ ((0 : Int32) < 0 ∨ 3 ≤ (0 : Int32).toNatClampNeg) by decide) hgd) (cwV 3 hts cw_X2_188 rfl rfl rfl hd_X2_put ⟨Nat.le_of_ble_eq_true rfl, Nat.le_of_ble_eq_true rfl⟩) xKst (va_recv hK hP (ci := 2) (q0 := 4) rfl rfl) hP hKp ⟨Nat.zero_le _, Nat.zero_le _⟩ hS (fun _ h => h) rfl hl.1 rfl (Nat.le_of_ble_eq_true rfl) dX2_times_140 (fun H locs hP hS => ?_)
            have hP : va_P D xcl (XW ad ca K g11) H := hP
            exact g_endUv (Pic := (fun u => xB D ad ca K u)) (u := g11) hF hQ hr hP hS dX2_times_143
          replace hr := ep9
          refine lv_if_ne (tgt := 131) hx hb dX2_times_124 (by decide) (fun c_124 => ?_) (fun c_124 => ?_)
          · replace hr := hr.trans (if_neg c_124)
            refine lv_iconst (v := (0 : Int32)) hx hb dX2_times_131 ic_0 ?_
            subst hr
            exact kp9 _ _ ls hP hS (lv_sub hl [0, 1, 2, 3, 4, 5, 6] rfl)
          · replace hr := hr.trans (if_pos c_124)
            refine lv_iconst (v := (1 : Int32)) hx hb dX2_times_127 ic_1 ?_
            refine lv_goto (tgt := 132) hx hb dX2_times_128 (by decide) ?_
            subst hr
            exact kp9 _ _ ls hP hS (lv_sub hl [0, 1, 2, 3, 4, 5, 6] rfl)
        replace hr := ep8
        refine lv_icmp_ne (tgt := 99) hx hb dX2_times_73 (by decide) (fun c_73 => ?_) (fun c_73 => ?_)
        · replace hr := hr.trans (if_neg c_73)
          refine lv_lload hx hb dX2_times_99 (lv_at hl 0 rfl) ?_
          refine lv_lload hx hb dX2_times_101 (lv_at hl 0 rfl) ?_
          refine lv_iload_n hx hb dX2_times_103 rfl (lv_at hl 5 rfl) ?_
          refine g_RS (As := [.long v7, .int sz]) (rest := [.long v7]) hC (m_X2_signed v7 sz _ rfl) (va_cwS 2 hts cw_X2_122 rfl rfl rfl hd_X2_signed ⟨Nat.le_of_ble_eq_true rfl, Nat.le_of_ble_eq_true rfl⟩) g_Kst0 trivial trivial ⟨Nat.zero_le _, Nat.zero_le _⟩ rfl hl.1 rfl (Nat.le_of_ble_eq_true rfl) dX2_times_104 ?_
          refine lq_ne (tgt := 115) hx hb dX2_times_107 dX2_times_108 (by decide) (fun c_107 => ?_) (fun c_107 => ?_)
          · replace hr := hr.trans (if_neg c_107)
            refine lv_iconst (v := (0 : Int32)) hx hb dX2_times_115 ic_0 ?_
            subst hr
            exact kp8 _ _ ls hP hS (lv_sub hl [0, 1, 2, 3, 4, 5] rfl)
          · replace hr := hr.trans (if_pos c_107)
            refine lv_iconst (v := (1 : Int32)) hx hb dX2_times_111 ic_1 ?_
            refine lv_goto (tgt := 116) hx hb dX2_times_112 (by decide) ?_
            subst hr
            exact kp8 _ _ ls hP hS (lv_sub hl [0, 1, 2, 3, 4, 5] rfl)
        · replace hr := hr.trans (if_pos c_73)
          refine lv_lload_n hx hb dX2_times_76 rfl (lv_at hl 2 rfl) ?_
          refine lv_lload hx hb dX2_times_77 (lv_at hl 1 rfl) ?_
          refine g_RS (As := [.long v4, .long p5.1]) (rest := []) hC (m_X2_upperSigned v4 p5.1 _ rfl) (va_cwS 2 hts cw_X2_206 rfl rfl rfl hd_X2_upperSigned ⟨Nat.le_of_ble_eq_true rfl, Nat.le_of_ble_eq_true rfl⟩) g_Kst0 trivial trivial ⟨Nat.zero_le _, Nat.zero_le _⟩ rfl hl.1 rfl (Nat.le_of_ble_eq_true rfl) dX2_times_79 ?_
          refine lv_lload hx hb dX2_times_82 (lv_at hl 0 rfl) ?_
          refine lv_bipush (v := (63 : Int32)) hx hb dX2_times_84 bp_63 ?_
          refine lv_lshr (v := (lshr_ v7 (63 : Int32))) hx hb dX2_times_86 rfl ?_
          refine lq_ne (tgt := 95) hx hb dX2_times_87 dX2_times_88 (by decide) (fun c_87 => ?_) (fun c_87 => ?_)
          · replace hr := hr.trans (if_neg c_87)
            refine lv_iconst (v := (0 : Int32)) hx hb dX2_times_95 ic_0 ?_
            refine lv_goto (tgt := 116) hx hb dX2_times_96 (by decide) ?_
            subst hr
            exact kp8 _ _ ls hP hS (lv_sub hl [0, 1, 2, 3, 4, 5] rfl)
          · replace hr := hr.trans (if_pos c_87)
            refine lv_iconst (v := (1 : Int32)) hx hb dX2_times_91 ic_1 ?_
            refine lv_goto (tgt := 116) hx hb dX2_times_92 (by decide) ?_
            subst hr
            exact kp8 _ _ ls hP hS (lv_sub hl [0, 1, 2, 3, 4, 5] rfl)
      replace hr := ep5
      refine lv_if_eq (tgt := 52) hx hb dX2_times_39 (by decide) (fun c_39 => ?_) (fun c_39 => ?_)
      · replace hr := hr.trans (if_pos c_39)
        refine lv_aload_n hx hb dX2_times_52 rfl (lv_at hl 2 rfl) ?_
        refine lv_iconst (v := (1 : Int32)) hx hb dX2_times_53 ic_1 ?_
        refine lv_iload_n hx hb dX2_times_54 rfl (lv_at hl 3 rfl) ?_
        obtain ⟨g6, eg6⟩ : ∃ z, z = x_get K (1 : Int32) sz g3.2 := ⟨_, rfl⟩
        replace hr := hr.trans (bnd_eq eg6)
        refine g_UV1 (As := [.int (1 : Int32), .int sz]) (rest := []) hC (m_X2_get hI (K := K) (d := g3.2) (1 : Int32) sz g6 eg6 (show ¬ ((1 : Int32) < 0 ∨ 3 ≤ (1 : Int32).toNatClampNeg) by decide) hgd) (cwV 2 hts cw_X2_160 rfl rfl rfl hd_X2_get ⟨Nat.le_of_ble_eq_true rfl, Nat.le_of_ble_eq_true rfl⟩) xKst (va_recv hK hP (ci := 2) (q0 := 4) rfl rfl) hP hKp ⟨Nat.zero_le _, Nat.zero_le _⟩ hS (fun _ h => h) rfl hl.1 rfl (Nat.le_of_ble_eq_true rfl) dX2_times_55 (fun H locs hP hS => ?_)
        have hP : va_P D xcl (XW ad ca K g6.2) H := hP
        refine lv_iload_n hx hb dX2_times_58 rfl (lv_at hl 3 rfl) ?_
        refine g_RS (As := [.long g6.1, .int sz]) (rest := []) hC (m_X2_signed g6.1 sz _ rfl) (va_cwS 2 hts cw_X2_122 rfl rfl rfl hd_X2_signed ⟨Nat.le_of_ble_eq_true rfl, Nat.le_of_ble_eq_true rfl⟩) g_Kst0 trivial trivial ⟨Nat.zero_le _, Nat.zero_le _⟩ rfl hl.1 rfl (Nat.le_of_ble_eq_true rfl) dX2_times_59 ?_
        subst hr
        exact kp5 _ _ ls hP hS (lv_sub hl [0, 1, 2, 3] rfl)
      · replace hr := hr.trans (if_neg c_39)
        refine lv_aload_n hx hb dX2_times_42 rfl (lv_at hl 2 rfl) ?_
        refine xg_4_3 hx hb hts hown hK hP (hts _ q231) dX2_times_43 ?_
        refine xgn_9_9 hx hb hts hown hK hP (xq_q203 hN) dX2_times_46 ?_
        refine lv_goto (tgt := 62) hx hb dX2_times_49 (by decide) ?_
        subst hr
        exact kp5 _ _ ls hP hS (lv_sub hl [0, 1, 2, 3] rfl)
    replace hr := ep2
    refine lv_if_eq (tgt := 28) hx hb dX2_times_21 (by decide) (fun c_21 => ?_) (fun c_21 => ?_)
    · replace hr := hr.trans (if_pos c_21)
      refine lv_iconst (v := (0 : Int32)) hx hb dX2_times_28 ic_0 ?_
      subst hr
      exact kp2 _ _ ls hP hS (lv_sub hl [0, 1, 2] rfl)
    · replace hr := hr.trans (if_neg c_21)
      refine lv_iconst (v := (1 : Int32)) hx hb dX2_times_24 ic_1 ?_
      refine lv_goto (tgt := 29) hx hb dX2_times_25 (by decide) ?_
      subst hr
      exact kp2 _ _ ls hP hS (lv_sub hl [0, 1, 2] rfl)
  replace hr := ep1
  refine lv_icmp_ne (tgt := 17) hx hb dX2_times_10 (by decide) (fun c_10 => ?_) (fun c_10 => ?_)
  · replace hr := hr.trans (if_neg c_10)
    refine lv_iconst (v := (0 : Int32)) hx hb dX2_times_17 ic_0 ?_
    subst hr
    exact kp1 _ _ ls hP hS (lv_sub hl [0, 1] rfl)
  · replace hr := hr.trans (if_pos c_10)
    refine lv_iconst (v := (1 : Int32)) hx hb dX2_times_13 ic_1 ?_
    refine lv_goto (tgt := 18) hx hb dX2_times_14 (by decide) ?_
    subst hr
    exact kp1 _ _ ls hP hS (lv_sub hl [0, 1] rfl)
def x_product (sg : Bool) (sz : Int32) (y : Int64) (d : XD) : XD := if (dx_stop d) = 0 then (bnd (α := Int64) ((x_cut ((dx_r d) (0 : Int32).toNatClampNeg) sz)) fun v1 => if sz = (8 : Int32) then (bnd (α := Int64) ((v1 * y)) fun v8 => bnd (α := Int64) (if (b2i sg) = 0 then (x_upper v1 y) else (x_upperSigned v1 y)) fun p9 => bnd (α := Bool) (if (b2i sg) = 0 then (if p9 = (0 : Int64) then false else true) else (if p9 = (lshr_ v8 (63 : Int32)) then false else true)) fun p10 => bnd (x_mark (2049 : Int32) p10 d) fun g11 => bnd (dx_r_ (vp_updL (dx_r g11) (0 : Int32).toNatClampNeg v8) g11) fun d12 => bnd (dx_r_ (vp_updL (dx_r d12) (2 : Int32).toNatClampNeg p9) d12) fun d13 => d13) else (bnd (α := Int64) (if (b2i sg) = 0 then (v1 * y) else ((x_signed v1 sz) * (x_signed y sz))) fun p2 => bnd (α := Bool) (if (b2i sg) = 0 then (if (lushr_ p2 ((8 : Int32) * sz)) = (0 : Int64) then false else true) else (if p2 = (x_signed p2 sz) then false else true)) fun p3 => bnd (x_mark (2049 : Int32) p3 d) fun g4 => if sz = (1 : Int32) then (bnd (dx_r_ (vp_updL (dx_r g4) (0 : Int32).toNatClampNeg ((((dx_r g4) (0 : Int32).toNatClampNeg) &&& (-65536 : Int64)) ||| (p2 &&& (65535 : Int64)))) g4) fun d7 => d7) else (bnd (dx_r_ (vp_updL (dx_r g4) (0 : Int32).toNatClampNeg (x_cut p2 (4 : Int32))) g4) fun d5 => bnd (dx_r_ (vp_updL (dx_r d5) (2 : Int32).toNatClampNeg (x_cut (lshr_ p2 (32 : Int32)) (4 : Int32))) d5) fun d6 => d6))) else d
abbrev rm_X2_product : Room := { frames := 2, cells := 0, slots := 0, locals := 58 }
set_option maxHeartbeats 4000000 in
set_option maxRecDepth 100000 in
theorem m_X2_product {l : Launch} {D : va_G} {ad : Nat → Nat} {ca : Nat → ClassId} (hI : xInj ad) {K : XK} {d : XD} (sg : Bool) (sz : Int32) (y : Int64) (RES : XD) (hr : RES = x_product sg sz y d) : g_U l yX2_product (ws_ yX2_product cX2_product 11 none) rm_X2_product [.ref (ad 4), .int (b2i sg), .int sz, .long y] (xKp D ca) (xB D ad ca K d) none (xB D ad ca K RES) (xA ad) := by
  refine g_ofU (by decide) (Nat.le_of_ble_eq_true rfl) ?_
  intro p e s m args below meth c ls Q hF hB hKp hl hQ
  obtain ⟨hx, hb, -, -, hml, hown, hts⟩ := id hF
  have hown : s.vm.findClass RX2 = some m.cls := hown
  have hC : CallFix p m c cX2_product 11 s args lw_all RX2 := ⟨hx, hb, hml, hown, hts⟩
  obtain ⟨hK, hN⟩ := id hKp
  have hP : va_P D xcl (XW ad ca K d) s.heap := hB
  have hS : va_S (xA ad) s.heap s.heap [] := va_S.rf
  have hl : lv_has ls 11 [(0, .ref (ad 4)), (1, .int (b2i sg)), (2, .int sz), (3, .long y)] := hl
  unfold x_product at hr
  refine lv_aload_n hx hb dX2_product_0 rfl (lv_at hl 0 rfl) ?_
  refine xg_4_9 hx hb hts hown hK hP (hts _ q242) dX2_product_1 ?_
  refine lv_if_eq (tgt := 8) hx hb dX2_product_4 (by decide) (fun c_4 => ?_) (fun c_4 => ?_)
  · replace hr := hr.trans (if_pos c_4)
    refine lv_aload_n hx hb dX2_product_8 rfl (lv_at hl 0 rfl) ?_
    refine xg_4_4 hx hb hts hown hK hP (hts _ q233) dX2_product_9 ?_
    refine lv_iconst (v := (0 : Int32)) hx hb dX2_product_12 ic_0 ?_
    refine xl_12 hx hb hK hP (show ¬ ((0 : Int32) < 0 ∨ 16 ≤ (0 : Int32).toNatClampNeg) by decide) dX2_product_13 ?_
    refine lv_iload_n hx hb dX2_product_14 rfl (lv_at hl 2 rfl) ?_
    refine g_RS (As := [.long ((dx_r d) (0 : Int32).toNatClampNeg), .int sz]) (rest := []) hC (m_X2_cut ((dx_r d) (0 : Int32).toNatClampNeg) sz _ rfl) (va_cwS 2 hts cw_X2_110 rfl rfl rfl hd_X2_cut ⟨Nat.le_of_ble_eq_true rfl, Nat.le_of_ble_eq_true rfl⟩) g_Kst0 trivial trivial ⟨Nat.zero_le _, Nat.zero_le _⟩ rfl hl.1 rfl (Nat.le_of_ble_eq_true rfl) dX2_product_15 ?_
    refine lv_topl (fun v1 ev1 => ?_)
    replace hr := hr.trans (bnd_eq ev1)
    refine lv_lstore (lv' := [(5, .long v1), (0, .ref (ad 4)), (1, .int (b2i sg)), (2, .int sz), (3, .long y)]) hx hb dX2_product_18 hl (by decide) rfl (fun ls hl => ?_)
    refine lv_iload_n hx hb dX2_product_20 rfl (lv_at hl 3 rfl) ?_
    refine lv_bipush (v := (8 : Int32)) hx hb dX2_product_21 bp_8 ?_
    refine lv_icmp_ne (tgt := 112) hx hb dX2_product_23 (by decide) (fun c_23 => ?_) (fun c_23 => ?_)
    · replace hr := hr.trans (if_neg c_23)
      refine lv_iload_n hx hb dX2_product_112 rfl (lv_at hl 2 rfl) ?_
      obtain ⟨p2, ep2⟩ : ∃ z : Int64, z = (if (b2i sg) = 0 then (v1 * y) else ((x_signed v1 sz) * (x_signed y sz))) := ⟨_, rfl⟩
      replace hr := hr.trans (bnd_eq ep2)
      have kp2 : ∀ (H : Heap) (locs : List Loc) (ls : Array Slot), va_P D xcl (XW ad ca K d) H → va_S (xA ad) s.heap H locs → lv_has ls 11 [(5, .long v1), (0, .ref (ad 4)), (1, .int (b2i sg)), (2, .int sz), (3, .long y)] → W p l e rm_X2_product s m args below meth c H locs 0 0 Q (F0 m 135 ls [.long p2]) := by
        intro H locs ls hP hS hl
        refine lv_lstore (lv' := [(7, .long p2), (5, .long v1), (0, .ref (ad 4)), (1, .int (b2i sg)), (2, .int sz), (3, .long y)]) hx hb dX2_product_135 hl (by decide) rfl (fun ls hl => ?_)
        refine lv_aload_n hx hb dX2_product_137 rfl (lv_at hl 2 rfl) ?_
        refine lv_sipush (v := (2049 : Int32)) hx hb dX2_product_138 sp_2049 ?_
        refine lv_iload_n hx hb dX2_product_141 rfl (lv_at hl 3 rfl) ?_
        obtain ⟨p3, ep3⟩ : ∃ z : Bool, z = (if (b2i sg) = 0 then (if (lushr_ p2 ((8 : Int32) * sz)) = (0 : Int64) then false else true) else (if p2 = (x_signed p2 sz) then false else true)) := ⟨_, rfl⟩
        replace hr := hr.trans (bnd_eq ep3)
        have kp3 : ∀ (H : Heap) (locs : List Loc) (ls : Array Slot), va_P D xcl (XW ad ca K d) H → va_S (xA ad) s.heap H locs → lv_has ls 11 [(7, .long p2), (5, .long v1), (0, .ref (ad 4)), (1, .int (b2i sg)), (2, .int sz), (3, .long y)] → W p l e rm_X2_product s m args below meth c H locs 0 0 Q (F0 m 182 ls [.int (b2i p3), .int (2049 : Int32), .ref (ad 4)]) := by
          intro H locs ls hP hS hl
          obtain ⟨g4, eg4⟩ : ∃ z, z = x_mark (2049 : Int32) p3 d := ⟨_, rfl⟩
          replace hr := hr.trans (bnd_eq eg4)
          refine g_UV0 (As := [.int (2049 : Int32), .int (b2i p3)]) (rest := []) hC (m_X2_mark hI (K := K) (d := d) (2049 : Int32) p3 g4 eg4) (cwV 2 hts cw_X2_125 rfl rfl rfl hd_X2_mark ⟨Nat.le_of_ble_eq_true rfl, Nat.le_of_ble_eq_true rfl⟩) xKst (va_recv hK hP (ci := 2) (q0 := 4) rfl rfl) hP hKp ⟨Nat.zero_le _, Nat.zero_le _⟩ hS (fun _ h => h) rfl hl.1 rfl (Nat.le_of_ble_eq_true rfl) dX2_product_182 (fun H locs hP hS => ?_)
          have hP : va_P D xcl (XW ad ca K g4) H := hP
          refine lv_iload_n hx hb dX2_product_185 rfl (lv_at hl 4 rfl) ?_
          refine lv_iconst (v := (1 : Int32)) hx hb dX2_product_186 ic_1 ?_
          refine lv_icmp_ne (tgt := 216) hx hb dX2_product_187 (by decide) (fun c_187 => ?_) (fun c_187 => ?_)
          · replace hr := hr.trans (if_neg c_187)
            refine lv_aload_n hx hb dX2_product_216 rfl (lv_at hl 2 rfl) ?_
            refine xg_4_4 hx hb hts hown hK hP (hts _ q233) dX2_product_217 ?_
            refine lv_iconst (v := (0 : Int32)) hx hb dX2_product_220 ic_0 ?_
            refine lv_lload hx hb dX2_product_221 (lv_at hl 0 rfl) ?_
            refine lv_iconst (v := (4 : Int32)) hx hb dX2_product_223 ic_4 ?_
            refine g_RS (As := [.long p2, .int (4 : Int32)]) (rest := [.int (0 : Int32), .ref (ad 12)]) hC (m_X2_cut p2 (4 : Int32) _ rfl) (va_cwS 2 hts cw_X2_110 rfl rfl rfl hd_X2_cut ⟨Nat.le_of_ble_eq_true rfl, Nat.le_of_ble_eq_true rfl⟩) g_Kst0 trivial trivial ⟨Nat.zero_le _, Nat.zero_le _⟩ rfl hl.1 rfl (Nat.le_of_ble_eq_true rfl) dX2_product_224 ?_
            refine xs_12 hx hb hK hI hP hS (show ¬ ((0 : Int32) < 0 ∨ 16 ≤ (0 : Int32).toNatClampNeg) by decide) dX2_product_227 (fun d5 ed5 H locs hP hS => ?_)
            replace hr := hr.trans (bnd_eq ed5)
            refine lv_aload_n hx hb dX2_product_228 rfl (lv_at hl 2 rfl) ?_
            refine xg_4_4 hx hb hts hown hK hP (hts _ q233) dX2_product_229 ?_
            refine lv_iconst (v := (2 : Int32)) hx hb dX2_product_232 ic_2 ?_
            refine lv_lload hx hb dX2_product_233 (lv_at hl 0 rfl) ?_
            refine lv_bipush (v := (32 : Int32)) hx hb dX2_product_235 bp_32 ?_
            refine lv_lshr (v := (lshr_ p2 (32 : Int32))) hx hb dX2_product_237 rfl ?_
            refine lv_iconst (v := (4 : Int32)) hx hb dX2_product_238 ic_4 ?_
            refine g_RS (As := [.long (lshr_ p2 (32 : Int32)), .int (4 : Int32)]) (rest := [.int (2 : Int32), .ref (ad 12)]) hC (m_X2_cut (lshr_ p2 (32 : Int32)) (4 : Int32) _ rfl) (va_cwS 2 hts cw_X2_110 rfl rfl rfl hd_X2_cut ⟨Nat.le_of_ble_eq_true rfl, Nat.le_of_ble_eq_true rfl⟩) g_Kst0 trivial trivial ⟨Nat.zero_le _, Nat.zero_le _⟩ rfl hl.1 rfl (Nat.le_of_ble_eq_true rfl) dX2_product_239 ?_
            refine xs_12 hx hb hK hI hP hS (show ¬ ((2 : Int32) < 0 ∨ 16 ≤ (2 : Int32).toNatClampNeg) by decide) dX2_product_242 (fun d6 ed6 H locs hP hS => ?_)
            replace hr := hr.trans (bnd_eq ed6)
            exact g_endUv (Pic := (fun u => xB D ad ca K u)) (u := d6) hF hQ hr hP hS dX2_product_243
          · replace hr := hr.trans (if_pos c_187)
            refine lv_aload_n hx hb dX2_product_190 rfl (lv_at hl 2 rfl) ?_
            refine xg_4_4 hx hb hts hown hK hP (hts _ q233) dX2_product_191 ?_
            refine lv_iconst (v := (0 : Int32)) hx hb dX2_product_194 ic_0 ?_
            refine lv_aload_n hx hb dX2_product_195 rfl (lv_at hl 2 rfl) ?_
            refine xg_4_4 hx hb hts hown hK hP (hts _ q233) dX2_product_196 ?_
            refine lv_iconst (v := (0 : Int32)) hx hb dX2_product_199 ic_0 ?_
            refine xl_12 hx hb hK hP (show ¬ ((0 : Int32) < 0 ∨ 16 ≤ (0 : Int32).toNatClampNeg) by decide) dX2_product_200 ?_
            refine lv_ldc2 hx hb hown (hts _ q489) dX2_product_201 ?_
            refine lv_land hx hb dX2_product_204 ?_
            refine lv_lload hx hb dX2_product_205 (lv_at hl 0 rfl) ?_
            refine lv_ldc2 hx hb hown (hts _ q490) dX2_product_207 ?_
            refine lv_land hx hb dX2_product_210 ?_
            refine lv_lor hx hb dX2_product_211 ?_
            refine xs_12 hx hb hK hI hP hS (show ¬ ((0 : Int32) < 0 ∨ 16 ≤ (0 : Int32).toNatClampNeg) by decide) dX2_product_212 (fun d7 ed7 H locs hP hS => ?_)
            replace hr := hr.trans (bnd_eq ed7)
            refine lv_goto (tgt := 243) hx hb dX2_product_213 (by decide) ?_
            exact g_endUv (Pic := (fun u => xB D ad ca K u)) (u := d7) hF hQ hr hP hS dX2_product_243
        replace hr := ep3
        refine lv_if_eq (tgt := 165) hx hb dX2_product_142 (by decide) (fun c_142 => ?_) (fun c_142 => ?_)
        · replace hr := hr.trans (if_pos c_142)
          refine lv_lload hx hb dX2_product_165 (lv_at hl 0 rfl) ?_
          refine lv_bipush (v := (8 : Int32)) hx hb dX2_product_167 bp_8 ?_
          refine lv_iload_n hx hb dX2_product_169 rfl (lv_at hl 4 rfl) ?_
          refine lv_imul hx hb dX2_product_170 ?_
          refine lv_lushr (v := (lushr_ p2 ((8 : Int32) * sz))) hx hb dX2_product_171 rfl ?_
          refine lv_lconst (v := (0 : Int64)) hx hb dX2_product_172 lc_0 ?_
          refine lq_eq (tgt := 181) hx hb dX2_product_173 dX2_product_174 (by decide) (fun c_173 => ?_) (fun c_173 => ?_)
          · replace hr := hr.trans (if_pos c_173)
            refine lv_iconst (v := (0 : Int32)) hx hb dX2_product_181 ic_0 ?_
            subst hr
            exact kp3 _ _ ls hP hS (lv_sub hl [0, 1, 2, 3, 4, 5] rfl)
          · replace hr := hr.trans (if_neg c_173)
            refine lv_iconst (v := (1 : Int32)) hx hb dX2_product_177 ic_1 ?_
            refine lv_goto (tgt := 182) hx hb dX2_product_178 (by decide) ?_
            subst hr
            exact kp3 _ _ ls hP hS (lv_sub hl [0, 1, 2, 3, 4, 5] rfl)
        · replace hr := hr.trans (if_neg c_142)
          refine lv_lload hx hb dX2_product_145 (lv_at hl 0 rfl) ?_
          refine lv_lload hx hb dX2_product_147 (lv_at hl 0 rfl) ?_
          refine lv_iload_n hx hb dX2_product_149 rfl (lv_at hl 4 rfl) ?_
          refine g_RS (As := [.long p2, .int sz]) (rest := [.long p2, .int (2049 : Int32), .ref (ad 4)]) hC (m_X2_signed p2 sz _ rfl) (va_cwS 2 hts cw_X2_122 rfl rfl rfl hd_X2_signed ⟨Nat.le_of_ble_eq_true rfl, Nat.le_of_ble_eq_true rfl⟩) g_Kst0 trivial trivial ⟨Nat.zero_le _, Nat.zero_le _⟩ rfl hl.1 rfl (Nat.le_of_ble_eq_true rfl) dX2_product_150 ?_
          refine lq_eq (tgt := 161) hx hb dX2_product_153 dX2_product_154 (by decide) (fun c_153 => ?_) (fun c_153 => ?_)
          · replace hr := hr.trans (if_pos c_153)
            refine lv_iconst (v := (0 : Int32)) hx hb dX2_product_161 ic_0 ?_
            refine lv_goto (tgt := 182) hx hb dX2_product_162 (by decide) ?_
            subst hr
            exact kp3 _ _ ls hP hS (lv_sub hl [0, 1, 2, 3, 4, 5] rfl)
          · replace hr := hr.trans (if_neg c_153)
            refine lv_iconst (v := (1 : Int32)) hx hb dX2_product_157 ic_1 ?_
            refine lv_goto (tgt := 182) hx hb dX2_product_158 (by decide) ?_
            subst hr
            exact kp3 _ _ ls hP hS (lv_sub hl [0, 1, 2, 3, 4, 5] rfl)
      replace hr := ep2
      refine lv_if_eq (tgt := 131) hx hb dX2_product_113 (by decide) (fun c_113 => ?_) (fun c_113 => ?_)
      · replace hr := hr.trans (if_pos c_113)
        refine lv_lload hx hb dX2_product_131 (lv_at hl 0 rfl) ?_
        refine lv_lload_n hx hb dX2_product_133 rfl (lv_at hl 4 rfl) ?_
        refine lv_lmul hx hb dX2_product_134 ?_
        subst hr
        exact kp2 _ _ ls hP hS (lv_sub hl [0, 1, 2, 3, 4] rfl)
      · replace hr := hr.trans (if_neg c_113)
        refine lv_lload hx hb dX2_product_116 (lv_at hl 0 rfl) ?_
        refine lv_iload_n hx hb dX2_product_118 rfl (lv_at hl 3 rfl) ?_
        refine g_RS (As := [.long v1, .int sz]) (rest := []) hC (m_X2_signed v1 sz _ rfl) (va_cwS 2 hts cw_X2_122 rfl rfl rfl hd_X2_signed ⟨Nat.le_of_ble_eq_true rfl, Nat.le_of_ble_eq_true rfl⟩) g_Kst0 trivial trivial ⟨Nat.zero_le _, Nat.zero_le _⟩ rfl hl.1 rfl (Nat.le_of_ble_eq_true rfl) dX2_product_119 ?_
        refine lv_lload_n hx hb dX2_product_122 rfl (lv_at hl 4 rfl) ?_
        refine lv_iload_n hx hb dX2_product_123 rfl (lv_at hl 3 rfl) ?_
        refine g_RS (As := [.long y, .int sz]) (rest := [.long (x_signed v1 sz)]) hC (m_X2_signed y sz _ rfl) (va_cwS 2 hts cw_X2_122 rfl rfl rfl hd_X2_signed ⟨Nat.le_of_ble_eq_true rfl, Nat.le_of_ble_eq_true rfl⟩) g_Kst0 trivial trivial ⟨Nat.zero_le _, Nat.zero_le _⟩ rfl hl.1 rfl (Nat.le_of_ble_eq_true rfl) dX2_product_124 ?_
        refine lv_lmul hx hb dX2_product_127 ?_
        refine lv_goto (tgt := 135) hx hb dX2_product_128 (by decide) ?_
        subst hr
        exact kp2 _ _ ls hP hS (lv_sub hl [0, 1, 2, 3, 4] rfl)
    · replace hr := hr.trans (if_pos c_23)
      refine lv_lload hx hb dX2_product_26 (lv_at hl 0 rfl) ?_
      refine lv_lload_n hx hb dX2_product_28 rfl (lv_at hl 4 rfl) ?_
      refine lv_lmul hx hb dX2_product_29 ?_
      refine lv_topl (fun v8 ev8 => ?_)
      replace hr := hr.trans (bnd_eq ev8)
      refine lv_lstore (lv' := [(7, .long v8), (5, .long v1), (0, .ref (ad 4)), (1, .int (b2i sg)), (2, .int sz), (3, .long y)]) hx hb dX2_product_30 hl (by decide) rfl (fun ls hl => ?_)
      refine lv_iload_n hx hb dX2_product_32 rfl (lv_at hl 3 rfl) ?_
      obtain ⟨p9, ep9⟩ : ∃ z : Int64, z = (if (b2i sg) = 0 then (x_upper v1 y) else (x_upperSigned v1 y)) := ⟨_, rfl⟩
      replace hr := hr.trans (bnd_eq ep9)
      have kp9 : ∀ (H : Heap) (locs : List Loc) (ls : Array Slot), va_P D xcl (XW ad ca K d) H → va_S (xA ad) s.heap H locs → lv_has ls 11 [(7, .long v8), (5, .long v1), (0, .ref (ad 4)), (1, .int (b2i sg)), (2, .int sz), (3, .long y)] → W p l e rm_X2_product s m args below meth c H locs 0 0 Q (F0 m 51 ls [.long p9]) := by
        intro H locs ls hP hS hl
        refine lv_lstore (lv' := [(9, .long p9), (7, .long v8), (5, .long v1), (0, .ref (ad 4)), (1, .int (b2i sg)), (2, .int sz), (3, .long y)]) hx hb dX2_product_51 hl (by decide) rfl (fun ls hl => ?_)
        refine lv_aload_n hx hb dX2_product_53 rfl (lv_at hl 3 rfl) ?_
        refine lv_sipush (v := (2049 : Int32)) hx hb dX2_product_54 sp_2049 ?_
        refine lv_iload_n hx hb dX2_product_57 rfl (lv_at hl 4 rfl) ?_
        obtain ⟨p10, ep10⟩ : ∃ z : Bool, z = (if (b2i sg) = 0 then (if p9 = (0 : Int64) then false else true) else (if p9 = (lshr_ v8 (63 : Int32)) then false else true)) := ⟨_, rfl⟩
        replace hr := hr.trans (bnd_eq ep10)
        have kp10 : ∀ (H : Heap) (locs : List Loc) (ls : Array Slot), va_P D xcl (XW ad ca K d) H → va_S (xA ad) s.heap H locs → lv_has ls 11 [(9, .long p9), (7, .long v8), (5, .long v1), (0, .ref (ad 4)), (1, .int (b2i sg)), (2, .int sz), (3, .long y)] → W p l e rm_X2_product s m args below meth c H locs 0 0 Q (F0 m 92 ls [.int (b2i p10), .int (2049 : Int32), .ref (ad 4)]) := by
          intro H locs ls hP hS hl
          obtain ⟨g11, eg11⟩ : ∃ z, z = x_mark (2049 : Int32) p10 d := ⟨_, rfl⟩
          replace hr := hr.trans (bnd_eq eg11)
          refine g_UV0 (As := [.int (2049 : Int32), .int (b2i p10)]) (rest := []) hC (m_X2_mark hI (K := K) (d := d) (2049 : Int32) p10 g11 eg11) (cwV 2 hts cw_X2_125 rfl rfl rfl hd_X2_mark ⟨Nat.le_of_ble_eq_true rfl, Nat.le_of_ble_eq_true rfl⟩) xKst (va_recv hK hP (ci := 2) (q0 := 4) rfl rfl) hP hKp ⟨Nat.zero_le _, Nat.zero_le _⟩ hS (fun _ h => h) rfl hl.1 rfl (Nat.le_of_ble_eq_true rfl) dX2_product_92 (fun H locs hP hS => ?_)
          have hP : va_P D xcl (XW ad ca K g11) H := hP
          refine lv_aload_n hx hb dX2_product_95 rfl (lv_at hl 3 rfl) ?_
          refine xg_4_4 hx hb hts hown hK hP (hts _ q233) dX2_product_96 ?_
          refine lv_iconst (v := (0 : Int32)) hx hb dX2_product_99 ic_0 ?_
          refine lv_lload hx hb dX2_product_100 (lv_at hl 1 rfl) ?_
          refine xs_12 hx hb hK hI hP hS (show ¬ ((0 : Int32) < 0 ∨ 16 ≤ (0 : Int32).toNatClampNeg) by decide) dX2_product_102 (fun d12 ed12 H locs hP hS => ?_)
          replace hr := hr.trans (bnd_eq ed12)
          refine lv_aload_n hx hb dX2_product_103 rfl (lv_at hl 3 rfl) ?_
          refine xg_4_4 hx hb hts hown hK hP (hts _ q233) dX2_product_104 ?_
          refine lv_iconst (v := (2 : Int32)) hx hb dX2_product_107 ic_2 ?_
          refine lv_lload hx hb dX2_product_108 (lv_at hl 0 rfl) ?_
          refine xs_12 hx hb hK hI hP hS (show ¬ ((2 : Int32) < 0 ∨ 16 ≤ (2 : Int32).toNatClampNeg) by decide) dX2_product_110 (fun d13 ed13 H locs hP hS => ?_)
          replace hr := hr.trans (bnd_eq ed13)
          exact g_endUv (Pic := (fun u => xB D ad ca K u)) (u := d13) hF hQ hr hP hS dX2_product_111
        replace hr := ep10
        refine lv_if_eq (tgt := 80) hx hb dX2_product_58 (by decide) (fun c_58 => ?_) (fun c_58 => ?_)
        · replace hr := hr.trans (if_pos c_58)
          refine lv_lload hx hb dX2_product_80 (lv_at hl 0 rfl) ?_
          refine lv_lconst (v := (0 : Int64)) hx hb dX2_product_82 lc_0 ?_
          refine lq_eq (tgt := 91) hx hb dX2_product_83 dX2_product_84 (by decide) (fun c_83 => ?_) (fun c_83 => ?_)
          · replace hr := hr.trans (if_pos c_83)
            refine lv_iconst (v := (0 : Int32)) hx hb dX2_product_91 ic_0 ?_
            subst hr
            exact kp10 _ _ ls hP hS (lv_sub hl [0, 1, 2, 3, 4, 5, 6] rfl)
          · replace hr := hr.trans (if_neg c_83)
            refine lv_iconst (v := (1 : Int32)) hx hb dX2_product_87 ic_1 ?_
            refine lv_goto (tgt := 92) hx hb dX2_product_88 (by decide) ?_
            subst hr
            exact kp10 _ _ ls hP hS (lv_sub hl [0, 1, 2, 3, 4, 5, 6] rfl)
        · replace hr := hr.trans (if_neg c_58)
          refine lv_lload hx hb dX2_product_61 (lv_at hl 0 rfl) ?_
          refine lv_lload hx hb dX2_product_63 (lv_at hl 1 rfl) ?_
          refine lv_bipush (v := (63 : Int32)) hx hb dX2_product_65 bp_63 ?_
          refine lv_lshr (v := (lshr_ v8 (63 : Int32))) hx hb dX2_product_67 rfl ?_
          refine lq_eq (tgt := 76) hx hb dX2_product_68 dX2_product_69 (by decide) (fun c_68 => ?_) (fun c_68 => ?_)
          · replace hr := hr.trans (if_pos c_68)
            refine lv_iconst (v := (0 : Int32)) hx hb dX2_product_76 ic_0 ?_
            refine lv_goto (tgt := 92) hx hb dX2_product_77 (by decide) ?_
            subst hr
            exact kp10 _ _ ls hP hS (lv_sub hl [0, 1, 2, 3, 4, 5, 6] rfl)
          · replace hr := hr.trans (if_neg c_68)
            refine lv_iconst (v := (1 : Int32)) hx hb dX2_product_72 ic_1 ?_
            refine lv_goto (tgt := 92) hx hb dX2_product_73 (by decide) ?_
            subst hr
            exact kp10 _ _ ls hP hS (lv_sub hl [0, 1, 2, 3, 4, 5, 6] rfl)
      replace hr := ep9
      refine lv_if_eq (tgt := 45) hx hb dX2_product_33 (by decide) (fun c_33 => ?_) (fun c_33 => ?_)
      · replace hr := hr.trans (if_pos c_33)
        refine lv_lload hx hb dX2_product_45 (lv_at hl 1 rfl) ?_
        refine lv_lload_n hx hb dX2_product_47 rfl (lv_at hl 5 rfl) ?_
        refine g_RS (As := [.long v1, .long y]) (rest := []) hC (m_X2_upper v1 y _ rfl) (va_cwS 2 hts cw_X2_202 rfl rfl rfl hd_X2_upper ⟨Nat.le_of_ble_eq_true rfl, Nat.le_of_ble_eq_true rfl⟩) g_Kst0 trivial trivial ⟨Nat.zero_le _, Nat.zero_le _⟩ rfl hl.1 rfl (Nat.le_of_ble_eq_true rfl) dX2_product_48 ?_
        subst hr
        exact kp9 _ _ ls hP hS (lv_sub hl [0, 1, 2, 3, 4, 5] rfl)
      · replace hr := hr.trans (if_neg c_33)
        refine lv_lload hx hb dX2_product_36 (lv_at hl 1 rfl) ?_
        refine lv_lload_n hx hb dX2_product_38 rfl (lv_at hl 5 rfl) ?_
        refine g_RS (As := [.long v1, .long y]) (rest := []) hC (m_X2_upperSigned v1 y _ rfl) (va_cwS 2 hts cw_X2_206 rfl rfl rfl hd_X2_upperSigned ⟨Nat.le_of_ble_eq_true rfl, Nat.le_of_ble_eq_true rfl⟩) g_Kst0 trivial trivial ⟨Nat.zero_le _, Nat.zero_le _⟩ rfl hl.1 rfl (Nat.le_of_ble_eq_true rfl) dX2_product_39 ?_
        refine lv_goto (tgt := 51) hx hb dX2_product_42 (by decide) ?_
        subst hr
        exact kp9 _ _ ls hP hS (lv_sub hl [0, 1, 2, 3, 4, 5] rfl)
  · replace hr := hr.trans (if_neg c_4)
    exact g_endUv (Pic := (fun u => xB D ad ca K u)) (u := d) hF hQ hr hP hS dX2_product_7
def x_divided (sz : Int32) (q : Int64) (left : Int64) (d : XD) : XD := if sz = (1 : Int32) then (bnd (dx_r_ (vp_updL (dx_r d) (0 : Int32).toNatClampNeg (((((dx_r d) (0 : Int32).toNatClampNeg) &&& (-65536 : Int64)) ||| (lshl_ (left &&& (255 : Int64)) (8 : Int32))) ||| (q &&& (255 : Int64)))) d) fun d3 => d3) else (bnd (x_setRegister (0 : Int32) sz q d) fun g1 => bnd (x_setRegister (2 : Int32) sz left g1) fun g2 => g2)
abbrev rm_X2_divided : Room := { frames := 2, cells := 0, slots := 0, locals := 46 }
set_option maxHeartbeats 4000000 in
set_option maxRecDepth 100000 in
theorem m_X2_divided {l : Launch} {D : va_G} {ad : Nat → Nat} {ca : Nat → ClassId} (hI : xInj ad) {K : XK} {d : XD} (sz : Int32) (q : Int64) (left : Int64) (RES : XD) (hr : RES = x_divided sz q left d) : g_U l yX2_divided (ws_ yX2_divided cX2_divided 6 none) rm_X2_divided [.ref (ad 4), .int sz, .long q, .long left] (xKp D ca) (xB D ad ca K d) none (xB D ad ca K RES) (xA ad) := by
  refine g_ofU (by decide) (Nat.le_of_ble_eq_true rfl) ?_
  intro p e s m args below meth c ls Q hF hB hKp hl hQ
  obtain ⟨hx, hb, -, -, hml, hown, hts⟩ := id hF
  have hown : s.vm.findClass RX2 = some m.cls := hown
  have hC : CallFix p m c cX2_divided 6 s args lw_all RX2 := ⟨hx, hb, hml, hown, hts⟩
  obtain ⟨hK, hN⟩ := id hKp
  have hP : va_P D xcl (XW ad ca K d) s.heap := hB
  have hS : va_S (xA ad) s.heap s.heap [] := va_S.rf
  have hl : lv_has ls 6 [(0, .ref (ad 4)), (1, .int sz), (2, .long q), (4, .long left)] := hl
  unfold x_divided at hr
  refine lv_iload_n hx hb dX2_divided_0 rfl (lv_at hl 1 rfl) ?_
  refine lv_iconst (v := (1 : Int32)) hx hb dX2_divided_1 ic_1 ?_
  refine lv_icmp_ne (tgt := 40) hx hb dX2_divided_2 (by decide) (fun c_2 => ?_) (fun c_2 => ?_)
  · replace hr := hr.trans (if_neg c_2)
    refine lv_aload_n hx hb dX2_divided_40 rfl (lv_at hl 0 rfl) ?_
    refine lv_iconst (v := (0 : Int32)) hx hb dX2_divided_41 ic_0 ?_
    refine lv_iload_n hx hb dX2_divided_42 rfl (lv_at hl 1 rfl) ?_
    refine lv_lload_n hx hb dX2_divided_43 rfl (lv_at hl 2 rfl) ?_
    obtain ⟨g1, eg1⟩ : ∃ z, z = x_setRegister (0 : Int32) sz q d := ⟨_, rfl⟩
    replace hr := hr.trans (bnd_eq eg1)
    refine g_UV0 (As := [.int (0 : Int32), .int sz, .long q]) (rest := []) hC (m_X2_setRegister hI (K := K) (d := d) (0 : Int32) sz q g1 eg1 (show ¬ ((0 : Int32) < 0 ∨ 16 ≤ (0 : Int32).toNatClampNeg) by decide)) (cwV 3 hts cw_X2_118 rfl rfl rfl hd_X2_setRegister ⟨Nat.le_of_ble_eq_true rfl, Nat.le_of_ble_eq_true rfl⟩) xKst (va_recv hK hP (ci := 2) (q0 := 4) rfl rfl) hP hKp ⟨Nat.zero_le _, Nat.zero_le _⟩ hS (fun _ h => h) rfl hl.1 rfl (Nat.le_of_ble_eq_true rfl) dX2_divided_44 (fun H locs hP hS => ?_)
    have hP : va_P D xcl (XW ad ca K g1) H := hP
    refine lv_aload_n hx hb dX2_divided_47 rfl (lv_at hl 0 rfl) ?_
    refine lv_iconst (v := (2 : Int32)) hx hb dX2_divided_48 ic_2 ?_
    refine lv_iload_n hx hb dX2_divided_49 rfl (lv_at hl 1 rfl) ?_
    refine lv_lload hx hb dX2_divided_50 (lv_at hl 3 rfl) ?_
    obtain ⟨g2, eg2⟩ : ∃ z, z = x_setRegister (2 : Int32) sz left g1 := ⟨_, rfl⟩
    replace hr := hr.trans (bnd_eq eg2)
    refine g_UV0 (As := [.int (2 : Int32), .int sz, .long left]) (rest := []) hC (m_X2_setRegister hI (K := K) (d := g1) (2 : Int32) sz left g2 eg2 (show ¬ ((2 : Int32) < 0 ∨ 16 ≤ (2 : Int32).toNatClampNeg) by decide)) (cwV 3 hts cw_X2_118 rfl rfl rfl hd_X2_setRegister ⟨Nat.le_of_ble_eq_true rfl, Nat.le_of_ble_eq_true rfl⟩) xKst (va_recv hK hP (ci := 2) (q0 := 4) rfl rfl) hP hKp ⟨Nat.zero_le _, Nat.zero_le _⟩ hS (fun _ h => h) rfl hl.1 rfl (Nat.le_of_ble_eq_true rfl) dX2_divided_52 (fun H locs hP hS => ?_)
    have hP : va_P D xcl (XW ad ca K g2) H := hP
    exact g_endUv (Pic := (fun u => xB D ad ca K u)) (u := g2) hF hQ hr hP hS dX2_divided_55
  · replace hr := hr.trans (if_pos c_2)
    refine lv_aload_n hx hb dX2_divided_5 rfl (lv_at hl 0 rfl) ?_
    refine xg_4_4 hx hb hts hown hK hP (hts _ q233) dX2_divided_6 ?_
    refine lv_iconst (v := (0 : Int32)) hx hb dX2_divided_9 ic_0 ?_
    refine lv_aload_n hx hb dX2_divided_10 rfl (lv_at hl 0 rfl) ?_
    refine xg_4_4 hx hb hts hown hK hP (hts _ q233) dX2_divided_11 ?_
    refine lv_iconst (v := (0 : Int32)) hx hb dX2_divided_14 ic_0 ?_
    refine xl_12 hx hb hK hP (show ¬ ((0 : Int32) < 0 ∨ 16 ≤ (0 : Int32).toNatClampNeg) by decide) dX2_divided_15 ?_
    refine lv_ldc2 hx hb hown (hts _ q489) dX2_divided_16 ?_
    refine lv_land hx hb dX2_divided_19 ?_
    refine lv_lload hx hb dX2_divided_20 (lv_at hl 3 rfl) ?_
    refine lv_ldc2 hx hb hown (hts _ q423) dX2_divided_22 ?_
    refine lv_land hx hb dX2_divided_25 ?_
    refine lv_bipush (v := (8 : Int32)) hx hb dX2_divided_26 bp_8 ?_
    refine lv_lshl (v := (lshl_ (left &&& (255 : Int64)) (8 : Int32))) hx hb dX2_divided_28 rfl ?_
    refine lv_lor hx hb dX2_divided_29 ?_
    refine lv_lload_n hx hb dX2_divided_30 rfl (lv_at hl 2 rfl) ?_
    refine lv_ldc2 hx hb hown (hts _ q423) dX2_divided_31 ?_
    refine lv_land hx hb dX2_divided_34 ?_
    refine lv_lor hx hb dX2_divided_35 ?_
    refine xs_12 hx hb hK hI hP hS (show ¬ ((0 : Int32) < 0 ∨ 16 ≤ (0 : Int32).toNatClampNeg) by decide) dX2_divided_36 (fun d3 ed3 H locs hP hS => ?_)
    replace hr := hr.trans (bnd_eq ed3)
    refine lv_goto (tgt := 55) hx hb dX2_divided_37 (by decide) ?_
    exact g_endUv (Pic := (fun u => xB D ad ca K u)) (u := d3) hF hQ hr hP hS dX2_divided_55
def x_wide_L118 (sg : Bool) (p1 : Bool) (p2 : Bool) (p4 : Int64) (p5 : Int64) : Nat → Int64 → Int64 → Int32 → XD → XD
  | 0, w118_10, w118_16, w118_18, dl118 => dl118
  | n + 1, w118_10, w118_16, w118_18, dl118 => if w118_18 < 0 then (bnd (α := Bool) (if (b2i p1) = (b2i p2) then false else true) fun p6 => bnd (α := Bool) (if (b2i sg) = 0 then true else (if (b2i p6) = 0 then (if w118_16 < (0 : Int64) then false else true) else (if 0 < (j_compareUnsigned w118_16 (-9223372036854775808 : Int64)) then false else true))) fun p7 => if (b2i p7) = 0 then (bnd (x_fail (5 : Int32) (0 : Int64) dl118) fun g8 => g8) else (bnd (α := Int64) (if (b2i p6) = 0 then w118_16 else (-w118_16)) fun p9 => if (b2i p1) = 0 then (bnd (x_divided (8 : Int32) p9 w118_10 dl118) fun g10 => g10) else (bnd (x_divided (8 : Int32) p9 (-w118_10) dl118) fun g11 => g11))) else (bnd (α := Bool) (if (0 : Int64) ≤ w118_10 then false else true) fun p12 => bnd (α := Int64) (((lshl_ w118_10 (1 : Int32)) ||| ((lushr_ p4 w118_18) &&& (1 : Int64)))) fun v13 => bnd (α := Bool) (if (b2i p12) = 0 then (if (j_compareUnsigned v13 p5) < 0 then false else true) else true) fun p14 => bnd (α := Int64) (if (b2i p14) = 0 then v13 else (v13 - p5)) fun p15 => if (b2i p14) = 0 then (bnd (α := Int64) (((lshl_ w118_16 (1 : Int32)) ||| (0 : Int64))) fun v16 => bnd (α := Int32) ((w118_18 + (-1 : Int32))) fun v17 => x_wide_L118 sg p1 p2 p4 p5 n p15 v16 v17 dl118) else (bnd (α := Int64) (((lshl_ w118_16 (1 : Int32)) ||| (1 : Int64))) fun v18 => bnd (α := Int32) ((w118_18 + (-1 : Int32))) fun v19 => x_wide_L118 sg p1 p2 p4 p5 n p15 v18 v19 dl118))
theorem x_wide_L118_s (sg : Bool) (p1 : Bool) (p2 : Bool) (p4 : Int64) (p5 : Int64) (n : Nat) (w118_10 : Int64) (w118_16 : Int64) (w118_18 : Int32) (dl118 : XD) : x_wide_L118 sg p1 p2 p4 p5 (n + 1) w118_10 w118_16 w118_18 dl118 = if w118_18 < 0 then (bnd (α := Bool) (if (b2i p1) = (b2i p2) then false else true) fun p6 => bnd (α := Bool) (if (b2i sg) = 0 then true else (if (b2i p6) = 0 then (if w118_16 < (0 : Int64) then false else true) else (if 0 < (j_compareUnsigned w118_16 (-9223372036854775808 : Int64)) then false else true))) fun p7 => if (b2i p7) = 0 then (bnd (x_fail (5 : Int32) (0 : Int64) dl118) fun g8 => g8) else (bnd (α := Int64) (if (b2i p6) = 0 then w118_16 else (-w118_16)) fun p9 => if (b2i p1) = 0 then (bnd (x_divided (8 : Int32) p9 w118_10 dl118) fun g10 => g10) else (bnd (x_divided (8 : Int32) p9 (-w118_10) dl118) fun g11 => g11))) else (bnd (α := Bool) (if (0 : Int64) ≤ w118_10 then false else true) fun p12 => bnd (α := Int64) (((lshl_ w118_10 (1 : Int32)) ||| ((lushr_ p4 w118_18) &&& (1 : Int64)))) fun v13 => bnd (α := Bool) (if (b2i p12) = 0 then (if (j_compareUnsigned v13 p5) < 0 then false else true) else true) fun p14 => bnd (α := Int64) (if (b2i p14) = 0 then v13 else (v13 - p5)) fun p15 => if (b2i p14) = 0 then (bnd (α := Int64) (((lshl_ w118_16 (1 : Int32)) ||| (0 : Int64))) fun v16 => bnd (α := Int32) ((w118_18 + (-1 : Int32))) fun v17 => x_wide_L118 sg p1 p2 p4 p5 n p15 v16 v17 dl118) else (bnd (α := Int64) (((lshl_ w118_16 (1 : Int32)) ||| (1 : Int64))) fun v18 => bnd (α := Int32) ((w118_18 + (-1 : Int32))) fun v19 => x_wide_L118 sg p1 p2 p4 p5 n p15 v18 v19 dl118)) := rfl
def x_wide (sg : Bool) (high : Int64) (low : Int64) (y : Int64) (d : XD) : XD := bnd (α := Bool) (if (b2i sg) = 0 then false else (if (0 : Int64) ≤ high then false else true)) fun p1 => bnd (α := Bool) (if (b2i sg) = 0 then false else (if (0 : Int64) ≤ y then false else true)) fun p2 => bnd (α := Int64) (if (b2i p1) = 0 then high else (if low = (0 : Int64) then ((high ^^^ (-1 : Int64)) + (1 : Int64)) else ((high ^^^ (-1 : Int64)) + (0 : Int64)))) fun p3 => bnd (α := Int64) (if (b2i p1) = 0 then low else (-low)) fun p4 => bnd (α := Int64) (if (b2i p2) = 0 then y else (-y)) fun p5 => if (j_compareUnsigned p3 p5) < 0 then (x_wide_L118 sg p1 p2 p4 p5 (mDn (63 : Int32) + 1) p3 (0 : Int64) (63 : Int32) d) else (bnd (x_fail (5 : Int32) (0 : Int64) d) fun g20 => g20)
abbrev rm_X2_wide : Room := { frames := 3, cells := 0, slots := 0, locals := 71 }
set_option maxHeartbeats 4000000 in
set_option maxRecDepth 100000 in
theorem m_X2_wide {l : Launch} {D : va_G} {ad : Nat → Nat} {ca : Nat → ClassId} (hI : xInj ad) {K : XK} {d : XD} (sg : Bool) (high : Int64) (low : Int64) (y : Int64) (RES : XD) (hr : RES = x_wide sg high low y d) : g_U l yX2_wide (ws_ yX2_wide cX2_wide 21 none) rm_X2_wide [.ref (ad 4), .int (b2i sg), .long high, .long low, .long y] (xKp D ca) (xB D ad ca K d) none (xB D ad ca K RES) (xA ad) := by
  refine g_ofU (by decide) (Nat.le_of_ble_eq_true rfl) ?_
  intro p e s m args below meth c ls Q hF hB hKp hl hQ
  obtain ⟨hx, hb, -, -, hml, hown, hts⟩ := id hF
  have hown : s.vm.findClass RX2 = some m.cls := hown
  have hC : CallFix p m c cX2_wide 21 s args lw_all RX2 := ⟨hx, hb, hml, hown, hts⟩
  obtain ⟨hK, hN⟩ := id hKp
  have hP : va_P D xcl (XW ad ca K d) s.heap := hB
  have hS : va_S (xA ad) s.heap s.heap [] := va_S.rf
  have hl : lv_has ls 21 [(0, .ref (ad 4)), (1, .int (b2i sg)), (2, .long high), (4, .long low), (6, .long y)] := hl
  unfold x_wide at hr
  refine lv_iload_n hx hb dX2_wide_0 rfl (lv_at hl 1 rfl) ?_
  obtain ⟨p1, ep1⟩ : ∃ z : Bool, z = (if (b2i sg) = 0 then false else (if (0 : Int64) ≤ high then false else true)) := ⟨_, rfl⟩
  replace hr := hr.trans (bnd_eq ep1)
  have kp1 : ∀ (H : Heap) (locs : List Loc) (ls : Array Slot), va_P D xcl (XW ad ca K d) H → va_S (xA ad) s.heap H locs → lv_has ls 21 [(0, .ref (ad 4)), (1, .int (b2i sg)), (2, .long high), (4, .long low), (6, .long y)] → W p l e rm_X2_wide s m args below meth c H locs 0 0 Q (F0 m 15 ls [.int (b2i p1)]) := by
    intro H locs ls hP hS hl
    refine lv_istore (lv' := [(8, .int (b2i p1)), (0, .ref (ad 4)), (1, .int (b2i sg)), (2, .long high), (4, .long low), (6, .long y)]) hx hb dX2_wide_15 hl (by decide) rfl (fun ls hl => ?_)
    refine lv_iload_n hx hb dX2_wide_17 rfl (lv_at hl 2 rfl) ?_
    obtain ⟨p2, ep2⟩ : ∃ z : Bool, z = (if (b2i sg) = 0 then false else (if (0 : Int64) ≤ y then false else true)) := ⟨_, rfl⟩
    replace hr := hr.trans (bnd_eq ep2)
    have kp2 : ∀ (H : Heap) (locs : List Loc) (ls : Array Slot), va_P D xcl (XW ad ca K d) H → va_S (xA ad) s.heap H locs → lv_has ls 21 [(8, .int (b2i p1)), (0, .ref (ad 4)), (1, .int (b2i sg)), (2, .long high), (4, .long low), (6, .long y)] → W p l e rm_X2_wide s m args below meth c H locs 0 0 Q (F0 m 33 ls [.int (b2i p2)]) := by
      intro H locs ls hP hS hl
      refine lv_istore (lv' := [(9, .int (b2i p2)), (8, .int (b2i p1)), (0, .ref (ad 4)), (1, .int (b2i sg)), (2, .long high), (4, .long low), (6, .long y)]) hx hb dX2_wide_33 hl (by decide) rfl (fun ls hl => ?_)
      refine lv_iload hx hb dX2_wide_35 (lv_at hl 1 rfl) ?_
      obtain ⟨p3, ep3⟩ : ∃ z : Int64, z = (if (b2i p1) = 0 then high else (if low = (0 : Int64) then ((high ^^^ (-1 : Int64)) + (1 : Int64)) else ((high ^^^ (-1 : Int64)) + (0 : Int64)))) := ⟨_, rfl⟩
      replace hr := hr.trans (bnd_eq ep3)
      have kp3 : ∀ (H : Heap) (locs : List Loc) (ls : Array Slot), va_P D xcl (XW ad ca K d) H → va_S (xA ad) s.heap H locs → lv_has ls 21 [(9, .int (b2i p2)), (8, .int (b2i p1)), (0, .ref (ad 4)), (1, .int (b2i sg)), (2, .long high), (4, .long low), (6, .long y)] → W p l e rm_X2_wide s m args below meth c H locs 0 0 Q (F0 m 62 ls [.long p3]) := by
        intro H locs ls hP hS hl
        refine lv_lstore (lv' := [(10, .long p3), (9, .int (b2i p2)), (8, .int (b2i p1)), (0, .ref (ad 4)), (1, .int (b2i sg)), (2, .long high), (4, .long low), (6, .long y)]) hx hb dX2_wide_62 hl (by decide) rfl (fun ls hl => ?_)
        refine lv_iload hx hb dX2_wide_64 (lv_at hl 2 rfl) ?_
        obtain ⟨p4, ep4⟩ : ∃ z : Int64, z = (if (b2i p1) = 0 then low else (-low)) := ⟨_, rfl⟩
        replace hr := hr.trans (bnd_eq ep4)
        have kp4 : ∀ (H : Heap) (locs : List Loc) (ls : Array Slot), va_P D xcl (XW ad ca K d) H → va_S (xA ad) s.heap H locs → lv_has ls 21 [(10, .long p3), (9, .int (b2i p2)), (8, .int (b2i p1)), (0, .ref (ad 4)), (1, .int (b2i sg)), (2, .long high), (4, .long low), (6, .long y)] → W p l e rm_X2_wide s m args below meth c H locs 0 0 Q (F0 m 77 ls [.long p4]) := by
          intro H locs ls hP hS hl
          refine lv_lstore (lv' := [(12, .long p4), (10, .long p3), (9, .int (b2i p2)), (8, .int (b2i p1)), (0, .ref (ad 4)), (1, .int (b2i sg)), (2, .long high), (4, .long low), (6, .long y)]) hx hb dX2_wide_77 hl (by decide) rfl (fun ls hl => ?_)
          refine lv_iload hx hb dX2_wide_79 (lv_at hl 2 rfl) ?_
          obtain ⟨p5, ep5⟩ : ∃ z : Int64, z = (if (b2i p2) = 0 then y else (-y)) := ⟨_, rfl⟩
          replace hr := hr.trans (bnd_eq ep5)
          have kp5 : ∀ (H : Heap) (locs : List Loc) (ls : Array Slot), va_P D xcl (XW ad ca K d) H → va_S (xA ad) s.heap H locs → lv_has ls 21 [(12, .long p4), (10, .long p3), (9, .int (b2i p2)), (8, .int (b2i p1)), (0, .ref (ad 4)), (1, .int (b2i sg)), (2, .long high), (4, .long low), (6, .long y)] → W p l e rm_X2_wide s m args below meth c H locs 0 0 Q (F0 m 92 ls [.long p5]) := by
            intro H locs ls hP hS hl
            refine lv_lstore (lv' := [(14, .long p5), (12, .long p4), (10, .long p3), (9, .int (b2i p2)), (8, .int (b2i p1)), (0, .ref (ad 4)), (1, .int (b2i sg)), (2, .long high), (4, .long low), (6, .long y)]) hx hb dX2_wide_92 hl (by decide) rfl (fun ls hl => ?_)
            refine lv_lload hx hb dX2_wide_94 (lv_at hl 2 rfl) ?_
            refine lv_lload hx hb dX2_wide_96 (lv_at hl 0 rfl) ?_
            refine g_RS (As := [.long p3, .long p5]) (rest := []) hC (m_J0_compareUnsigned p3 p5 _ rfl) (va_cwS 2 hts cw_X2_228 rfl rfl rfl hd_J0_compareUnsigned ⟨Nat.le_of_ble_eq_true rfl, Nat.le_of_ble_eq_true rfl⟩) g_Kst0 trivial trivial ⟨Nat.zero_le _, Nat.zero_le _⟩ rfl hl.1 rfl (Nat.le_of_ble_eq_true rfl) dX2_wide_98 ?_
            refine lv_if_lt (tgt := 111) hx hb dX2_wide_101 (by decide) (fun c_101 => ?_) (fun c_101 => ?_)
            · replace hr := hr.trans (if_pos c_101)
              refine lv_lconst (v := (0 : Int64)) hx hb dX2_wide_111 lc_0 ?_
              refine lv_lstore (lv' := [(16, .long (0 : Int64)), (14, .long p5), (12, .long p4), (10, .long p3), (9, .int (b2i p2)), (8, .int (b2i p1)), (0, .ref (ad 4)), (1, .int (b2i sg)), (2, .long high), (4, .long low), (6, .long y)]) hx hb dX2_wide_112 hl (by decide) rfl (fun ls hl => ?_)
              refine lv_bipush (v := (63 : Int32)) hx hb dX2_wide_114 bp_63 ?_
              refine lv_istore (lv' := [(18, .int (63 : Int32)), (16, .long (0 : Int64)), (14, .long p5), (12, .long p4), (10, .long p3), (9, .int (b2i p2)), (8, .int (b2i p1)), (0, .ref (ad 4)), (1, .int (b2i sg)), (2, .long high), (4, .long low), (6, .long y)]) hx hb dX2_wide_116 hl (by decide) rfl (fun ls hl => ?_)
              have lp118 : ∀ (n : Nat) (w118_10 : Int64) (w118_16 : Int64) (w118_18 : Int32) (dl118 : XD) (H : Heap) (locs : List Loc) (ls : Array Slot), mDn w118_18 < n → RES = x_wide_L118 sg p1 p2 p4 p5 n w118_10 w118_16 w118_18 dl118 → va_P D xcl (XW ad ca K dl118) H → va_S (xA ad) s.heap H locs → lv_has ls 21 [(18, .int w118_18), (16, .long w118_16), (14, .long p5), (12, .long p4), (10, .long w118_10), (9, .int (b2i p2)), (8, .int (b2i p1)), (0, .ref (ad 4)), (1, .int (b2i sg)), (2, .long high), (4, .long low), (6, .long y)] → W p l e rm_X2_wide s m args below meth c H locs 0 0 Q (F0 m 118 ls []) := by
                intro n
                induction n with
                | zero =>
                  intro w118_10 w118_16 w118_18 dl118 H locs ls hm
                  exact absurd hm (Nat.not_lt_zero _)
                | succ n ih =>
                  intro w118_10 w118_16 w118_18 dl118 H locs ls hm  hr hP hS hl
                  replace hr := hr.trans (x_wide_L118_s sg p1 p2 p4 p5 n w118_10 w118_16 w118_18 dl118)
                  refine lv_iload hx hb dX2_wide_118 (lv_at hl 0 rfl) ?_
                  refine lv_if_lt (tgt := 213) hx hb dX2_wide_120 (by decide) (fun c_120 => ?_) (fun c_120 => ?_)
                  · replace hr := hr.trans (if_pos c_120)
                    refine lv_iload hx hb dX2_wide_213 (lv_at hl 6 rfl) ?_
                    refine lv_iload hx hb dX2_wide_215 (lv_at hl 5 rfl) ?_
                    obtain ⟨p6, ep6⟩ : ∃ z : Bool, z = (if (b2i p1) = (b2i p2) then false else true) := ⟨_, rfl⟩
                    replace hr := hr.trans (bnd_eq ep6)
                    have kp6 : ∀ (H : Heap) (locs : List Loc) (ls : Array Slot), va_P D xcl (XW ad ca K dl118) H → va_S (xA ad) s.heap H locs → lv_has ls 21 [(18, .int w118_18), (16, .long w118_16), (14, .long p5), (12, .long p4), (10, .long w118_10), (9, .int (b2i p2)), (8, .int (b2i p1)), (0, .ref (ad 4)), (1, .int (b2i sg)), (2, .long high), (4, .long low), (6, .long y)] → W p l e rm_X2_wide s m args below meth c H locs 0 0 Q (F0 m 225 ls [.int (b2i p6)]) := by
                      intro H locs ls hP hS hl
                      refine lv_istore (lv' := [(18, .int (b2i p6)), (16, .long w118_16), (14, .long p5), (12, .long p4), (10, .long w118_10), (9, .int (b2i p2)), (8, .int (b2i p1)), (0, .ref (ad 4)), (1, .int (b2i sg)), (2, .long high), (4, .long low), (6, .long y)]) hx hb dX2_wide_225 hl (by decide) rfl (fun ls hl => ?_)
                      refine lv_iload_n hx hb dX2_wide_227 rfl (lv_at hl 8 rfl) ?_
                      obtain ⟨p7, ep7⟩ : ∃ z : Bool, z = (if (b2i sg) = 0 then true else (if (b2i p6) = 0 then (if w118_16 < (0 : Int64) then false else true) else (if 0 < (j_compareUnsigned w118_16 (-9223372036854775808 : Int64)) then false else true))) := ⟨_, rfl⟩
                      replace hr := hr.trans (bnd_eq ep7)
                      have kp7 : ∀ (H : Heap) (locs : List Loc) (ls : Array Slot), va_P D xcl (XW ad ca K dl118) H → va_S (xA ad) s.heap H locs → lv_has ls 21 [(18, .int (b2i p6)), (16, .long w118_16), (14, .long p5), (12, .long p4), (10, .long w118_10), (9, .int (b2i p2)), (8, .int (b2i p1)), (0, .ref (ad 4)), (1, .int (b2i sg)), (2, .long high), (4, .long low), (6, .long y)] → W p l e rm_X2_wide s m args below meth c H locs 0 0 Q (F0 m 262 ls [.int (b2i p7)]) := by
                        intro H locs ls hP hS hl
                        refine lv_istore (lv' := [(19, .int (b2i p7)), (18, .int (b2i p6)), (16, .long w118_16), (14, .long p5), (12, .long p4), (10, .long w118_10), (9, .int (b2i p2)), (8, .int (b2i p1)), (0, .ref (ad 4)), (1, .int (b2i sg)), (2, .long high), (4, .long low), (6, .long y)]) hx hb dX2_wide_262 hl (by decide) rfl (fun ls hl => ?_)
                        refine lv_iload hx hb dX2_wide_264 (lv_at hl 0 rfl) ?_
                        refine lv_if_eq (tgt := 304) hx hb dX2_wide_266 (by decide) (fun c_266 => ?_) (fun c_266 => ?_)
                        · replace hr := hr.trans (if_pos c_266)
                          refine lv_aload_n hx hb dX2_wide_304 rfl (lv_at hl 8 rfl) ?_
                          refine lv_iconst (v := (5 : Int32)) hx hb dX2_wide_305 ic_5 ?_
                          refine lv_lconst (v := (0 : Int64)) hx hb dX2_wide_306 lc_0 ?_
                          obtain ⟨g8, eg8⟩ : ∃ z, z = x_fail (5 : Int32) (0 : Int64) dl118 := ⟨_, rfl⟩
                          replace hr := hr.trans (bnd_eq eg8)
                          refine g_UV0 (As := [.int (5 : Int32), .long (0 : Int64)]) (rest := []) hC (m_X2_fail hI (K := K) (d := dl118) (5 : Int32) (0 : Int64) g8 eg8) (cwV 2 hts cw_X2_85 rfl rfl rfl hd_X2_fail ⟨Nat.le_of_ble_eq_true rfl, Nat.le_of_ble_eq_true rfl⟩) xKst (va_recv hK hP (ci := 2) (q0 := 4) rfl rfl) hP hKp ⟨Nat.zero_le _, Nat.zero_le _⟩ hS (fun _ h => h) rfl hl.1 rfl (Nat.le_of_ble_eq_true rfl) dX2_wide_307 (fun H locs hP hS => ?_)
                          have hP : va_P D xcl (XW ad ca K g8) H := hP
                          exact g_endUv (Pic := (fun u => xB D ad ca K u)) (u := g8) hF hQ hr hP hS dX2_wide_310
                        · replace hr := hr.trans (if_neg c_266)
                          refine lv_aload_n hx hb dX2_wide_269 rfl (lv_at hl 8 rfl) ?_
                          refine lv_bipush (v := (8 : Int32)) hx hb dX2_wide_270 bp_8 ?_
                          refine lv_iload hx hb dX2_wide_272 (lv_at hl 1 rfl) ?_
                          obtain ⟨p9, ep9⟩ : ∃ z : Int64, z = (if (b2i p6) = 0 then w118_16 else (-w118_16)) := ⟨_, rfl⟩
                          replace hr := hr.trans (bnd_eq ep9)
                          have kp9 : ∀ (H : Heap) (locs : List Loc) (ls : Array Slot), va_P D xcl (XW ad ca K dl118) H → va_S (xA ad) s.heap H locs → lv_has ls 21 [(19, .int (b2i p7)), (18, .int (b2i p6)), (16, .long w118_16), (14, .long p5), (12, .long p4), (10, .long w118_10), (9, .int (b2i p2)), (8, .int (b2i p1)), (0, .ref (ad 4)), (1, .int (b2i sg)), (2, .long high), (4, .long low), (6, .long y)] → W p l e rm_X2_wide s m args below meth c H locs 0 0 Q (F0 m 285 ls [.long p9, .int (8 : Int32), .ref (ad 4)]) := by
                            intro H locs ls hP hS hl
                            refine lv_iload hx hb dX2_wide_285 (lv_at hl 7 rfl) ?_
                            refine lv_if_eq (tgt := 296) hx hb dX2_wide_287 (by decide) (fun c_287 => ?_) (fun c_287 => ?_)
                            · replace hr := hr.trans (if_pos c_287)
                              refine lv_lload hx hb dX2_wide_296 (lv_at hl 5 rfl) ?_
                              obtain ⟨g10, eg10⟩ : ∃ z, z = x_divided (8 : Int32) p9 w118_10 dl118 := ⟨_, rfl⟩
                              replace hr := hr.trans (bnd_eq eg10)
                              refine g_UV0 (As := [.int (8 : Int32), .long p9, .long w118_10]) (rest := []) hC (m_X2_divided hI (K := K) (d := dl118) (8 : Int32) p9 w118_10 g10 eg10) (cwV 3 hts cw_X2_224 rfl rfl rfl hd_X2_divided ⟨Nat.le_of_ble_eq_true rfl, Nat.le_of_ble_eq_true rfl⟩) xKst (va_recv hK hP (ci := 2) (q0 := 4) rfl rfl) hP hKp ⟨Nat.zero_le _, Nat.zero_le _⟩ hS (fun _ h => h) rfl hl.1 rfl (Nat.le_of_ble_eq_true rfl) dX2_wide_298 (fun H locs hP hS => ?_)
                              have hP : va_P D xcl (XW ad ca K g10) H := hP
                              refine lv_goto (tgt := 310) hx hb dX2_wide_301 (by decide) ?_
                              exact g_endUv (Pic := (fun u => xB D ad ca K u)) (u := g10) hF hQ hr hP hS dX2_wide_310
                            · replace hr := hr.trans (if_neg c_287)
                              refine lv_lload hx hb dX2_wide_290 (lv_at hl 5 rfl) ?_
                              refine lv_lneg hx hb dX2_wide_292 ?_
                              refine lv_goto (tgt := 298) hx hb dX2_wide_293 (by decide) ?_
                              obtain ⟨g11, eg11⟩ : ∃ z, z = x_divided (8 : Int32) p9 (-w118_10) dl118 := ⟨_, rfl⟩
                              replace hr := hr.trans (bnd_eq eg11)
                              refine g_UV0 (As := [.int (8 : Int32), .long p9, .long (-w118_10)]) (rest := []) hC (m_X2_divided hI (K := K) (d := dl118) (8 : Int32) p9 (-w118_10) g11 eg11) (cwV 3 hts cw_X2_224 rfl rfl rfl hd_X2_divided ⟨Nat.le_of_ble_eq_true rfl, Nat.le_of_ble_eq_true rfl⟩) xKst (va_recv hK hP (ci := 2) (q0 := 4) rfl rfl) hP hKp ⟨Nat.zero_le _, Nat.zero_le _⟩ hS (fun _ h => h) rfl hl.1 rfl (Nat.le_of_ble_eq_true rfl) dX2_wide_298 (fun H locs hP hS => ?_)
                              have hP : va_P D xcl (XW ad ca K g11) H := hP
                              refine lv_goto (tgt := 310) hx hb dX2_wide_301 (by decide) ?_
                              exact g_endUv (Pic := (fun u => xB D ad ca K u)) (u := g11) hF hQ hr hP hS dX2_wide_310
                          replace hr := ep9
                          refine lv_if_eq (tgt := 283) hx hb dX2_wide_274 (by decide) (fun c_274 => ?_) (fun c_274 => ?_)
                          · replace hr := hr.trans (if_pos c_274)
                            refine lv_lload hx hb dX2_wide_283 (lv_at hl 2 rfl) ?_
                            subst hr
                            exact kp9 _ _ ls hP hS (lv_sub hl [0, 1, 2, 3, 4, 5, 6, 7, 8, 9, 10, 11, 12] rfl)
                          · replace hr := hr.trans (if_neg c_274)
                            refine lv_lload hx hb dX2_wide_277 (lv_at hl 2 rfl) ?_
                            refine lv_lneg hx hb dX2_wide_279 ?_
                            refine lv_goto (tgt := 285) hx hb dX2_wide_280 (by decide) ?_
                            subst hr
                            exact kp9 _ _ ls hP hS (lv_sub hl [0, 1, 2, 3, 4, 5, 6, 7, 8, 9, 10, 11, 12] rfl)
                      replace hr := ep7
                      refine lv_if_eq (tgt := 257) hx hb dX2_wide_228 (by decide) (fun c_228 => ?_) (fun c_228 => ?_)
                      · replace hr := hr.trans (if_pos c_228)
                        refine lv_iconst (v := (1 : Int32)) hx hb dX2_wide_257 ic_1 ?_
                        refine lv_goto (tgt := 262) hx hb dX2_wide_258 (by decide) ?_
                        subst hr
                        exact kp7 _ _ ls hP hS (lv_sub hl [0, 1, 2, 3, 4, 5, 6, 7, 8, 9, 10, 11] rfl)
                      · replace hr := hr.trans (if_neg c_228)
                        refine lv_iload hx hb dX2_wide_231 (lv_at hl 0 rfl) ?_
                        refine lv_if_eq (tgt := 250) hx hb dX2_wide_233 (by decide) (fun c_233 => ?_) (fun c_233 => ?_)
                        · replace hr := hr.trans (if_pos c_233)
                          refine lv_lload hx hb dX2_wide_250 (lv_at hl 1 rfl) ?_
                          refine lv_lconst (v := (0 : Int64)) hx hb dX2_wide_252 lc_0 ?_
                          refine lq_lt (tgt := 261) hx hb dX2_wide_253 dX2_wide_254 (by decide) (fun c_253 => ?_) (fun c_253 => ?_)
                          · replace hr := hr.trans (if_pos c_253)
                            refine lv_iconst (v := (0 : Int32)) hx hb dX2_wide_261 ic_0 ?_
                            subst hr
                            exact kp7 _ _ ls hP hS (lv_sub hl [0, 1, 2, 3, 4, 5, 6, 7, 8, 9, 10, 11] rfl)
                          · replace hr := hr.trans (if_neg c_253)
                            refine lv_iconst (v := (1 : Int32)) hx hb dX2_wide_257 ic_1 ?_
                            refine lv_goto (tgt := 262) hx hb dX2_wide_258 (by decide) ?_
                            subst hr
                            exact kp7 _ _ ls hP hS (lv_sub hl [0, 1, 2, 3, 4, 5, 6, 7, 8, 9, 10, 11] rfl)
                        · replace hr := hr.trans (if_neg c_233)
                          refine lv_lload hx hb dX2_wide_236 (lv_at hl 1 rfl) ?_
                          refine lv_ldc2 hx hb hown (hts _ q506) dX2_wide_238 ?_
                          refine g_RS (As := [.long w118_16, .long (-9223372036854775808 : Int64)]) (rest := []) hC (m_J0_compareUnsigned w118_16 (-9223372036854775808 : Int64) _ rfl) (va_cwS 2 hts cw_X2_228 rfl rfl rfl hd_J0_compareUnsigned ⟨Nat.le_of_ble_eq_true rfl, Nat.le_of_ble_eq_true rfl⟩) g_Kst0 trivial trivial ⟨Nat.zero_le _, Nat.zero_le _⟩ rfl hl.1 rfl (Nat.le_of_ble_eq_true rfl) dX2_wide_241 ?_
                          refine lv_if_gt (tgt := 261) hx hb dX2_wide_244 (by decide) (fun c_244 => ?_) (fun c_244 => ?_)
                          · replace hr := hr.trans (if_pos c_244)
                            refine lv_iconst (v := (0 : Int32)) hx hb dX2_wide_261 ic_0 ?_
                            subst hr
                            exact kp7 _ _ ls hP hS (lv_sub hl [0, 1, 2, 3, 4, 5, 6, 7, 8, 9, 10, 11] rfl)
                          · replace hr := hr.trans (if_neg c_244)
                            refine lv_goto (tgt := 257) hx hb dX2_wide_247 (by decide) ?_
                            refine lv_iconst (v := (1 : Int32)) hx hb dX2_wide_257 ic_1 ?_
                            refine lv_goto (tgt := 262) hx hb dX2_wide_258 (by decide) ?_
                            subst hr
                            exact kp7 _ _ ls hP hS (lv_sub hl [0, 1, 2, 3, 4, 5, 6, 7, 8, 9, 10, 11] rfl)
                    replace hr := ep6
                    refine lv_icmp_eq (tgt := 224) hx hb dX2_wide_217 (by decide) (fun c_217 => ?_) (fun c_217 => ?_)
                    · replace hr := hr.trans (if_pos c_217)
                      refine lv_iconst (v := (0 : Int32)) hx hb dX2_wide_224 ic_0 ?_
                      subst hr
                      exact kp6 _ _ ls hP hS (lv_sub hl [0, 1, 2, 3, 4, 5, 6, 7, 8, 9, 10, 11] rfl)
                    · replace hr := hr.trans (if_neg c_217)
                      refine lv_iconst (v := (1 : Int32)) hx hb dX2_wide_220 ic_1 ?_
                      refine lv_goto (tgt := 225) hx hb dX2_wide_221 (by decide) ?_
                      subst hr
                      exact kp6 _ _ ls hP hS (lv_sub hl [0, 1, 2, 3, 4, 5, 6, 7, 8, 9, 10, 11] rfl)
                  · replace hr := hr.trans (if_neg c_120)
                    refine lv_lload hx hb dX2_wide_123 (lv_at hl 4 rfl) ?_
                    refine lv_lconst (v := (0 : Int64)) hx hb dX2_wide_125 lc_0 ?_
                    obtain ⟨p12, ep12⟩ : ∃ z : Bool, z = (if (0 : Int64) ≤ w118_10 then false else true) := ⟨_, rfl⟩
                    replace hr := hr.trans (bnd_eq ep12)
                    have kp12 : ∀ (H : Heap) (locs : List Loc) (ls : Array Slot), va_P D xcl (XW ad ca K dl118) H → va_S (xA ad) s.heap H locs → lv_has ls 21 [(18, .int w118_18), (16, .long w118_16), (14, .long p5), (12, .long p4), (10, .long w118_10), (9, .int (b2i p2)), (8, .int (b2i p1)), (0, .ref (ad 4)), (1, .int (b2i sg)), (2, .long high), (4, .long low), (6, .long y)] → W p l e rm_X2_wide s m args below meth c H locs 0 0 Q (F0 m 135 ls [.int (b2i p12)]) := by
                      intro H locs ls hP hS hl
                      refine lv_istore (lv' := [(19, .int (b2i p12)), (18, .int w118_18), (16, .long w118_16), (14, .long p5), (12, .long p4), (10, .long w118_10), (9, .int (b2i p2)), (8, .int (b2i p1)), (0, .ref (ad 4)), (1, .int (b2i sg)), (2, .long high), (4, .long low), (6, .long y)]) hx hb dX2_wide_135 hl (by decide) rfl (fun ls hl => ?_)
                      refine lv_lload hx hb dX2_wide_137 (lv_at hl 5 rfl) ?_
                      refine lv_iconst (v := (1 : Int32)) hx hb dX2_wide_139 ic_1 ?_
                      refine lv_lshl (v := (lshl_ w118_10 (1 : Int32))) hx hb dX2_wide_140 rfl ?_
                      refine lv_lload hx hb dX2_wide_141 (lv_at hl 4 rfl) ?_
                      refine lv_iload hx hb dX2_wide_143 (lv_at hl 1 rfl) ?_
                      refine lv_lushr (v := (lushr_ p4 w118_18)) hx hb dX2_wide_145 rfl ?_
                      refine lv_lconst (v := (1 : Int64)) hx hb dX2_wide_146 lc_1 ?_
                      refine lv_land hx hb dX2_wide_147 ?_
                      refine lv_lor hx hb dX2_wide_148 ?_
                      refine lv_topl (fun v13 ev13 => ?_)
                      replace hr := hr.trans (bnd_eq ev13)
                      refine lv_lstore (lv' := [(10, .long v13), (19, .int (b2i p12)), (18, .int w118_18), (16, .long w118_16), (14, .long p5), (12, .long p4), (9, .int (b2i p2)), (8, .int (b2i p1)), (0, .ref (ad 4)), (1, .int (b2i sg)), (2, .long high), (4, .long low), (6, .long y)]) hx hb dX2_wide_149 hl (by decide) rfl (fun ls hl => ?_)
                      refine lv_iload hx hb dX2_wide_151 (lv_at hl 1 rfl) ?_
                      obtain ⟨p14, ep14⟩ : ∃ z : Bool, z = (if (b2i p12) = 0 then (if (j_compareUnsigned v13 p5) < 0 then false else true) else true) := ⟨_, rfl⟩
                      replace hr := hr.trans (bnd_eq ep14)
                      have kp14 : ∀ (H : Heap) (locs : List Loc) (ls : Array Slot), va_P D xcl (XW ad ca K dl118) H → va_S (xA ad) s.heap H locs → lv_has ls 21 [(10, .long v13), (19, .int (b2i p12)), (18, .int w118_18), (16, .long w118_16), (14, .long p5), (12, .long p4), (9, .int (b2i p2)), (8, .int (b2i p1)), (0, .ref (ad 4)), (1, .int (b2i sg)), (2, .long high), (4, .long low), (6, .long y)] → W p l e rm_X2_wide s m args below meth c H locs 0 0 Q (F0 m 171 ls [.int (b2i p14)]) := by
                        intro H locs ls hP hS hl
                        refine lv_istore (lv' := [(20, .int (b2i p14)), (10, .long v13), (19, .int (b2i p12)), (18, .int w118_18), (16, .long w118_16), (14, .long p5), (12, .long p4), (9, .int (b2i p2)), (8, .int (b2i p1)), (0, .ref (ad 4)), (1, .int (b2i sg)), (2, .long high), (4, .long low), (6, .long y)]) hx hb dX2_wide_171 hl (by decide) rfl (fun ls hl => ?_)
                        refine lv_iload hx hb dX2_wide_173 (lv_at hl 0 rfl) ?_
                        obtain ⟨p15, ep15⟩ : ∃ z : Int64, z = (if (b2i p14) = 0 then v13 else (v13 - p5)) := ⟨_, rfl⟩
                        replace hr := hr.trans (bnd_eq ep15)
                        have kp15 : ∀ (H : Heap) (locs : List Loc) (ls : Array Slot), va_P D xcl (XW ad ca K dl118) H → va_S (xA ad) s.heap H locs → lv_has ls 21 [(20, .int (b2i p14)), (10, .long v13), (19, .int (b2i p12)), (18, .int w118_18), (16, .long w118_16), (14, .long p5), (12, .long p4), (9, .int (b2i p2)), (8, .int (b2i p1)), (0, .ref (ad 4)), (1, .int (b2i sg)), (2, .long high), (4, .long low), (6, .long y)] → W p l e rm_X2_wide s m args below meth c H locs 0 0 Q (F0 m 188 ls [.long p15]) := by
                          intro H locs ls hP hS hl
                          refine lv_lstore (lv' := [(10, .long p15), (20, .int (b2i p14)), (19, .int (b2i p12)), (18, .int w118_18), (16, .long w118_16), (14, .long p5), (12, .long p4), (9, .int (b2i p2)), (8, .int (b2i p1)), (0, .ref (ad 4)), (1, .int (b2i sg)), (2, .long high), (4, .long low), (6, .long y)]) hx hb dX2_wide_188 hl (by decide) rfl (fun ls hl => ?_)
                          refine lv_lload hx hb dX2_wide_190 (lv_at hl 4 rfl) ?_
                          refine lv_iconst (v := (1 : Int32)) hx hb dX2_wide_192 ic_1 ?_
                          refine lv_lshl (v := (lshl_ w118_16 (1 : Int32))) hx hb dX2_wide_193 rfl ?_
                          refine lv_iload hx hb dX2_wide_194 (lv_at hl 1 rfl) ?_
                          refine lv_if_eq (tgt := 203) hx hb dX2_wide_196 (by decide) (fun c_196 => ?_) (fun c_196 => ?_)
                          · replace hr := hr.trans (if_pos c_196)
                            refine lv_lconst (v := (0 : Int64)) hx hb dX2_wide_203 lc_0 ?_
                            refine lv_lor hx hb dX2_wide_204 ?_
                            refine lv_topl (fun v16 ev16 => ?_)
                            replace hr := hr.trans (bnd_eq ev16)
                            refine lv_lstore (lv' := [(16, .long v16), (10, .long p15), (20, .int (b2i p14)), (19, .int (b2i p12)), (18, .int w118_18), (14, .long p5), (12, .long p4), (9, .int (b2i p2)), (8, .int (b2i p1)), (0, .ref (ad 4)), (1, .int (b2i sg)), (2, .long high), (4, .long low), (6, .long y)]) hx hb dX2_wide_205 hl (by decide) rfl (fun ls hl => ?_)
                            obtain ⟨v17, ev17⟩ : ∃ z : Int32, z = (w118_18 + (-1 : Int32)) := ⟨_, rfl⟩
                            replace hr := hr.trans (bnd_eq ev17)
                            refine lv_iinc (v := v17) (lv' := [(18, .int v17), (16, .long v16), (10, .long p15), (20, .int (b2i p14)), (19, .int (b2i p12)), (14, .long p5), (12, .long p4), (9, .int (b2i p2)), (8, .int (b2i p1)), (0, .ref (ad 4)), (1, .int (b2i sg)), (2, .long high), (4, .long low), (6, .long y)]) hx hb dX2_wide_207 hl (k := 4) rfl (by rw [ev17, ← ic_m1]) (by decide) rfl (fun ls hl => ?_)
                            refine lv_goto (tgt := 118) hx hb dX2_wide_210 (by decide) ?_
                            exact ih p15 v16 v17 dl118 _ _ ls (mDn_dec c_120 hm ev17) hr hP hS (lv_sub hl [0, 1, 5, 6, 2, 7, 8, 9, 10, 11, 12, 13] rfl)
                          · replace hr := hr.trans (if_neg c_196)
                            refine lv_lconst (v := (1 : Int64)) hx hb dX2_wide_199 lc_1 ?_
                            refine lv_goto (tgt := 204) hx hb dX2_wide_200 (by decide) ?_
                            refine lv_lor hx hb dX2_wide_204 ?_
                            refine lv_topl (fun v18 ev18 => ?_)
                            replace hr := hr.trans (bnd_eq ev18)
                            refine lv_lstore (lv' := [(16, .long v18), (10, .long p15), (20, .int (b2i p14)), (19, .int (b2i p12)), (18, .int w118_18), (14, .long p5), (12, .long p4), (9, .int (b2i p2)), (8, .int (b2i p1)), (0, .ref (ad 4)), (1, .int (b2i sg)), (2, .long high), (4, .long low), (6, .long y)]) hx hb dX2_wide_205 hl (by decide) rfl (fun ls hl => ?_)
                            obtain ⟨v19, ev19⟩ : ∃ z : Int32, z = (w118_18 + (-1 : Int32)) := ⟨_, rfl⟩
                            replace hr := hr.trans (bnd_eq ev19)
                            refine lv_iinc (v := v19) (lv' := [(18, .int v19), (16, .long v18), (10, .long p15), (20, .int (b2i p14)), (19, .int (b2i p12)), (14, .long p5), (12, .long p4), (9, .int (b2i p2)), (8, .int (b2i p1)), (0, .ref (ad 4)), (1, .int (b2i sg)), (2, .long high), (4, .long low), (6, .long y)]) hx hb dX2_wide_207 hl (k := 4) rfl (by rw [ev19, ← ic_m1]) (by decide) rfl (fun ls hl => ?_)
                            refine lv_goto (tgt := 118) hx hb dX2_wide_210 (by decide) ?_
                            exact ih p15 v18 v19 dl118 _ _ ls (mDn_dec c_120 hm ev19) hr hP hS (lv_sub hl [0, 1, 5, 6, 2, 7, 8, 9, 10, 11, 12, 13] rfl)
                        replace hr := ep15
                        refine lv_if_eq (tgt := 186) hx hb dX2_wide_175 (by decide) (fun c_175 => ?_) (fun c_175 => ?_)
                        · replace hr := hr.trans (if_pos c_175)
                          refine lv_lload hx hb dX2_wide_186 (lv_at hl 1 rfl) ?_
                          subst hr
                          exact kp15 _ _ ls hP hS (lv_sub hl [0, 1, 2, 3, 4, 5, 6, 7, 8, 9, 10, 11, 12, 13] rfl)
                        · replace hr := hr.trans (if_neg c_175)
                          refine lv_lload hx hb dX2_wide_178 (lv_at hl 1 rfl) ?_
                          refine lv_lload hx hb dX2_wide_180 (lv_at hl 5 rfl) ?_
                          refine lv_lsub hx hb dX2_wide_182 ?_
                          refine lv_goto (tgt := 188) hx hb dX2_wide_183 (by decide) ?_
                          subst hr
                          exact kp15 _ _ ls hP hS (lv_sub hl [0, 1, 2, 3, 4, 5, 6, 7, 8, 9, 10, 11, 12, 13] rfl)
                      replace hr := ep14
                      refine lv_if_ne (tgt := 166) hx hb dX2_wide_153 (by decide) (fun c_153 => ?_) (fun c_153 => ?_)
                      · replace hr := hr.trans (if_neg c_153)
                        refine lv_iconst (v := (1 : Int32)) hx hb dX2_wide_166 ic_1 ?_
                        refine lv_goto (tgt := 171) hx hb dX2_wide_167 (by decide) ?_
                        subst hr
                        exact kp14 _ _ ls hP hS (lv_sub hl [0, 1, 2, 3, 4, 5, 6, 7, 8, 9, 10, 11, 12] rfl)
                      · replace hr := hr.trans (if_pos c_153)
                        refine lv_lload hx hb dX2_wide_156 (lv_at hl 0 rfl) ?_
                        refine lv_lload hx hb dX2_wide_158 (lv_at hl 4 rfl) ?_
                        refine g_RS (As := [.long v13, .long p5]) (rest := []) hC (m_J0_compareUnsigned v13 p5 _ rfl) (va_cwS 2 hts cw_X2_228 rfl rfl rfl hd_J0_compareUnsigned ⟨Nat.le_of_ble_eq_true rfl, Nat.le_of_ble_eq_true rfl⟩) g_Kst0 trivial trivial ⟨Nat.zero_le _, Nat.zero_le _⟩ rfl hl.1 rfl (Nat.le_of_ble_eq_true rfl) dX2_wide_160 ?_
                        refine lv_if_lt (tgt := 170) hx hb dX2_wide_163 (by decide) (fun c_163 => ?_) (fun c_163 => ?_)
                        · replace hr := hr.trans (if_pos c_163)
                          refine lv_iconst (v := (0 : Int32)) hx hb dX2_wide_170 ic_0 ?_
                          subst hr
                          exact kp14 _ _ ls hP hS (lv_sub hl [0, 1, 2, 3, 4, 5, 6, 7, 8, 9, 10, 11, 12] rfl)
                        · replace hr := hr.trans (if_neg c_163)
                          refine lv_iconst (v := (1 : Int32)) hx hb dX2_wide_166 ic_1 ?_
                          refine lv_goto (tgt := 171) hx hb dX2_wide_167 (by decide) ?_
                          subst hr
                          exact kp14 _ _ ls hP hS (lv_sub hl [0, 1, 2, 3, 4, 5, 6, 7, 8, 9, 10, 11, 12] rfl)
                    replace hr := ep12
                    refine lq_ge (tgt := 134) hx hb dX2_wide_126 dX2_wide_127 (by decide) (fun c_126 => ?_) (fun c_126 => ?_)
                    · replace hr := hr.trans (if_pos c_126)
                      refine lv_iconst (v := (0 : Int32)) hx hb dX2_wide_134 ic_0 ?_
                      subst hr
                      exact kp12 _ _ ls hP hS (lv_sub hl [0, 1, 2, 3, 4, 5, 6, 7, 8, 9, 10, 11] rfl)
                    · replace hr := hr.trans (if_neg c_126)
                      refine lv_iconst (v := (1 : Int32)) hx hb dX2_wide_130 ic_1 ?_
                      refine lv_goto (tgt := 135) hx hb dX2_wide_131 (by decide) ?_
                      subst hr
                      exact kp12 _ _ ls hP hS (lv_sub hl [0, 1, 2, 3, 4, 5, 6, 7, 8, 9, 10, 11] rfl)
              exact lp118 (mDn (63 : Int32) + 1) p3 (0 : Int64) (63 : Int32) d _ _ ls (Nat.lt_succ_self _) hr hP hS (lv_sub hl [0, 1, 2, 3, 4, 5, 6, 7, 8, 9, 10, 11] rfl)
            · replace hr := hr.trans (if_neg c_101)
              refine lv_aload_n hx hb dX2_wide_104 rfl (lv_at hl 5 rfl) ?_
              refine lv_iconst (v := (5 : Int32)) hx hb dX2_wide_105 ic_5 ?_
              refine lv_lconst (v := (0 : Int64)) hx hb dX2_wide_106 lc_0 ?_
              obtain ⟨g20, eg20⟩ : ∃ z, z = x_fail (5 : Int32) (0 : Int64) d := ⟨_, rfl⟩
              replace hr := hr.trans (bnd_eq eg20)
              refine g_UV0 (As := [.int (5 : Int32), .long (0 : Int64)]) (rest := []) hC (m_X2_fail hI (K := K) (d := d) (5 : Int32) (0 : Int64) g20 eg20) (cwV 2 hts cw_X2_85 rfl rfl rfl hd_X2_fail ⟨Nat.le_of_ble_eq_true rfl, Nat.le_of_ble_eq_true rfl⟩) xKst (va_recv hK hP (ci := 2) (q0 := 4) rfl rfl) hP hKp ⟨Nat.zero_le _, Nat.zero_le _⟩ hS (fun _ h => h) rfl hl.1 rfl (Nat.le_of_ble_eq_true rfl) dX2_wide_107 (fun H locs hP hS => ?_)
              have hP : va_P D xcl (XW ad ca K g20) H := hP
              exact g_endUv (Pic := (fun u => xB D ad ca K u)) (u := g20) hF hQ hr hP hS dX2_wide_110
          replace hr := ep5
          refine lv_if_eq (tgt := 90) hx hb dX2_wide_81 (by decide) (fun c_81 => ?_) (fun c_81 => ?_)
          · replace hr := hr.trans (if_pos c_81)
            refine lv_lload hx hb dX2_wide_90 (lv_at hl 8 rfl) ?_
            subst hr
            exact kp5 _ _ ls hP hS (lv_sub hl [0, 1, 2, 3, 4, 5, 6, 7, 8] rfl)
          · replace hr := hr.trans (if_neg c_81)
            refine lv_lload hx hb dX2_wide_84 (lv_at hl 8 rfl) ?_
            refine lv_lneg hx hb dX2_wide_86 ?_
            refine lv_goto (tgt := 92) hx hb dX2_wide_87 (by decide) ?_
            subst hr
            exact kp5 _ _ ls hP hS (lv_sub hl [0, 1, 2, 3, 4, 5, 6, 7, 8] rfl)
        replace hr := ep4
        refine lv_if_eq (tgt := 75) hx hb dX2_wide_66 (by decide) (fun c_66 => ?_) (fun c_66 => ?_)
        · replace hr := hr.trans (if_pos c_66)
          refine lv_lload hx hb dX2_wide_75 (lv_at hl 6 rfl) ?_
          subst hr
          exact kp4 _ _ ls hP hS (lv_sub hl [0, 1, 2, 3, 4, 5, 6, 7] rfl)
        · replace hr := hr.trans (if_neg c_66)
          refine lv_lload hx hb dX2_wide_69 (lv_at hl 6 rfl) ?_
          refine lv_lneg hx hb dX2_wide_71 ?_
          refine lv_goto (tgt := 77) hx hb dX2_wide_72 (by decide) ?_
          subst hr
          exact kp4 _ _ ls hP hS (lv_sub hl [0, 1, 2, 3, 4, 5, 6, 7] rfl)
      replace hr := ep3
      refine lv_if_eq (tgt := 61) hx hb dX2_wide_37 (by decide) (fun c_37 => ?_) (fun c_37 => ?_)
      · replace hr := hr.trans (if_pos c_37)
        refine lv_lload_n hx hb dX2_wide_61 rfl (lv_at hl 4 rfl) ?_
        subst hr
        exact kp3 _ _ ls hP hS (lv_sub hl [0, 1, 2, 3, 4, 5, 6] rfl)
      · replace hr := hr.trans (if_neg c_37)
        refine lv_lload_n hx hb dX2_wide_40 rfl (lv_at hl 4 rfl) ?_
        refine lv_ldc2 hx hb hown (hts _ q432) dX2_wide_41 ?_
        refine lv_lxor hx hb dX2_wide_44 ?_
        refine lv_lload hx hb dX2_wide_45 (lv_at hl 5 rfl) ?_
        refine lv_lconst (v := (0 : Int64)) hx hb dX2_wide_47 lc_0 ?_
        refine lq_ne (tgt := 56) hx hb dX2_wide_48 dX2_wide_49 (by decide) (fun c_48 => ?_) (fun c_48 => ?_)
        · replace hr := hr.trans (if_neg c_48)
          refine lv_lconst (v := (0 : Int64)) hx hb dX2_wide_56 lc_0 ?_
          refine lv_ladd hx hb dX2_wide_57 ?_
          refine lv_goto (tgt := 62) hx hb dX2_wide_58 (by decide) ?_
          subst hr
          exact kp3 _ _ ls hP hS (lv_sub hl [0, 1, 2, 3, 4, 5, 6] rfl)
        · replace hr := hr.trans (if_pos c_48)
          refine lv_lconst (v := (1 : Int64)) hx hb dX2_wide_52 lc_1 ?_
          refine lv_goto (tgt := 57) hx hb dX2_wide_53 (by decide) ?_
          refine lv_ladd hx hb dX2_wide_57 ?_
          refine lv_goto (tgt := 62) hx hb dX2_wide_58 (by decide) ?_
          subst hr
          exact kp3 _ _ ls hP hS (lv_sub hl [0, 1, 2, 3, 4, 5, 6] rfl)
    replace hr := ep2
    refine lv_if_eq (tgt := 32) hx hb dX2_wide_18 (by decide) (fun c_18 => ?_) (fun c_18 => ?_)
    · replace hr := hr.trans (if_pos c_18)
      refine lv_iconst (v := (0 : Int32)) hx hb dX2_wide_32 ic_0 ?_
      subst hr
      exact kp2 _ _ ls hP hS (lv_sub hl [0, 1, 2, 3, 4, 5] rfl)
    · replace hr := hr.trans (if_neg c_18)
      refine lv_lload hx hb dX2_wide_21 (lv_at hl 5 rfl) ?_
      refine lv_lconst (v := (0 : Int64)) hx hb dX2_wide_23 lc_0 ?_
      refine lq_ge (tgt := 32) hx hb dX2_wide_24 dX2_wide_25 (by decide) (fun c_24 => ?_) (fun c_24 => ?_)
      · replace hr := hr.trans (if_pos c_24)
        refine lv_iconst (v := (0 : Int32)) hx hb dX2_wide_32 ic_0 ?_
        subst hr
        exact kp2 _ _ ls hP hS (lv_sub hl [0, 1, 2, 3, 4, 5] rfl)
      · replace hr := hr.trans (if_neg c_24)
        refine lv_iconst (v := (1 : Int32)) hx hb dX2_wide_28 ic_1 ?_
        refine lv_goto (tgt := 33) hx hb dX2_wide_29 (by decide) ?_
        subst hr
        exact kp2 _ _ ls hP hS (lv_sub hl [0, 1, 2, 3, 4, 5] rfl)
  replace hr := ep1
  refine lv_if_eq (tgt := 14) hx hb dX2_wide_1 (by decide) (fun c_1 => ?_) (fun c_1 => ?_)
  · replace hr := hr.trans (if_pos c_1)
    refine lv_iconst (v := (0 : Int32)) hx hb dX2_wide_14 ic_0 ?_
    subst hr
    exact kp1 _ _ ls hP hS (lv_sub hl [0, 1, 2, 3, 4] rfl)
  · replace hr := hr.trans (if_neg c_1)
    refine lv_lload_n hx hb dX2_wide_4 rfl (lv_at hl 2 rfl) ?_
    refine lv_lconst (v := (0 : Int64)) hx hb dX2_wide_5 lc_0 ?_
    refine lq_ge (tgt := 14) hx hb dX2_wide_6 dX2_wide_7 (by decide) (fun c_6 => ?_) (fun c_6 => ?_)
    · replace hr := hr.trans (if_pos c_6)
      refine lv_iconst (v := (0 : Int32)) hx hb dX2_wide_14 ic_0 ?_
      subst hr
      exact kp1 _ _ ls hP hS (lv_sub hl [0, 1, 2, 3, 4] rfl)
    · replace hr := hr.trans (if_neg c_6)
      refine lv_iconst (v := (1 : Int32)) hx hb dX2_wide_10 ic_1 ?_
      refine lv_goto (tgt := 15) hx hb dX2_wide_11 (by decide) ?_
      subst hr
      exact kp1 _ _ ls hP hS (lv_sub hl [0, 1, 2, 3, 4] rfl)
def x_quotient (sg : Bool) (sz : Int32) (y : Int64) (d : XD) : XD := if (dx_stop d) = 0 then (if y = (0 : Int64) then (bnd (x_fail (5 : Int32) (0 : Int64) d) fun g10 => g10) else (if sz = (8 : Int32) then (bnd (x_wide sg ((dx_r d) (2 : Int32).toNatClampNeg) ((dx_r d) (0 : Int32).toNatClampNeg) y d) fun g9 => g9) else (bnd (α := Int64) (if sz = (1 : Int32) then (((dx_r d) (0 : Int32).toNatClampNeg) &&& (65535 : Int64)) else ((lshl_ ((dx_r d) (2 : Int32).toNatClampNeg) (32 : Int32)) ||| (((dx_r d) (0 : Int32).toNatClampNeg) &&& (4294967295 : Int64)))) fun p1 => bnd (α := Int64) (if (b2i sg) = 0 then p1 else (if sz = (1 : Int32) then (((p1.toInt32).toInt16.toInt32).toInt64) else p1)) fun p2 => bnd (α := Int64) (if (b2i sg) = 0 then y else (x_signed y sz)) fun p3 => bnd (α := Int64) (bnd (α := Bool) (if (b2i sg) = 0 then (if sz = (1 : Int32) then true else false) else true) fun b5 => if b5 = true then (p2 / p3) else (j_divideUnsigned p2 p3)) fun p4 => bnd (α := Bool) (if (b2i sg) = 0 then (if (x_cut p4 sz) = p4 then true else false) else (if p4 = (x_signed p4 sz) then (if p2 = (-9223372036854775808 : Int64) then (if p3 = (-1 : Int64) then false else true) else true) else false)) fun p6 => if (b2i p6) = 0 then (bnd (x_fail (5 : Int32) (0 : Int64) d) fun g7 => g7) else (bnd (x_divided sz p4 (p2 - (p4 * p3)) d) fun g8 => g8)))) else d
abbrev rm_X2_quotient : Room := { frames := 4, cells := 0, slots := 0, locals := 111 }
set_option maxHeartbeats 4000000 in
set_option maxRecDepth 100000 in
theorem m_X2_quotient {l : Launch} {D : va_G} {ad : Nat → Nat} {ca : Nat → ClassId} (hI : xInj ad) {K : XK} {d : XD} (sg : Bool) (sz : Int32) (y : Int64) (RES : XD) (hr : RES = x_quotient sg sz y d) (hsg : ¬ y = 0 → ¬ x_signed y sz = 0) : g_U l yX2_quotient (ws_ yX2_quotient cX2_quotient 14 none) rm_X2_quotient [.ref (ad 4), .int (b2i sg), .int sz, .long y] (xKp D ca) (xB D ad ca K d) none (xB D ad ca K RES) (xA ad) := by
  refine g_ofU (by decide) (Nat.le_of_ble_eq_true rfl) ?_
  intro p e s m args below meth c ls Q hF hB hKp hl hQ
  obtain ⟨hx, hb, -, -, hml, hown, hts⟩ := id hF
  have hown : s.vm.findClass RX2 = some m.cls := hown
  have hC : CallFix p m c cX2_quotient 14 s args lw_all RX2 := ⟨hx, hb, hml, hown, hts⟩
  obtain ⟨hK, hN⟩ := id hKp
  have hP : va_P D xcl (XW ad ca K d) s.heap := hB
  have hS : va_S (xA ad) s.heap s.heap [] := va_S.rf
  have hl : lv_has ls 14 [(0, .ref (ad 4)), (1, .int (b2i sg)), (2, .int sz), (3, .long y)] := hl
  unfold x_quotient at hr
  refine lv_aload_n hx hb dX2_quotient_0 rfl (lv_at hl 0 rfl) ?_
  refine xg_4_9 hx hb hts hown hK hP (hts _ q242) dX2_quotient_1 ?_
  refine lv_if_eq (tgt := 8) hx hb dX2_quotient_4 (by decide) (fun c_4 => ?_) (fun c_4 => ?_)
  · replace hr := hr.trans (if_pos c_4)
    refine lv_lload_n hx hb dX2_quotient_8 rfl (lv_at hl 3 rfl) ?_
    refine lv_lconst (v := (0 : Int64)) hx hb dX2_quotient_9 lc_0 ?_
    refine lq_ne (tgt := 23) hx hb dX2_quotient_10 dX2_quotient_11 (by decide) (fun c_10 => ?_) (fun c_10 => ?_)
    · replace hr := hr.trans (if_neg c_10)
      refine lv_iload_n hx hb dX2_quotient_23 rfl (lv_at hl 2 rfl) ?_
      refine lv_bipush (v := (8 : Int32)) hx hb dX2_quotient_24 bp_8 ?_
      refine lv_icmp_ne (tgt := 50) hx hb dX2_quotient_26 (by decide) (fun c_26 => ?_) (fun c_26 => ?_)
      · replace hr := hr.trans (if_neg c_26)
        refine lv_iload_n hx hb dX2_quotient_50 rfl (lv_at hl 2 rfl) ?_
        refine lv_iconst (v := (1 : Int32)) hx hb dX2_quotient_51 ic_1 ?_
        obtain ⟨p1, ep1⟩ : ∃ z : Int64, z = (if sz = (1 : Int32) then (((dx_r d) (0 : Int32).toNatClampNeg) &&& (65535 : Int64)) else ((lshl_ ((dx_r d) (2 : Int32).toNatClampNeg) (32 : Int32)) ||| (((dx_r d) (0 : Int32).toNatClampNeg) &&& (4294967295 : Int64)))) := ⟨_, rfl⟩
        replace hr := hr.trans (bnd_eq ep1)
        have kp1 : ∀ (H : Heap) (locs : List Loc) (ls : Array Slot), va_P D xcl (XW ad ca K d) H → va_S (xA ad) s.heap H locs → lv_has ls 14 [(0, .ref (ad 4)), (1, .int (b2i sg)), (2, .int sz), (3, .long y)] → W p l e rm_X2_quotient s m args below meth c H locs 0 0 Q (F0 m 88 ls [.long p1]) := by
          intro H locs ls hP hS hl
          refine lv_lstore (lv' := [(5, .long p1), (0, .ref (ad 4)), (1, .int (b2i sg)), (2, .int sz), (3, .long y)]) hx hb dX2_quotient_88 hl (by decide) rfl (fun ls hl => ?_)
          refine lv_iload_n hx hb dX2_quotient_90 rfl (lv_at hl 2 rfl) ?_
          obtain ⟨p2, ep2⟩ : ∃ z : Int64, z = (if (b2i sg) = 0 then p1 else (if sz = (1 : Int32) then (((p1.toInt32).toInt16.toInt32).toInt64) else p1)) := ⟨_, rfl⟩
          replace hr := hr.trans (bnd_eq ep2)
          have kp2 : ∀ (H : Heap) (locs : List Loc) (ls : Array Slot), va_P D xcl (XW ad ca K d) H → va_S (xA ad) s.heap H locs → lv_has ls 14 [(5, .long p1), (0, .ref (ad 4)), (1, .int (b2i sg)), (2, .int sz), (3, .long y)] → W p l e rm_X2_quotient s m args below meth c H locs 0 0 Q (F0 m 109 ls [.long p2]) := by
            intro H locs ls hP hS hl
            refine lv_lstore (lv' := [(7, .long p2), (5, .long p1), (0, .ref (ad 4)), (1, .int (b2i sg)), (2, .int sz), (3, .long y)]) hx hb dX2_quotient_109 hl (by decide) rfl (fun ls hl => ?_)
            refine lv_iload_n hx hb dX2_quotient_111 rfl (lv_at hl 3 rfl) ?_
            obtain ⟨p3, ep3⟩ : ∃ z : Int64, z = (if (b2i sg) = 0 then y else (x_signed y sz)) := ⟨_, rfl⟩
            replace hr := hr.trans (bnd_eq ep3)
            have kp3 : ∀ (H : Heap) (locs : List Loc) (ls : Array Slot), va_P D xcl (XW ad ca K d) H → va_S (xA ad) s.heap H locs → lv_has ls 14 [(7, .long p2), (5, .long p1), (0, .ref (ad 4)), (1, .int (b2i sg)), (2, .int sz), (3, .long y)] → W p l e rm_X2_quotient s m args below meth c H locs 0 0 Q (F0 m 124 ls [.long p3]) := by
              intro H locs ls hP hS hl
              refine lv_lstore (lv' := [(9, .long p3), (7, .long p2), (5, .long p1), (0, .ref (ad 4)), (1, .int (b2i sg)), (2, .int sz), (3, .long y)]) hx hb dX2_quotient_124 hl (by decide) rfl (fun ls hl => ?_)
              refine lv_iload_n hx hb dX2_quotient_126 rfl (lv_at hl 4 rfl) ?_
              obtain ⟨p4, ep4⟩ : ∃ z : Int64, z = (bnd (α := Bool) (if (b2i sg) = 0 then (if sz = (1 : Int32) then true else false) else true) fun b5 => if b5 = true then (p2 / p3) else (j_divideUnsigned p2 p3)) := ⟨_, rfl⟩
              replace hr := hr.trans (bnd_eq ep4)
              have kp4 : ∀ (H : Heap) (locs : List Loc) (ls : Array Slot), va_P D xcl (XW ad ca K d) H → va_S (xA ad) s.heap H locs → lv_has ls 14 [(9, .long p3), (7, .long p2), (5, .long p1), (0, .ref (ad 4)), (1, .int (b2i sg)), (2, .int sz), (3, .long y)] → W p l e rm_X2_quotient s m args below meth c H locs 0 0 Q (F0 m 150 ls [.long p4]) := by
                intro H locs ls hP hS hl
                refine lv_lstore (lv' := [(11, .long p4), (9, .long p3), (7, .long p2), (5, .long p1), (0, .ref (ad 4)), (1, .int (b2i sg)), (2, .int sz), (3, .long y)]) hx hb dX2_quotient_150 hl (by decide) rfl (fun ls hl => ?_)
                refine lv_iload_n hx hb dX2_quotient_152 rfl (lv_at hl 5 rfl) ?_
                obtain ⟨p6, ep6⟩ : ∃ z : Bool, z = (if (b2i sg) = 0 then (if (x_cut p4 sz) = p4 then true else false) else (if p4 = (x_signed p4 sz) then (if p2 = (-9223372036854775808 : Int64) then (if p3 = (-1 : Int64) then false else true) else true) else false)) := ⟨_, rfl⟩
                replace hr := hr.trans (bnd_eq ep6)
                have kp6 : ∀ (H : Heap) (locs : List Loc) (ls : Array Slot), va_P D xcl (XW ad ca K d) H → va_S (xA ad) s.heap H locs → lv_has ls 14 [(11, .long p4), (9, .long p3), (7, .long p2), (5, .long p1), (0, .ref (ad 4)), (1, .int (b2i sg)), (2, .int sz), (3, .long y)] → W p l e rm_X2_quotient s m args below meth c H locs 0 0 Q (F0 m 211 ls [.int (b2i p6)]) := by
                  intro H locs ls hP hS hl
                  refine lv_istore (lv' := [(13, .int (b2i p6)), (11, .long p4), (9, .long p3), (7, .long p2), (5, .long p1), (0, .ref (ad 4)), (1, .int (b2i sg)), (2, .int sz), (3, .long y)]) hx hb dX2_quotient_211 hl (by decide) rfl (fun ls hl => ?_)
                  refine lv_iload hx hb dX2_quotient_213 (lv_at hl 0 rfl) ?_
                  refine lv_if_eq (tgt := 236) hx hb dX2_quotient_215 (by decide) (fun c_215 => ?_) (fun c_215 => ?_)
                  · replace hr := hr.trans (if_pos c_215)
                    refine lv_aload_n hx hb dX2_quotient_236 rfl (lv_at hl 5 rfl) ?_
                    refine lv_iconst (v := (5 : Int32)) hx hb dX2_quotient_237 ic_5 ?_
                    refine lv_lconst (v := (0 : Int64)) hx hb dX2_quotient_238 lc_0 ?_
                    obtain ⟨g7, eg7⟩ : ∃ z, z = x_fail (5 : Int32) (0 : Int64) d := ⟨_, rfl⟩
                    replace hr := hr.trans (bnd_eq eg7)
                    refine g_UV0 (As := [.int (5 : Int32), .long (0 : Int64)]) (rest := []) hC (m_X2_fail hI (K := K) (d := d) (5 : Int32) (0 : Int64) g7 eg7) (cwV 2 hts cw_X2_85 rfl rfl rfl hd_X2_fail ⟨Nat.le_of_ble_eq_true rfl, Nat.le_of_ble_eq_true rfl⟩) xKst (va_recv hK hP (ci := 2) (q0 := 4) rfl rfl) hP hKp ⟨Nat.zero_le _, Nat.zero_le _⟩ hS (fun _ h => h) rfl hl.1 rfl (Nat.le_of_ble_eq_true rfl) dX2_quotient_239 (fun H locs hP hS => ?_)
                    have hP : va_P D xcl (XW ad ca K g7) H := hP
                    exact g_endUv (Pic := (fun u => xB D ad ca K u)) (u := g7) hF hQ hr hP hS dX2_quotient_242
                  · replace hr := hr.trans (if_neg c_215)
                    refine lv_aload_n hx hb dX2_quotient_218 rfl (lv_at hl 5 rfl) ?_
                    refine lv_iload_n hx hb dX2_quotient_219 rfl (lv_at hl 7 rfl) ?_
                    refine lv_lload hx hb dX2_quotient_220 (lv_at hl 1 rfl) ?_
                    refine lv_lload hx hb dX2_quotient_222 (lv_at hl 3 rfl) ?_
                    refine lv_lload hx hb dX2_quotient_224 (lv_at hl 1 rfl) ?_
                    refine lv_lload hx hb dX2_quotient_226 (lv_at hl 2 rfl) ?_
                    refine lv_lmul hx hb dX2_quotient_228 ?_
                    refine lv_lsub hx hb dX2_quotient_229 ?_
                    obtain ⟨g8, eg8⟩ : ∃ z, z = x_divided sz p4 (p2 - (p4 * p3)) d := ⟨_, rfl⟩
                    replace hr := hr.trans (bnd_eq eg8)
                    refine g_UV0 (As := [.int sz, .long p4, .long (p2 - (p4 * p3))]) (rest := []) hC (m_X2_divided hI (K := K) (d := d) sz p4 (p2 - (p4 * p3)) g8 eg8) (cwV 3 hts cw_X2_224 rfl rfl rfl hd_X2_divided ⟨Nat.le_of_ble_eq_true rfl, Nat.le_of_ble_eq_true rfl⟩) xKst (va_recv hK hP (ci := 2) (q0 := 4) rfl rfl) hP hKp ⟨Nat.zero_le _, Nat.zero_le _⟩ hS (fun _ h => h) rfl hl.1 rfl (Nat.le_of_ble_eq_true rfl) dX2_quotient_230 (fun H locs hP hS => ?_)
                    have hP : va_P D xcl (XW ad ca K g8) H := hP
                    refine lv_goto (tgt := 242) hx hb dX2_quotient_233 (by decide) ?_
                    exact g_endUv (Pic := (fun u => xB D ad ca K u)) (u := g8) hF hQ hr hP hS dX2_quotient_242
                replace hr := ep6
                refine lv_if_eq (tgt := 194) hx hb dX2_quotient_153 (by decide) (fun c_153 => ?_) (fun c_153 => ?_)
                · replace hr := hr.trans (if_pos c_153)
                  refine lv_lload hx hb dX2_quotient_194 (lv_at hl 0 rfl) ?_
                  refine lv_iload_n hx hb dX2_quotient_196 rfl (lv_at hl 6 rfl) ?_
                  refine g_RS (As := [.long p4, .int sz]) (rest := []) hC (m_X2_cut p4 sz _ rfl) (va_cwS 2 hts cw_X2_110 rfl rfl rfl hd_X2_cut ⟨Nat.le_of_ble_eq_true rfl, Nat.le_of_ble_eq_true rfl⟩) g_Kst0 trivial trivial ⟨Nat.zero_le _, Nat.zero_le _⟩ rfl hl.1 rfl (Nat.le_of_ble_eq_true rfl) dX2_quotient_197 ?_
                  refine lv_lload hx hb dX2_quotient_200 (lv_at hl 0 rfl) ?_
                  refine lq_ne (tgt := 210) hx hb dX2_quotient_202 dX2_quotient_203 (by decide) (fun c_202 => ?_) (fun c_202 => ?_)
                  · replace hr := hr.trans (if_neg c_202)
                    refine lv_iconst (v := (0 : Int32)) hx hb dX2_quotient_210 ic_0 ?_
                    subst hr
                    exact kp6 _ _ ls hP hS (lv_sub hl [0, 1, 2, 3, 4, 5, 6, 7] rfl)
                  · replace hr := hr.trans (if_pos c_202)
                    refine lv_iconst (v := (1 : Int32)) hx hb dX2_quotient_206 ic_1 ?_
                    refine lv_goto (tgt := 211) hx hb dX2_quotient_207 (by decide) ?_
                    subst hr
                    exact kp6 _ _ ls hP hS (lv_sub hl [0, 1, 2, 3, 4, 5, 6, 7] rfl)
                · replace hr := hr.trans (if_neg c_153)
                  refine lv_lload hx hb dX2_quotient_156 (lv_at hl 0 rfl) ?_
                  refine lv_lload hx hb dX2_quotient_158 (lv_at hl 0 rfl) ?_
                  refine lv_iload_n hx hb dX2_quotient_160 rfl (lv_at hl 6 rfl) ?_
                  refine g_RS (As := [.long p4, .int sz]) (rest := [.long p4]) hC (m_X2_signed p4 sz _ rfl) (va_cwS 2 hts cw_X2_122 rfl rfl rfl hd_X2_signed ⟨Nat.le_of_ble_eq_true rfl, Nat.le_of_ble_eq_true rfl⟩) g_Kst0 trivial trivial ⟨Nat.zero_le _, Nat.zero_le _⟩ rfl hl.1 rfl (Nat.le_of_ble_eq_true rfl) dX2_quotient_161 ?_
                  refine lq_ne (tgt := 190) hx hb dX2_quotient_164 dX2_quotient_165 (by decide) (fun c_164 => ?_) (fun c_164 => ?_)
                  · replace hr := hr.trans (if_neg c_164)
                    refine lv_iconst (v := (0 : Int32)) hx hb dX2_quotient_190 ic_0 ?_
                    refine lv_goto (tgt := 211) hx hb dX2_quotient_191 (by decide) ?_
                    subst hr
                    exact kp6 _ _ ls hP hS (lv_sub hl [0, 1, 2, 3, 4, 5, 6, 7] rfl)
                  · replace hr := hr.trans (if_pos c_164)
                    refine lv_lload hx hb dX2_quotient_168 (lv_at hl 2 rfl) ?_
                    refine lv_ldc2 hx hb hown (hts _ q506) dX2_quotient_170 ?_
                    refine lq_ne (tgt := 186) hx hb dX2_quotient_173 dX2_quotient_174 (by decide) (fun c_173 => ?_) (fun c_173 => ?_)
                    · replace hr := hr.trans (if_neg c_173)
                      refine lv_iconst (v := (1 : Int32)) hx hb dX2_quotient_186 ic_1 ?_
                      refine lv_goto (tgt := 211) hx hb dX2_quotient_187 (by decide) ?_
                      subst hr
                      exact kp6 _ _ ls hP hS (lv_sub hl [0, 1, 2, 3, 4, 5, 6, 7] rfl)
                    · replace hr := hr.trans (if_pos c_173)
                      refine lv_lload hx hb dX2_quotient_177 (lv_at hl 1 rfl) ?_
                      refine lv_ldc2 hx hb hown (hts _ q432) dX2_quotient_179 ?_
                      refine lq_eq (tgt := 190) hx hb dX2_quotient_182 dX2_quotient_183 (by decide) (fun c_182 => ?_) (fun c_182 => ?_)
                      · replace hr := hr.trans (if_pos c_182)
                        refine lv_iconst (v := (0 : Int32)) hx hb dX2_quotient_190 ic_0 ?_
                        refine lv_goto (tgt := 211) hx hb dX2_quotient_191 (by decide) ?_
                        subst hr
                        exact kp6 _ _ ls hP hS (lv_sub hl [0, 1, 2, 3, 4, 5, 6, 7] rfl)
                      · replace hr := hr.trans (if_neg c_182)
                        refine lv_iconst (v := (1 : Int32)) hx hb dX2_quotient_186 ic_1 ?_
                        refine lv_goto (tgt := 211) hx hb dX2_quotient_187 (by decide) ?_
                        subst hr
                        exact kp6 _ _ ls hP hS (lv_sub hl [0, 1, 2, 3, 4, 5, 6, 7] rfl)
              replace hr := ep4
              obtain ⟨b5, eb5⟩ : ∃ z : Bool, z = (if (b2i sg) = 0 then (if sz = (1 : Int32) then true else false) else true) := ⟨_, rfl⟩
              replace hr := hr.trans (bnd_eq eb5)
              have kb5T : b5 = true → W p l e rm_X2_quotient s m args below meth c H locs 0 0 Q (F0 m 135 ls []) := by
                intro hb5
                replace hr := hr.trans (if_pos hb5)
                refine lv_lload hx hb dX2_quotient_135 (lv_at hl 1 rfl) ?_
                refine lv_lload hx hb dX2_quotient_137 (lv_at hl 0 rfl) ?_
                refine lv_ldiv hx hb dX2_quotient_139 (qt_nz ep3 hsg c_10) ?_
                refine lv_goto (tgt := 150) hx hb dX2_quotient_140 (by decide) ?_
                subst hr
                exact kp4 _ _ ls hP hS (lv_sub hl [0, 1, 2, 3, 4, 5, 6] rfl)
              have kb5F : ¬ b5 = true → W p l e rm_X2_quotient s m args below meth c H locs 0 0 Q (F0 m 143 ls []) := by
                intro hb5
                replace hr := hr.trans (if_neg hb5)
                have er := eb5
                have hf := Bool.eq_false_iff.mpr hb5
                have c_127 : (b2i sg) = 0 := Decidable.byContradiction (fun q => absurd (hf.symm.trans (er.trans (if_neg q))) (by decide))
                have er := er.trans (if_pos c_127)
                have c_132 : ¬ (sz = (1 : Int32)) := fun q => absurd (hf.symm.trans (er.trans (if_pos q))) (by decide)
                have er := er.trans (if_neg c_132)
                clear er
                refine lv_lload hx hb dX2_quotient_143 (lv_at hl 1 rfl) ?_
                refine lv_lload hx hb dX2_quotient_145 (lv_at hl 0 rfl) ?_
                refine g_RS (As := [.long p2, .long p3]) (rest := []) hC (m_J0_divideUnsigned p2 p3 _ rfl (qt_nz ep3 hsg c_10)) (va_cwS 2 hts cw_X2_217 rfl rfl rfl hd_J0_divideUnsigned ⟨Nat.le_of_ble_eq_true rfl, Nat.le_of_ble_eq_true rfl⟩) g_Kst0 trivial trivial ⟨Nat.zero_le _, Nat.zero_le _⟩ rfl hl.1 rfl (Nat.le_of_ble_eq_true rfl) dX2_quotient_147 ?_
                subst hr
                exact kp4 _ _ ls hP hS (lv_sub hl [0, 1, 2, 3, 4, 5, 6] rfl)
              replace hr := eb5
              refine lv_if_ne (tgt := 135) hx hb dX2_quotient_127 (by decide) (fun c_127 => ?_) (fun c_127 => ?_)
              · replace hr := hr.trans (if_neg c_127)
                exact kb5T hr
              · replace hr := hr.trans (if_pos c_127)
                refine lv_iload_n hx hb dX2_quotient_130 rfl (lv_at hl 5 rfl) ?_
                refine lv_iconst (v := (1 : Int32)) hx hb dX2_quotient_131 ic_1 ?_
                refine lv_icmp_ne (tgt := 143) hx hb dX2_quotient_132 (by decide) (fun c_132 => ?_) (fun c_132 => ?_)
                · replace hr := hr.trans (if_neg c_132)
                  exact kb5F (by rw [hr]; decide)
                · replace hr := hr.trans (if_pos c_132)
                  exact kb5T hr
            replace hr := ep3
            refine lv_if_eq (tgt := 123) hx hb dX2_quotient_112 (by decide) (fun c_112 => ?_) (fun c_112 => ?_)
            · replace hr := hr.trans (if_pos c_112)
              refine lv_lload_n hx hb dX2_quotient_123 rfl (lv_at hl 5 rfl) ?_
              subst hr
              exact kp3 _ _ ls hP hS (lv_sub hl [0, 1, 2, 3, 4, 5] rfl)
            · replace hr := hr.trans (if_neg c_112)
              refine lv_lload_n hx hb dX2_quotient_115 rfl (lv_at hl 5 rfl) ?_
              refine lv_iload_n hx hb dX2_quotient_116 rfl (lv_at hl 4 rfl) ?_
              refine g_RS (As := [.long y, .int sz]) (rest := []) hC (m_X2_signed y sz _ rfl) (va_cwS 2 hts cw_X2_122 rfl rfl rfl hd_X2_signed ⟨Nat.le_of_ble_eq_true rfl, Nat.le_of_ble_eq_true rfl⟩) g_Kst0 trivial trivial ⟨Nat.zero_le _, Nat.zero_le _⟩ rfl hl.1 rfl (Nat.le_of_ble_eq_true rfl) dX2_quotient_117 ?_
              refine lv_goto (tgt := 124) hx hb dX2_quotient_120 (by decide) ?_
              subst hr
              exact kp3 _ _ ls hP hS (lv_sub hl [0, 1, 2, 3, 4, 5] rfl)
          replace hr := ep2
          refine lv_if_eq (tgt := 107) hx hb dX2_quotient_91 (by decide) (fun c_91 => ?_) (fun c_91 => ?_)
          · replace hr := hr.trans (if_pos c_91)
            refine lv_lload hx hb dX2_quotient_107 (lv_at hl 0 rfl) ?_
            subst hr
            exact kp2 _ _ ls hP hS (lv_sub hl [0, 1, 2, 3, 4] rfl)
          · replace hr := hr.trans (if_neg c_91)
            refine lv_iload_n hx hb dX2_quotient_94 rfl (lv_at hl 3 rfl) ?_
            refine lv_iconst (v := (1 : Int32)) hx hb dX2_quotient_95 ic_1 ?_
            refine lv_icmp_ne (tgt := 107) hx hb dX2_quotient_96 (by decide) (fun c_96 => ?_) (fun c_96 => ?_)
            · replace hr := hr.trans (if_neg c_96)
              refine lv_lload hx hb dX2_quotient_107 (lv_at hl 0 rfl) ?_
              subst hr
              exact kp2 _ _ ls hP hS (lv_sub hl [0, 1, 2, 3, 4] rfl)
            · replace hr := hr.trans (if_pos c_96)
              refine lv_lload hx hb dX2_quotient_99 (lv_at hl 0 rfl) ?_
              refine lv_l2i (v := p1.toInt32) hx hb dX2_quotient_101 rfl ?_
              refine lv_i2s (v := (p1.toInt32).toInt16.toInt32) hx hb dX2_quotient_102 rfl ?_
              refine lv_i2l (v := ((p1.toInt32).toInt16.toInt32).toInt64) hx hb dX2_quotient_103 rfl ?_
              refine lv_goto (tgt := 109) hx hb dX2_quotient_104 (by decide) ?_
              subst hr
              exact kp2 _ _ ls hP hS (lv_sub hl [0, 1, 2, 3, 4] rfl)
        replace hr := ep1
        refine lv_icmp_ne (tgt := 68) hx hb dX2_quotient_52 (by decide) (fun c_52 => ?_) (fun c_52 => ?_)
        · replace hr := hr.trans (if_neg c_52)
          refine lv_aload_n hx hb dX2_quotient_68 rfl (lv_at hl 0 rfl) ?_
          refine xg_4_4 hx hb hts hown hK hP (hts _ q233) dX2_quotient_69 ?_
          refine lv_iconst (v := (2 : Int32)) hx hb dX2_quotient_72 ic_2 ?_
          refine xl_12 hx hb hK hP (show ¬ ((2 : Int32) < 0 ∨ 16 ≤ (2 : Int32).toNatClampNeg) by decide) dX2_quotient_73 ?_
          refine lv_bipush (v := (32 : Int32)) hx hb dX2_quotient_74 bp_32 ?_
          refine lv_lshl (v := (lshl_ ((dx_r d) (2 : Int32).toNatClampNeg) (32 : Int32))) hx hb dX2_quotient_76 rfl ?_
          refine lv_aload_n hx hb dX2_quotient_77 rfl (lv_at hl 0 rfl) ?_
          refine xg_4_4 hx hb hts hown hK hP (hts _ q233) dX2_quotient_78 ?_
          refine lv_iconst (v := (0 : Int32)) hx hb dX2_quotient_81 ic_0 ?_
          refine xl_12 hx hb hK hP (show ¬ ((0 : Int32) < 0 ∨ 16 ≤ (0 : Int32).toNatClampNeg) by decide) dX2_quotient_82 ?_
          refine lv_ldc2 hx hb hown (hts _ q422) dX2_quotient_83 ?_
          refine lv_land hx hb dX2_quotient_86 ?_
          refine lv_lor hx hb dX2_quotient_87 ?_
          subst hr
          exact kp1 _ _ ls hP hS (lv_sub hl [0, 1, 2, 3] rfl)
        · replace hr := hr.trans (if_pos c_52)
          refine lv_aload_n hx hb dX2_quotient_55 rfl (lv_at hl 0 rfl) ?_
          refine xg_4_4 hx hb hts hown hK hP (hts _ q233) dX2_quotient_56 ?_
          refine lv_iconst (v := (0 : Int32)) hx hb dX2_quotient_59 ic_0 ?_
          refine xl_12 hx hb hK hP (show ¬ ((0 : Int32) < 0 ∨ 16 ≤ (0 : Int32).toNatClampNeg) by decide) dX2_quotient_60 ?_
          refine lv_ldc2 hx hb hown (hts _ q490) dX2_quotient_61 ?_
          refine lv_land hx hb dX2_quotient_64 ?_
          refine lv_goto (tgt := 88) hx hb dX2_quotient_65 (by decide) ?_
          subst hr
          exact kp1 _ _ ls hP hS (lv_sub hl [0, 1, 2, 3] rfl)
      · replace hr := hr.trans (if_pos c_26)
        refine lv_aload_n hx hb dX2_quotient_29 rfl (lv_at hl 0 rfl) ?_
        refine lv_iload_n hx hb dX2_quotient_30 rfl (lv_at hl 1 rfl) ?_
        refine lv_aload_n hx hb dX2_quotient_31 rfl (lv_at hl 0 rfl) ?_
        refine xg_4_4 hx hb hts hown hK hP (hts _ q233) dX2_quotient_32 ?_
        refine lv_iconst (v := (2 : Int32)) hx hb dX2_quotient_35 ic_2 ?_
        refine xl_12 hx hb hK hP (show ¬ ((2 : Int32) < 0 ∨ 16 ≤ (2 : Int32).toNatClampNeg) by decide) dX2_quotient_36 ?_
        refine lv_aload_n hx hb dX2_quotient_37 rfl (lv_at hl 0 rfl) ?_
        refine xg_4_4 hx hb hts hown hK hP (hts _ q233) dX2_quotient_38 ?_
        refine lv_iconst (v := (0 : Int32)) hx hb dX2_quotient_41 ic_0 ?_
        refine xl_12 hx hb hK hP (show ¬ ((0 : Int32) < 0 ∨ 16 ≤ (0 : Int32).toNatClampNeg) by decide) dX2_quotient_42 ?_
        refine lv_lload_n hx hb dX2_quotient_43 rfl (lv_at hl 3 rfl) ?_
        obtain ⟨g9, eg9⟩ : ∃ z, z = x_wide sg ((dx_r d) (2 : Int32).toNatClampNeg) ((dx_r d) (0 : Int32).toNatClampNeg) y d := ⟨_, rfl⟩
        replace hr := hr.trans (bnd_eq eg9)
        refine g_UV0 (As := [.int (b2i sg), .long ((dx_r d) (2 : Int32).toNatClampNeg), .long ((dx_r d) (0 : Int32).toNatClampNeg), .long y]) (rest := []) hC (m_X2_wide hI (K := K) (d := d) sg ((dx_r d) (2 : Int32).toNatClampNeg) ((dx_r d) (0 : Int32).toNatClampNeg) y g9 eg9) (cwV 4 hts cw_X2_213 rfl rfl rfl hd_X2_wide ⟨Nat.le_of_ble_eq_true rfl, Nat.le_of_ble_eq_true rfl⟩) xKst (va_recv hK hP (ci := 2) (q0 := 4) rfl rfl) hP hKp ⟨Nat.zero_le _, Nat.zero_le _⟩ hS (fun _ h => h) rfl hl.1 rfl (Nat.le_of_ble_eq_true rfl) dX2_quotient_44 (fun H locs hP hS => ?_)
        have hP : va_P D xcl (XW ad ca K g9) H := hP
        refine lv_goto (tgt := 242) hx hb dX2_quotient_47 (by decide) ?_
        exact g_endUv (Pic := (fun u => xB D ad ca K u)) (u := g9) hF hQ hr hP hS dX2_quotient_242
    · replace hr := hr.trans (if_pos c_10)
      refine lv_aload_n hx hb dX2_quotient_14 rfl (lv_at hl 0 rfl) ?_
      refine lv_iconst (v := (5 : Int32)) hx hb dX2_quotient_15 ic_5 ?_
      refine lv_lconst (v := (0 : Int64)) hx hb dX2_quotient_16 lc_0 ?_
      obtain ⟨g10, eg10⟩ : ∃ z, z = x_fail (5 : Int32) (0 : Int64) d := ⟨_, rfl⟩
      replace hr := hr.trans (bnd_eq eg10)
      refine g_UV0 (As := [.int (5 : Int32), .long (0 : Int64)]) (rest := []) hC (m_X2_fail hI (K := K) (d := d) (5 : Int32) (0 : Int64) g10 eg10) (cwV 2 hts cw_X2_85 rfl rfl rfl hd_X2_fail ⟨Nat.le_of_ble_eq_true rfl, Nat.le_of_ble_eq_true rfl⟩) xKst (va_recv hK hP (ci := 2) (q0 := 4) rfl rfl) hP hKp ⟨Nat.zero_le _, Nat.zero_le _⟩ hS (fun _ h => h) rfl hl.1 rfl (Nat.le_of_ble_eq_true rfl) dX2_quotient_17 (fun H locs hP hS => ?_)
      have hP : va_P D xcl (XW ad ca K g10) H := hP
      refine lv_goto (tgt := 242) hx hb dX2_quotient_20 (by decide) ?_
      exact g_endUv (Pic := (fun u => xB D ad ca K u)) (u := g10) hF hQ hr hP hS dX2_quotient_242
  · replace hr := hr.trans (if_neg c_4)
    exact g_endUv (Pic := (fun u => xB D ad ca K u)) (u := d) hF hQ hr hP hS dX2_quotient_7
def x_shift_L48 (K : XK) (o : Int32) (sz : Int32) (x : Int64) (v2 : Int32) (v3 : Int32) : Nat → Int64 → Bool → Int32 → XD → XD
  | 0, w48_8, w48_10, w48_11, dl48 => dl48
  | n + 1, w48_8, w48_10, w48_11, dl48 => if v2 ≤ w48_11 then (bnd (x_mark (1 : Int32) w48_10 dl48) fun g4 => bnd (α := XD) (if v2 = (1 : Int32) then (bnd (α := Bool) (if o = (24 : Int32) then true else (if o = (26 : Int32) then true else false)) fun b6 => if b6 = true then (if (b2i w48_10) = (b2i (x_bit w48_8 v3)) then (bnd (x_mark (2048 : Int32) false g4) fun g7 => g7) else (bnd (x_mark (2048 : Int32) true g4) fun g8 => g8)) else (if o = (25 : Int32) then (if (b2i (x_bit w48_8 v3)) = (b2i (x_bit w48_8 (v3 - (1 : Int32)))) then (bnd (x_mark (2048 : Int32) false g4) fun g12 => g12) else (bnd (x_mark (2048 : Int32) true g4) fun g13 => g13)) else (if o = (27 : Int32) then (if (b2i (x_bit x v3)) = 0 then (bnd (x_mark (2048 : Int32) false g4) fun g10 => g10) else (bnd (x_mark (2048 : Int32) true g4) fun g11 => g11)) else (bnd (x_mark (2048 : Int32) false g4) fun g9 => g9)))) else g4) fun p5 => bnd (α := XD) (if o ≤ (25 : Int32) then p5 else (bnd (x_follow w48_8 sz p5) fun g15 => g15)) fun p14 => bnd (x_put K (0 : Int32) sz w48_8 p14) fun g16 => g16) else (bnd (α := Bool) (if o = (24 : Int32) then true else (if o = (26 : Int32) then true else false)) fun p17 => bnd (α := Int32) (if (b2i p17) = 0 then (0 : Int32) else v3) fun p18 => bnd (α := Bool) ((x_bit w48_8 p18)) fun b19 => bnd (α := Bool) (if o = (24 : Int32) then b19 else (if o = (25 : Int32) then b19 else (if o = (28 : Int32) then (if (b2i (x_bit w48_8 v3)) = 0 then false else true) else false))) fun p20 => if (b2i p17) = 0 then (if (b2i p20) = 0 then (bnd (α := Int64) (((lushr_ w48_8 (1 : Int32)) ||| (0 : Int64))) fun v21 => bnd (α := Int32) ((w48_11 + (1 : Int32))) fun v22 => x_shift_L48 K o sz x v2 v3 n v21 b19 v22 dl48) else (bnd (α := Int64) (((lushr_ w48_8 (1 : Int32)) ||| (lshl_ (1 : Int64) v3))) fun v23 => bnd (α := Int32) ((w48_11 + (1 : Int32))) fun v24 => x_shift_L48 K o sz x v2 v3 n v23 b19 v24 dl48)) else (bnd (α := Int64) (if (b2i p20) = 0 then (0 : Int64) else (1 : Int64)) fun p25 => bnd (α := Int64) (((x_cut (lshl_ w48_8 (1 : Int32)) sz) ||| p25)) fun v26 => bnd (α := Int32) ((w48_11 + (1 : Int32))) fun v27 => x_shift_L48 K o sz x v2 v3 n v26 b19 v27 dl48))
theorem x_shift_L48_s (K : XK) (o : Int32) (sz : Int32) (x : Int64) (v2 : Int32) (v3 : Int32) (n : Nat) (w48_8 : Int64) (w48_10 : Bool) (w48_11 : Int32) (dl48 : XD) : x_shift_L48 K o sz x v2 v3 (n + 1) w48_8 w48_10 w48_11 dl48 = if v2 ≤ w48_11 then (bnd (x_mark (1 : Int32) w48_10 dl48) fun g4 => bnd (α := XD) (if v2 = (1 : Int32) then (bnd (α := Bool) (if o = (24 : Int32) then true else (if o = (26 : Int32) then true else false)) fun b6 => if b6 = true then (if (b2i w48_10) = (b2i (x_bit w48_8 v3)) then (bnd (x_mark (2048 : Int32) false g4) fun g7 => g7) else (bnd (x_mark (2048 : Int32) true g4) fun g8 => g8)) else (if o = (25 : Int32) then (if (b2i (x_bit w48_8 v3)) = (b2i (x_bit w48_8 (v3 - (1 : Int32)))) then (bnd (x_mark (2048 : Int32) false g4) fun g12 => g12) else (bnd (x_mark (2048 : Int32) true g4) fun g13 => g13)) else (if o = (27 : Int32) then (if (b2i (x_bit x v3)) = 0 then (bnd (x_mark (2048 : Int32) false g4) fun g10 => g10) else (bnd (x_mark (2048 : Int32) true g4) fun g11 => g11)) else (bnd (x_mark (2048 : Int32) false g4) fun g9 => g9)))) else g4) fun p5 => bnd (α := XD) (if o ≤ (25 : Int32) then p5 else (bnd (x_follow w48_8 sz p5) fun g15 => g15)) fun p14 => bnd (x_put K (0 : Int32) sz w48_8 p14) fun g16 => g16) else (bnd (α := Bool) (if o = (24 : Int32) then true else (if o = (26 : Int32) then true else false)) fun p17 => bnd (α := Int32) (if (b2i p17) = 0 then (0 : Int32) else v3) fun p18 => bnd (α := Bool) ((x_bit w48_8 p18)) fun b19 => bnd (α := Bool) (if o = (24 : Int32) then b19 else (if o = (25 : Int32) then b19 else (if o = (28 : Int32) then (if (b2i (x_bit w48_8 v3)) = 0 then false else true) else false))) fun p20 => if (b2i p17) = 0 then (if (b2i p20) = 0 then (bnd (α := Int64) (((lushr_ w48_8 (1 : Int32)) ||| (0 : Int64))) fun v21 => bnd (α := Int32) ((w48_11 + (1 : Int32))) fun v22 => x_shift_L48 K o sz x v2 v3 n v21 b19 v22 dl48) else (bnd (α := Int64) (((lushr_ w48_8 (1 : Int32)) ||| (lshl_ (1 : Int64) v3))) fun v23 => bnd (α := Int32) ((w48_11 + (1 : Int32))) fun v24 => x_shift_L48 K o sz x v2 v3 n v23 b19 v24 dl48)) else (bnd (α := Int64) (if (b2i p20) = 0 then (0 : Int64) else (1 : Int64)) fun p25 => bnd (α := Int64) (((x_cut (lshl_ w48_8 (1 : Int32)) sz) ||| p25)) fun v26 => bnd (α := Int32) ((w48_11 + (1 : Int32))) fun v27 => x_shift_L48 K o sz x v2 v3 n v26 b19 v27 dl48)) := rfl
def x_shift (K : XK) (o : Int32) (sz : Int32) (x : Int64) (by_ : Int32) (d : XD) : XD := bnd (α := Int32) (if sz = (8 : Int32) then (63 : Int32) else (31 : Int32)) fun p1 => bnd (α := Int32) ((by_ &&& p1)) fun v2 => if (dx_stop d) = 0 then (if v2 = 0 then d else (bnd (α := Int32) ((((8 : Int32) * sz) - (1 : Int32))) fun v3 => x_shift_L48 K o sz x v2 v3 (mI (0 : Int32) v2 + 1) x false (0 : Int32) d)) else d
abbrev rm_X2_shift : Room := { frames := 5, cells := 0, slots := 0, locals := 124 }
set_option maxHeartbeats 4000000 in
set_option maxRecDepth 100000 in
theorem m_X2_shift {l : Launch} {D : va_G} {ad : Nat → Nat} {ca : Nat → ClassId} (hI : xInj ad) {K : XK} {d : XD} (o : Int32) (sz : Int32) (x : Int64) (by_ : Int32) (RES : XD) (hr : RES = x_shift K o sz x by_ d) (hgd : XGd K) : g_U l yX2_shift (ws_ yX2_shift cX2_shift 14 none) rm_X2_shift [.ref (ad 4), .int o, .int sz, .long x, .int by_] (xKp D ca) (xB D ad ca K d) none (xB D ad ca K RES) (xA ad) := by
  refine g_ofU (by decide) (Nat.le_of_ble_eq_true rfl) ?_
  intro p e s m args below meth c ls Q hF hB hKp hl hQ
  obtain ⟨hx, hb, -, -, hml, hown, hts⟩ := id hF
  have hown : s.vm.findClass RX2 = some m.cls := hown
  have hC : CallFix p m c cX2_shift 14 s args lw_all RX2 := ⟨hx, hb, hml, hown, hts⟩
  obtain ⟨hK, hN⟩ := id hKp
  have hP : va_P D xcl (XW ad ca K d) s.heap := hB
  have hS : va_S (xA ad) s.heap s.heap [] := va_S.rf
  have hl : lv_has ls 14 [(0, .ref (ad 4)), (1, .int o), (2, .int sz), (3, .long x), (5, .int by_)] := hl
  unfold x_shift at hr
  refine lv_iload hx hb dX2_shift_0 (lv_at hl 4 rfl) ?_
  refine lv_iload_n hx hb dX2_shift_2 rfl (lv_at hl 2 rfl) ?_
  refine lv_bipush (v := (8 : Int32)) hx hb dX2_shift_3 bp_8 ?_
  obtain ⟨p1, ep1⟩ : ∃ z : Int32, z = (if sz = (8 : Int32) then (63 : Int32) else (31 : Int32)) := ⟨_, rfl⟩
  replace hr := hr.trans (bnd_eq ep1)
  have kp1 : ∀ (H : Heap) (locs : List Loc) (ls : Array Slot), va_P D xcl (XW ad ca K d) H → va_S (xA ad) s.heap H locs → lv_has ls 14 [(0, .ref (ad 4)), (1, .int o), (2, .int sz), (3, .long x), (5, .int by_)] → W p l e rm_X2_shift s m args below meth c H locs 0 0 Q (F0 m 15 ls [.int p1, .int by_]) := by
    intro H locs ls hP hS hl
    refine lv_iand hx hb dX2_shift_15 ?_
    refine lv_topi (fun v2 ev2 => ?_)
    replace hr := hr.trans (bnd_eq ev2)
    refine lv_istore (lv' := [(6, .int v2), (0, .ref (ad 4)), (1, .int o), (2, .int sz), (3, .long x), (5, .int by_)]) hx hb dX2_shift_16 hl (by decide) rfl (fun ls hl => ?_)
    refine lv_aload_n hx hb dX2_shift_18 rfl (lv_at hl 1 rfl) ?_
    refine xg_4_9 hx hb hts hown hK hP (hts _ q242) dX2_shift_19 ?_
    refine lv_if_ne (tgt := 30) hx hb dX2_shift_22 (by decide) (fun c_22 => ?_) (fun c_22 => ?_)
    · replace hr := hr.trans (if_neg c_22)
      exact g_endUv (Pic := (fun u => xB D ad ca K u)) (u := d) hF hQ hr hP hS dX2_shift_30
    · replace hr := hr.trans (if_pos c_22)
      refine lv_iload hx hb dX2_shift_25 (lv_at hl 0 rfl) ?_
      refine lv_if_ne (tgt := 31) hx hb dX2_shift_27 (by decide) (fun c_27 => ?_) (fun c_27 => ?_)
      · replace hr := hr.trans (if_neg c_27)
        refine lv_bipush (v := (8 : Int32)) hx hb dX2_shift_31 bp_8 ?_
        refine lv_iload_n hx hb dX2_shift_33 rfl (lv_at hl 3 rfl) ?_
        refine lv_imul hx hb dX2_shift_34 ?_
        refine lv_iconst (v := (1 : Int32)) hx hb dX2_shift_35 ic_1 ?_
        refine lv_isub hx hb dX2_shift_36 ?_
        refine lv_topi (fun v3 ev3 => ?_)
        replace hr := hr.trans (bnd_eq ev3)
        refine lv_istore (lv' := [(7, .int v3), (6, .int v2), (0, .ref (ad 4)), (1, .int o), (2, .int sz), (3, .long x), (5, .int by_)]) hx hb dX2_shift_37 hl (by decide) rfl (fun ls hl => ?_)
        refine lv_lload_n hx hb dX2_shift_39 rfl (lv_at hl 5 rfl) ?_
        refine lv_lstore (lv' := [(8, .long x), (7, .int v3), (6, .int v2), (0, .ref (ad 4)), (1, .int o), (2, .int sz), (3, .long x), (5, .int by_)]) hx hb dX2_shift_40 hl (by decide) rfl (fun ls hl => ?_)
        refine lv_iconst (v := (0 : Int32)) hx hb dX2_shift_42 ic_0 ?_
        refine lv_istore (lv' := [(10, .int (0 : Int32)), (8, .long x), (7, .int v3), (6, .int v2), (0, .ref (ad 4)), (1, .int o), (2, .int sz), (3, .long x), (5, .int by_)]) hx hb dX2_shift_43 hl (by decide) rfl (fun ls hl => ?_)
        refine lv_iconst (v := (0 : Int32)) hx hb dX2_shift_45 ic_0 ?_
        refine lv_istore (lv' := [(11, .int (0 : Int32)), (10, .int (0 : Int32)), (8, .long x), (7, .int v3), (6, .int v2), (0, .ref (ad 4)), (1, .int o), (2, .int sz), (3, .long x), (5, .int by_)]) hx hb dX2_shift_46 hl (by decide) rfl (fun ls hl => ?_)
        have lp48 : ∀ (n : Nat) (w48_8 : Int64) (w48_10 : Bool) (w48_11 : Int32) (dl48 : XD) (H : Heap) (locs : List Loc) (ls : Array Slot), mI w48_11 v2 < n → RES = x_shift_L48 K o sz x v2 v3 n w48_8 w48_10 w48_11 dl48 → va_P D xcl (XW ad ca K dl48) H → va_S (xA ad) s.heap H locs → lv_has ls 14 [(11, .int w48_11), (10, .int (b2i w48_10)), (8, .long w48_8), (7, .int v3), (6, .int v2), (0, .ref (ad 4)), (1, .int o), (2, .int sz), (3, .long x), (5, .int by_)] → W p l e rm_X2_shift s m args below meth c H locs 0 0 Q (F0 m 48 ls []) := by
          intro n
          induction n with
          | zero =>
            intro w48_8 w48_10 w48_11 dl48 H locs ls hm
            exact absurd hm (Nat.not_lt_zero _)
          | succ n ih =>
            intro w48_8 w48_10 w48_11 dl48 H locs ls hm  hr hP hS hl
            replace hr := hr.trans (x_shift_L48_s K o sz x v2 v3 n w48_8 w48_10 w48_11 dl48)
            refine lv_iload hx hb dX2_shift_48 (lv_at hl 0 rfl) ?_
            refine lv_iload hx hb dX2_shift_50 (lv_at hl 4 rfl) ?_
            refine lv_icmp_ge (tgt := 185) hx hb dX2_shift_52 (by decide) (fun c_52 => ?_) (fun c_52 => ?_)
            · replace hr := hr.trans (if_pos c_52)
              refine lv_aload_n hx hb dX2_shift_185 rfl (lv_at hl 5 rfl) ?_
              refine lv_iconst (v := (1 : Int32)) hx hb dX2_shift_186 ic_1 ?_
              refine lv_iload hx hb dX2_shift_187 (lv_at hl 1 rfl) ?_
              obtain ⟨g4, eg4⟩ : ∃ z, z = x_mark (1 : Int32) w48_10 dl48 := ⟨_, rfl⟩
              replace hr := hr.trans (bnd_eq eg4)
              refine g_UV0 (As := [.int (1 : Int32), .int (b2i w48_10)]) (rest := []) hC (m_X2_mark hI (K := K) (d := dl48) (1 : Int32) w48_10 g4 eg4) (cwV 2 hts cw_X2_125 rfl rfl rfl hd_X2_mark ⟨Nat.le_of_ble_eq_true rfl, Nat.le_of_ble_eq_true rfl⟩) xKst (va_recv hK hP (ci := 2) (q0 := 4) rfl rfl) hP hKp ⟨Nat.zero_le _, Nat.zero_le _⟩ hS (fun _ h => h) rfl hl.1 rfl (Nat.le_of_ble_eq_true rfl) dX2_shift_189 (fun H locs hP hS => ?_)
              have hP : va_P D xcl (XW ad ca K g4) H := hP
              refine lv_iload hx hb dX2_shift_192 (lv_at hl 4 rfl) ?_
              refine lv_iconst (v := (1 : Int32)) hx hb dX2_shift_194 ic_1 ?_
              obtain ⟨p5, ep5⟩ : ∃ z : XD, z = (if v2 = (1 : Int32) then (bnd (α := Bool) (if o = (24 : Int32) then true else (if o = (26 : Int32) then true else false)) fun b6 => if b6 = true then (if (b2i w48_10) = (b2i (x_bit w48_8 v3)) then (bnd (x_mark (2048 : Int32) false g4) fun g7 => g7) else (bnd (x_mark (2048 : Int32) true g4) fun g8 => g8)) else (if o = (25 : Int32) then (if (b2i (x_bit w48_8 v3)) = (b2i (x_bit w48_8 (v3 - (1 : Int32)))) then (bnd (x_mark (2048 : Int32) false g4) fun g12 => g12) else (bnd (x_mark (2048 : Int32) true g4) fun g13 => g13)) else (if o = (27 : Int32) then (if (b2i (x_bit x v3)) = 0 then (bnd (x_mark (2048 : Int32) false g4) fun g10 => g10) else (bnd (x_mark (2048 : Int32) true g4) fun g11 => g11)) else (bnd (x_mark (2048 : Int32) false g4) fun g9 => g9)))) else g4) := ⟨_, rfl⟩
              replace hr := hr.trans (bnd_eq ep5)
              have kp5 : ∀ (H : Heap) (locs : List Loc) (ls : Array Slot), va_P D xcl (XW ad ca K p5) H → va_S (xA ad) s.heap H locs → lv_has ls 14 [(11, .int w48_11), (10, .int (b2i w48_10)), (8, .long w48_8), (7, .int v3), (6, .int v2), (0, .ref (ad 4)), (1, .int o), (2, .int sz), (3, .long x), (5, .int by_)] → W p l e rm_X2_shift s m args below meth c H locs 0 0 Q (F0 m 290 ls []) := by
                intro H locs ls hP hS hl
                refine lv_iload_n hx hb dX2_shift_290 rfl (lv_at hl 6 rfl) ?_
                refine lv_bipush (v := (25 : Int32)) hx hb dX2_shift_291 bp_25 ?_
                obtain ⟨p14, ep14⟩ : ∃ z : XD, z = (if o ≤ (25 : Int32) then p5 else (bnd (x_follow w48_8 sz p5) fun g15 => g15)) := ⟨_, rfl⟩
                replace hr := hr.trans (bnd_eq ep14)
                have kp14 : ∀ (H : Heap) (locs : List Loc) (ls : Array Slot), va_P D xcl (XW ad ca K p14) H → va_S (xA ad) s.heap H locs → lv_has ls 14 [(11, .int w48_11), (10, .int (b2i w48_10)), (8, .long w48_8), (7, .int v3), (6, .int v2), (0, .ref (ad 4)), (1, .int o), (2, .int sz), (3, .long x), (5, .int by_)] → W p l e rm_X2_shift s m args below meth c H locs 0 0 Q (F0 m 303 ls []) := by
                  intro H locs ls hP hS hl
                  refine lv_aload_n hx hb dX2_shift_303 rfl (lv_at hl 5 rfl) ?_
                  refine lv_iconst (v := (0 : Int32)) hx hb dX2_shift_304 ic_0 ?_
                  refine lv_iload_n hx hb dX2_shift_305 rfl (lv_at hl 7 rfl) ?_
                  refine lv_lload hx hb dX2_shift_306 (lv_at hl 2 rfl) ?_
                  obtain ⟨g16, eg16⟩ : ∃ z, z = x_put K (0 : Int32) sz w48_8 p14 := ⟨_, rfl⟩
                  replace hr := hr.trans (bnd_eq eg16)
                  refine g_UV0 (As := [.int (0 : Int32), .int sz, .long w48_8]) (rest := []) hC (m_X2_put hI (K := K) (d := p14) (0 : Int32) sz w48_8 g16 eg16 (show ¬ ((0 : Int32) < 0 ∨ 3 ≤ (0 : Int32).toNatClampNeg) by decide) hgd) (cwV 3 hts cw_X2_188 rfl rfl rfl hd_X2_put ⟨Nat.le_of_ble_eq_true rfl, Nat.le_of_ble_eq_true rfl⟩) xKst (va_recv hK hP (ci := 2) (q0 := 4) rfl rfl) hP hKp ⟨Nat.zero_le _, Nat.zero_le _⟩ hS (fun _ h => h) rfl hl.1 rfl (Nat.le_of_ble_eq_true rfl) dX2_shift_308 (fun H locs hP hS => ?_)
                  have hP : va_P D xcl (XW ad ca K g16) H := hP
                  exact g_endUv (Pic := (fun u => xB D ad ca K u)) (u := g16) hF hQ hr hP hS dX2_shift_311
                replace hr := ep14
                refine lv_icmp_le (tgt := 303) hx hb dX2_shift_293 (by decide) (fun c_293 => ?_) (fun c_293 => ?_)
                · replace hr := hr.trans (if_pos c_293)
                  subst hr
                  exact kp14 _ _ ls hP hS (lv_sub hl [0, 1, 2, 3, 4, 5, 6, 7, 8, 9] rfl)
                · replace hr := hr.trans (if_neg c_293)
                  refine lv_aload_n hx hb dX2_shift_296 rfl (lv_at hl 5 rfl) ?_
                  refine lv_lload hx hb dX2_shift_297 (lv_at hl 2 rfl) ?_
                  refine lv_iload_n hx hb dX2_shift_299 rfl (lv_at hl 7 rfl) ?_
                  obtain ⟨g15, eg15⟩ : ∃ z, z = x_follow w48_8 sz p5 := ⟨_, rfl⟩
                  replace hr := hr.trans (bnd_eq eg15)
                  refine g_UV0 (As := [.long w48_8, .int sz]) (rest := []) hC (m_X2_follow hI (K := K) (d := p5) w48_8 sz g15 eg15) (cwV 2 hts cw_X2_138 rfl rfl rfl hd_X2_follow ⟨Nat.le_of_ble_eq_true rfl, Nat.le_of_ble_eq_true rfl⟩) xKst (va_recv hK hP (ci := 2) (q0 := 4) rfl rfl) hP hKp ⟨Nat.zero_le _, Nat.zero_le _⟩ hS (fun _ h => h) rfl hl.1 rfl (Nat.le_of_ble_eq_true rfl) dX2_shift_300 (fun H locs hP hS => ?_)
                  have hP : va_P D xcl (XW ad ca K g15) H := hP
                  subst hr
                  exact kp14 _ _ ls hP hS (lv_sub hl [0, 1, 2, 3, 4, 5, 6, 7, 8, 9] rfl)
              replace hr := ep5
              refine lv_icmp_ne (tgt := 290) hx hb dX2_shift_195 (by decide) (fun c_195 => ?_) (fun c_195 => ?_)
              · replace hr := hr.trans (if_neg c_195)
                subst hr
                exact kp5 _ _ ls hP hS (lv_sub hl [0, 1, 2, 3, 4, 5, 6, 7, 8, 9] rfl)
              · replace hr := hr.trans (if_pos c_195)
                refine lv_aload_n hx hb dX2_shift_198 rfl (lv_at hl 5 rfl) ?_
                refine lv_sipush (v := (2048 : Int32)) hx hb dX2_shift_199 sp_2048 ?_
                refine lv_iload_n hx hb dX2_shift_202 rfl (lv_at hl 6 rfl) ?_
                refine lv_bipush (v := (24 : Int32)) hx hb dX2_shift_203 bp_24 ?_
                obtain ⟨b6, eb6⟩ : ∃ z : Bool, z = (if o = (24 : Int32) then true else (if o = (26 : Int32) then true else false)) := ⟨_, rfl⟩
                replace hr := hr.trans (bnd_eq eb6)
                have kb6T : b6 = true → W p l e rm_X2_shift s m args below meth c H locs 0 0 Q (F0 m 214 ls [.int (2048 : Int32), .ref (ad 4)]) := by
                  intro hb6
                  replace hr := hr.trans (if_pos hb6)
                  refine lv_iload hx hb dX2_shift_214 (lv_at hl 1 rfl) ?_
                  refine lv_lload hx hb dX2_shift_216 (lv_at hl 2 rfl) ?_
                  refine lv_iload hx hb dX2_shift_218 (lv_at hl 3 rfl) ?_
                  refine g_RS (As := [.long w48_8, .int v3]) (rest := [.int (b2i w48_10), .int (2048 : Int32), .ref (ad 4)]) hC (m_X2_bit w48_8 v3 _ rfl) (va_cwS 2 hts cw_X2_135 rfl rfl rfl hd_X2_bit ⟨Nat.le_of_ble_eq_true rfl, Nat.le_of_ble_eq_true rfl⟩) g_Kst0 trivial trivial ⟨Nat.zero_le _, Nat.zero_le _⟩ rfl hl.1 rfl (Nat.le_of_ble_eq_true rfl) dX2_shift_220 ?_
                  refine lv_icmp_eq (tgt := 230) hx hb dX2_shift_223 (by decide) (fun c_223 => ?_) (fun c_223 => ?_)
                  · replace hr := hr.trans (if_pos c_223)
                    refine lv_iconst (v := (0 : Int32)) hx hb dX2_shift_230 ic_0 ?_
                    refine lv_goto (tgt := 287) hx hb dX2_shift_231 (by decide) ?_
                    obtain ⟨g7, eg7⟩ : ∃ z, z = x_mark (2048 : Int32) false g4 := ⟨_, rfl⟩
                    replace hr := hr.trans (bnd_eq eg7)
                    refine g_UV0 (As := [.int (2048 : Int32), .int (b2i false)]) (rest := []) hC (m_X2_mark hI (K := K) (d := g4) (2048 : Int32) false g7 eg7) (cwV 2 hts cw_X2_125 rfl rfl rfl hd_X2_mark ⟨Nat.le_of_ble_eq_true rfl, Nat.le_of_ble_eq_true rfl⟩) xKst (va_recv hK hP (ci := 2) (q0 := 4) rfl rfl) hP hKp ⟨Nat.zero_le _, Nat.zero_le _⟩ hS (fun _ h => h) rfl hl.1 rfl (Nat.le_of_ble_eq_true rfl) dX2_shift_287 (fun H locs hP hS => ?_)
                    have hP : va_P D xcl (XW ad ca K g7) H := hP
                    subst hr
                    exact kp5 _ _ ls hP hS (lv_sub hl [0, 1, 2, 3, 4, 5, 6, 7, 8, 9] rfl)
                  · replace hr := hr.trans (if_neg c_223)
                    refine lv_iconst (v := (1 : Int32)) hx hb dX2_shift_226 ic_1 ?_
                    refine lv_goto (tgt := 287) hx hb dX2_shift_227 (by decide) ?_
                    obtain ⟨g8, eg8⟩ : ∃ z, z = x_mark (2048 : Int32) true g4 := ⟨_, rfl⟩
                    replace hr := hr.trans (bnd_eq eg8)
                    refine g_UV0 (As := [.int (2048 : Int32), .int (b2i true)]) (rest := []) hC (m_X2_mark hI (K := K) (d := g4) (2048 : Int32) true g8 eg8) (cwV 2 hts cw_X2_125 rfl rfl rfl hd_X2_mark ⟨Nat.le_of_ble_eq_true rfl, Nat.le_of_ble_eq_true rfl⟩) xKst (va_recv hK hP (ci := 2) (q0 := 4) rfl rfl) hP hKp ⟨Nat.zero_le _, Nat.zero_le _⟩ hS (fun _ h => h) rfl hl.1 rfl (Nat.le_of_ble_eq_true rfl) dX2_shift_287 (fun H locs hP hS => ?_)
                    have hP : va_P D xcl (XW ad ca K g8) H := hP
                    subst hr
                    exact kp5 _ _ ls hP hS (lv_sub hl [0, 1, 2, 3, 4, 5, 6, 7, 8, 9] rfl)
                have kb6F : ¬ b6 = true → W p l e rm_X2_shift s m args below meth c H locs 0 0 Q (F0 m 234 ls [.int (2048 : Int32), .ref (ad 4)]) := by
                  intro hb6
                  replace hr := hr.trans (if_neg hb6)
                  have er := eb6
                  have hf := Bool.eq_false_iff.mpr hb6
                  have c_205 : ¬ (o = (24 : Int32)) := fun q => absurd (hf.symm.trans (er.trans (if_pos q))) (by decide)
                  have er := er.trans (if_neg c_205)
                  have c_211 : ¬ (o = (26 : Int32)) := fun q => absurd (hf.symm.trans (er.trans (if_pos q))) (by decide)
                  have er := er.trans (if_neg c_211)
                  clear er
                  refine lv_iload_n hx hb dX2_shift_234 rfl (lv_at hl 6 rfl) ?_
                  refine lv_bipush (v := (25 : Int32)) hx hb dX2_shift_235 bp_25 ?_
                  refine lv_icmp_ne (tgt := 267) hx hb dX2_shift_237 (by decide) (fun c_237 => ?_) (fun c_237 => ?_)
                  · replace hr := hr.trans (if_neg c_237)
                    refine lv_iload_n hx hb dX2_shift_267 rfl (lv_at hl 6 rfl) ?_
                    refine lv_bipush (v := (27 : Int32)) hx hb dX2_shift_268 bp_27 ?_
                    refine lv_icmp_ne (tgt := 286) hx hb dX2_shift_270 (by decide) (fun c_270 => ?_) (fun c_270 => ?_)
                    · replace hr := hr.trans (if_neg c_270)
                      refine lv_iconst (v := (0 : Int32)) hx hb dX2_shift_286 ic_0 ?_
                      obtain ⟨g9, eg9⟩ : ∃ z, z = x_mark (2048 : Int32) false g4 := ⟨_, rfl⟩
                      replace hr := hr.trans (bnd_eq eg9)
                      refine g_UV0 (As := [.int (2048 : Int32), .int (b2i false)]) (rest := []) hC (m_X2_mark hI (K := K) (d := g4) (2048 : Int32) false g9 eg9) (cwV 2 hts cw_X2_125 rfl rfl rfl hd_X2_mark ⟨Nat.le_of_ble_eq_true rfl, Nat.le_of_ble_eq_true rfl⟩) xKst (va_recv hK hP (ci := 2) (q0 := 4) rfl rfl) hP hKp ⟨Nat.zero_le _, Nat.zero_le _⟩ hS (fun _ h => h) rfl hl.1 rfl (Nat.le_of_ble_eq_true rfl) dX2_shift_287 (fun H locs hP hS => ?_)
                      have hP : va_P D xcl (XW ad ca K g9) H := hP
                      subst hr
                      exact kp5 _ _ ls hP hS (lv_sub hl [0, 1, 2, 3, 4, 5, 6, 7, 8, 9] rfl)
                    · replace hr := hr.trans (if_pos c_270)
                      refine lv_lload_n hx hb dX2_shift_273 rfl (lv_at hl 8 rfl) ?_
                      refine lv_iload hx hb dX2_shift_274 (lv_at hl 3 rfl) ?_
                      refine g_RS (As := [.long x, .int v3]) (rest := [.int (2048 : Int32), .ref (ad 4)]) hC (m_X2_bit x v3 _ rfl) (va_cwS 2 hts cw_X2_135 rfl rfl rfl hd_X2_bit ⟨Nat.le_of_ble_eq_true rfl, Nat.le_of_ble_eq_true rfl⟩) g_Kst0 trivial trivial ⟨Nat.zero_le _, Nat.zero_le _⟩ rfl hl.1 rfl (Nat.le_of_ble_eq_true rfl) dX2_shift_276 ?_
                      refine lv_if_eq (tgt := 286) hx hb dX2_shift_279 (by decide) (fun c_279 => ?_) (fun c_279 => ?_)
                      · replace hr := hr.trans (if_pos c_279)
                        refine lv_iconst (v := (0 : Int32)) hx hb dX2_shift_286 ic_0 ?_
                        obtain ⟨g10, eg10⟩ : ∃ z, z = x_mark (2048 : Int32) false g4 := ⟨_, rfl⟩
                        replace hr := hr.trans (bnd_eq eg10)
                        refine g_UV0 (As := [.int (2048 : Int32), .int (b2i false)]) (rest := []) hC (m_X2_mark hI (K := K) (d := g4) (2048 : Int32) false g10 eg10) (cwV 2 hts cw_X2_125 rfl rfl rfl hd_X2_mark ⟨Nat.le_of_ble_eq_true rfl, Nat.le_of_ble_eq_true rfl⟩) xKst (va_recv hK hP (ci := 2) (q0 := 4) rfl rfl) hP hKp ⟨Nat.zero_le _, Nat.zero_le _⟩ hS (fun _ h => h) rfl hl.1 rfl (Nat.le_of_ble_eq_true rfl) dX2_shift_287 (fun H locs hP hS => ?_)
                        have hP : va_P D xcl (XW ad ca K g10) H := hP
                        subst hr
                        exact kp5 _ _ ls hP hS (lv_sub hl [0, 1, 2, 3, 4, 5, 6, 7, 8, 9] rfl)
                      · replace hr := hr.trans (if_neg c_279)
                        refine lv_iconst (v := (1 : Int32)) hx hb dX2_shift_282 ic_1 ?_
                        refine lv_goto (tgt := 287) hx hb dX2_shift_283 (by decide) ?_
                        obtain ⟨g11, eg11⟩ : ∃ z, z = x_mark (2048 : Int32) true g4 := ⟨_, rfl⟩
                        replace hr := hr.trans (bnd_eq eg11)
                        refine g_UV0 (As := [.int (2048 : Int32), .int (b2i true)]) (rest := []) hC (m_X2_mark hI (K := K) (d := g4) (2048 : Int32) true g11 eg11) (cwV 2 hts cw_X2_125 rfl rfl rfl hd_X2_mark ⟨Nat.le_of_ble_eq_true rfl, Nat.le_of_ble_eq_true rfl⟩) xKst (va_recv hK hP (ci := 2) (q0 := 4) rfl rfl) hP hKp ⟨Nat.zero_le _, Nat.zero_le _⟩ hS (fun _ h => h) rfl hl.1 rfl (Nat.le_of_ble_eq_true rfl) dX2_shift_287 (fun H locs hP hS => ?_)
                        have hP : va_P D xcl (XW ad ca K g11) H := hP
                        subst hr
                        exact kp5 _ _ ls hP hS (lv_sub hl [0, 1, 2, 3, 4, 5, 6, 7, 8, 9] rfl)
                  · replace hr := hr.trans (if_pos c_237)
                    refine lv_lload hx hb dX2_shift_240 (lv_at hl 2 rfl) ?_
                    refine lv_iload hx hb dX2_shift_242 (lv_at hl 3 rfl) ?_
                    refine g_RS (As := [.long w48_8, .int v3]) (rest := [.int (2048 : Int32), .ref (ad 4)]) hC (m_X2_bit w48_8 v3 _ rfl) (va_cwS 2 hts cw_X2_135 rfl rfl rfl hd_X2_bit ⟨Nat.le_of_ble_eq_true rfl, Nat.le_of_ble_eq_true rfl⟩) g_Kst0 trivial trivial ⟨Nat.zero_le _, Nat.zero_le _⟩ rfl hl.1 rfl (Nat.le_of_ble_eq_true rfl) dX2_shift_244 ?_
                    refine lv_lload hx hb dX2_shift_247 (lv_at hl 2 rfl) ?_
                    refine lv_iload hx hb dX2_shift_249 (lv_at hl 3 rfl) ?_
                    refine lv_iconst (v := (1 : Int32)) hx hb dX2_shift_251 ic_1 ?_
                    refine lv_isub hx hb dX2_shift_252 ?_
                    refine g_RS (As := [.long w48_8, .int (v3 - (1 : Int32))]) (rest := [.int (b2i (x_bit w48_8 v3)), .int (2048 : Int32), .ref (ad 4)]) hC (m_X2_bit w48_8 (v3 - (1 : Int32)) _ rfl) (va_cwS 2 hts cw_X2_135 rfl rfl rfl hd_X2_bit ⟨Nat.le_of_ble_eq_true rfl, Nat.le_of_ble_eq_true rfl⟩) g_Kst0 trivial trivial ⟨Nat.zero_le _, Nat.zero_le _⟩ rfl hl.1 rfl (Nat.le_of_ble_eq_true rfl) dX2_shift_253 ?_
                    refine lv_icmp_eq (tgt := 263) hx hb dX2_shift_256 (by decide) (fun c_256 => ?_) (fun c_256 => ?_)
                    · replace hr := hr.trans (if_pos c_256)
                      refine lv_iconst (v := (0 : Int32)) hx hb dX2_shift_263 ic_0 ?_
                      refine lv_goto (tgt := 287) hx hb dX2_shift_264 (by decide) ?_
                      obtain ⟨g12, eg12⟩ : ∃ z, z = x_mark (2048 : Int32) false g4 := ⟨_, rfl⟩
                      replace hr := hr.trans (bnd_eq eg12)
                      refine g_UV0 (As := [.int (2048 : Int32), .int (b2i false)]) (rest := []) hC (m_X2_mark hI (K := K) (d := g4) (2048 : Int32) false g12 eg12) (cwV 2 hts cw_X2_125 rfl rfl rfl hd_X2_mark ⟨Nat.le_of_ble_eq_true rfl, Nat.le_of_ble_eq_true rfl⟩) xKst (va_recv hK hP (ci := 2) (q0 := 4) rfl rfl) hP hKp ⟨Nat.zero_le _, Nat.zero_le _⟩ hS (fun _ h => h) rfl hl.1 rfl (Nat.le_of_ble_eq_true rfl) dX2_shift_287 (fun H locs hP hS => ?_)
                      have hP : va_P D xcl (XW ad ca K g12) H := hP
                      subst hr
                      exact kp5 _ _ ls hP hS (lv_sub hl [0, 1, 2, 3, 4, 5, 6, 7, 8, 9] rfl)
                    · replace hr := hr.trans (if_neg c_256)
                      refine lv_iconst (v := (1 : Int32)) hx hb dX2_shift_259 ic_1 ?_
                      refine lv_goto (tgt := 287) hx hb dX2_shift_260 (by decide) ?_
                      obtain ⟨g13, eg13⟩ : ∃ z, z = x_mark (2048 : Int32) true g4 := ⟨_, rfl⟩
                      replace hr := hr.trans (bnd_eq eg13)
                      refine g_UV0 (As := [.int (2048 : Int32), .int (b2i true)]) (rest := []) hC (m_X2_mark hI (K := K) (d := g4) (2048 : Int32) true g13 eg13) (cwV 2 hts cw_X2_125 rfl rfl rfl hd_X2_mark ⟨Nat.le_of_ble_eq_true rfl, Nat.le_of_ble_eq_true rfl⟩) xKst (va_recv hK hP (ci := 2) (q0 := 4) rfl rfl) hP hKp ⟨Nat.zero_le _, Nat.zero_le _⟩ hS (fun _ h => h) rfl hl.1 rfl (Nat.le_of_ble_eq_true rfl) dX2_shift_287 (fun H locs hP hS => ?_)
                      have hP : va_P D xcl (XW ad ca K g13) H := hP
                      subst hr
                      exact kp5 _ _ ls hP hS (lv_sub hl [0, 1, 2, 3, 4, 5, 6, 7, 8, 9] rfl)
                replace hr := eb6
                refine lv_icmp_eq (tgt := 214) hx hb dX2_shift_205 (by decide) (fun c_205 => ?_) (fun c_205 => ?_)
                · replace hr := hr.trans (if_pos c_205)
                  exact kb6T hr
                · replace hr := hr.trans (if_neg c_205)
                  refine lv_iload_n hx hb dX2_shift_208 rfl (lv_at hl 6 rfl) ?_
                  refine lv_bipush (v := (26 : Int32)) hx hb dX2_shift_209 bp_26 ?_
                  refine lv_icmp_ne (tgt := 234) hx hb dX2_shift_211 (by decide) (fun c_211 => ?_) (fun c_211 => ?_)
                  · replace hr := hr.trans (if_neg c_211)
                    exact kb6F (by rw [hr]; decide)
                  · replace hr := hr.trans (if_pos c_211)
                    exact kb6T hr
            · replace hr := hr.trans (if_neg c_52)
              refine lv_iload_n hx hb dX2_shift_55 rfl (lv_at hl 6 rfl) ?_
              refine lv_bipush (v := (24 : Int32)) hx hb dX2_shift_56 bp_24 ?_
              obtain ⟨p17, ep17⟩ : ∃ z : Bool, z = (if o = (24 : Int32) then true else (if o = (26 : Int32) then true else false)) := ⟨_, rfl⟩
              replace hr := hr.trans (bnd_eq ep17)
              have kp17 : ∀ (H : Heap) (locs : List Loc) (ls : Array Slot), va_P D xcl (XW ad ca K dl48) H → va_S (xA ad) s.heap H locs → lv_has ls 14 [(11, .int w48_11), (10, .int (b2i w48_10)), (8, .long w48_8), (7, .int v3), (6, .int v2), (0, .ref (ad 4)), (1, .int o), (2, .int sz), (3, .long x), (5, .int by_)] → W p l e rm_X2_shift s m args below meth c H locs 0 0 Q (F0 m 72 ls [.int (b2i p17)]) := by
                intro H locs ls hP hS hl
                refine lv_istore (lv' := [(12, .int (b2i p17)), (11, .int w48_11), (10, .int (b2i w48_10)), (8, .long w48_8), (7, .int v3), (6, .int v2), (0, .ref (ad 4)), (1, .int o), (2, .int sz), (3, .long x), (5, .int by_)]) hx hb dX2_shift_72 hl (by decide) rfl (fun ls hl => ?_)
                refine lv_lload hx hb dX2_shift_74 (lv_at hl 3 rfl) ?_
                refine lv_iload hx hb dX2_shift_76 (lv_at hl 0 rfl) ?_
                obtain ⟨p18, ep18⟩ : ∃ z : Int32, z = (if (b2i p17) = 0 then (0 : Int32) else v3) := ⟨_, rfl⟩
                replace hr := hr.trans (bnd_eq ep18)
                have kp18 : ∀ (H : Heap) (locs : List Loc) (ls : Array Slot), va_P D xcl (XW ad ca K dl48) H → va_S (xA ad) s.heap H locs → lv_has ls 14 [(12, .int (b2i p17)), (11, .int w48_11), (10, .int (b2i w48_10)), (8, .long w48_8), (7, .int v3), (6, .int v2), (0, .ref (ad 4)), (1, .int o), (2, .int sz), (3, .long x), (5, .int by_)] → W p l e rm_X2_shift s m args below meth c H locs 0 0 Q (F0 m 87 ls [.int p18, .long w48_8]) := by
                  intro H locs ls hP hS hl
                  refine g_RS (As := [.long w48_8, .int p18]) (rest := []) hC (m_X2_bit w48_8 p18 _ rfl) (va_cwS 2 hts cw_X2_135 rfl rfl rfl hd_X2_bit ⟨Nat.le_of_ble_eq_true rfl, Nat.le_of_ble_eq_true rfl⟩) g_Kst0 trivial trivial ⟨Nat.zero_le _, Nat.zero_le _⟩ rfl hl.1 rfl (Nat.le_of_ble_eq_true rfl) dX2_shift_87 ?_
                  obtain ⟨b19, eb19⟩ : ∃ z : Bool, z = (x_bit w48_8 p18) := ⟨_, rfl⟩
                  rw [← eb19]
                  replace hr := hr.trans (bnd_eq eb19)
                  refine lv_istore (lv' := [(10, .int (b2i b19)), (12, .int (b2i p17)), (11, .int w48_11), (8, .long w48_8), (7, .int v3), (6, .int v2), (0, .ref (ad 4)), (1, .int o), (2, .int sz), (3, .long x), (5, .int by_)]) hx hb dX2_shift_90 hl (by decide) rfl (fun ls hl => ?_)
                  refine lv_iload_n hx hb dX2_shift_92 rfl (lv_at hl 7 rfl) ?_
                  refine lv_bipush (v := (24 : Int32)) hx hb dX2_shift_93 bp_24 ?_
                  obtain ⟨p20, ep20⟩ : ∃ z : Bool, z = (if o = (24 : Int32) then b19 else (if o = (25 : Int32) then b19 else (if o = (28 : Int32) then (if (b2i (x_bit w48_8 v3)) = 0 then false else true) else false))) := ⟨_, rfl⟩
                  replace hr := hr.trans (bnd_eq ep20)
                  have kp20 : ∀ (H : Heap) (locs : List Loc) (ls : Array Slot), va_P D xcl (XW ad ca K dl48) H → va_S (xA ad) s.heap H locs → lv_has ls 14 [(10, .int (b2i b19)), (12, .int (b2i p17)), (11, .int w48_11), (8, .long w48_8), (7, .int v3), (6, .int v2), (0, .ref (ad 4)), (1, .int o), (2, .int sz), (3, .long x), (5, .int by_)] → W p l e rm_X2_shift s m args below meth c H locs 0 0 Q (F0 m 130 ls [.int (b2i p20)]) := by
                    intro H locs ls hP hS hl
                    refine lv_istore (lv' := [(13, .int (b2i p20)), (10, .int (b2i b19)), (12, .int (b2i p17)), (11, .int w48_11), (8, .long w48_8), (7, .int v3), (6, .int v2), (0, .ref (ad 4)), (1, .int o), (2, .int sz), (3, .long x), (5, .int by_)]) hx hb dX2_shift_130 hl (by decide) rfl (fun ls hl => ?_)
                    refine lv_iload hx hb dX2_shift_132 (lv_at hl 2 rfl) ?_
                    refine lv_if_eq (tgt := 159) hx hb dX2_shift_134 (by decide) (fun c_134 => ?_) (fun c_134 => ?_)
                    · replace hr := hr.trans (if_pos c_134)
                      refine lv_lload hx hb dX2_shift_159 (lv_at hl 4 rfl) ?_
                      refine lv_iconst (v := (1 : Int32)) hx hb dX2_shift_161 ic_1 ?_
                      refine lv_lushr (v := (lushr_ w48_8 (1 : Int32))) hx hb dX2_shift_162 rfl ?_
                      refine lv_iload hx hb dX2_shift_163 (lv_at hl 0 rfl) ?_
                      refine lv_if_eq (tgt := 175) hx hb dX2_shift_165 (by decide) (fun c_165 => ?_) (fun c_165 => ?_)
                      · replace hr := hr.trans (if_pos c_165)
                        refine lv_lconst (v := (0 : Int64)) hx hb dX2_shift_175 lc_0 ?_
                        refine lv_lor hx hb dX2_shift_176 ?_
                        refine lv_topl (fun v21 ev21 => ?_)
                        replace hr := hr.trans (bnd_eq ev21)
                        refine lv_lstore (lv' := [(8, .long v21), (13, .int (b2i p20)), (10, .int (b2i b19)), (12, .int (b2i p17)), (11, .int w48_11), (7, .int v3), (6, .int v2), (0, .ref (ad 4)), (1, .int o), (2, .int sz), (3, .long x), (5, .int by_)]) hx hb dX2_shift_177 hl (by decide) rfl (fun ls hl => ?_)
                        obtain ⟨v22, ev22⟩ : ∃ z : Int32, z = (w48_11 + (1 : Int32)) := ⟨_, rfl⟩
                        replace hr := hr.trans (bnd_eq ev22)
                        refine lv_iinc (v := v22) (lv' := [(11, .int v22), (8, .long v21), (13, .int (b2i p20)), (10, .int (b2i b19)), (12, .int (b2i p17)), (7, .int v3), (6, .int v2), (0, .ref (ad 4)), (1, .int o), (2, .int sz), (3, .long x), (5, .int by_)]) hx hb dX2_shift_179 hl (k := 4) rfl (by rw [ev22, ← ic_1]) (by decide) rfl (fun ls hl => ?_)
                        refine lv_goto (tgt := 48) hx hb dX2_shift_182 (by decide) ?_
                        exact ih v21 b19 v22 dl48 _ _ ls (mI_dec c_52 hm ev22) hr hP hS (lv_sub hl [0, 3, 1, 5, 6, 7, 8, 9, 10, 11] rfl)
                      · replace hr := hr.trans (if_neg c_165)
                        refine lv_lconst (v := (1 : Int64)) hx hb dX2_shift_168 lc_1 ?_
                        refine lv_iload hx hb dX2_shift_169 (lv_at hl 5 rfl) ?_
                        refine lv_lshl (v := (lshl_ (1 : Int64) v3)) hx hb dX2_shift_171 rfl ?_
                        refine lv_goto (tgt := 176) hx hb dX2_shift_172 (by decide) ?_
                        refine lv_lor hx hb dX2_shift_176 ?_
                        refine lv_topl (fun v23 ev23 => ?_)
                        replace hr := hr.trans (bnd_eq ev23)
                        refine lv_lstore (lv' := [(8, .long v23), (13, .int (b2i p20)), (10, .int (b2i b19)), (12, .int (b2i p17)), (11, .int w48_11), (7, .int v3), (6, .int v2), (0, .ref (ad 4)), (1, .int o), (2, .int sz), (3, .long x), (5, .int by_)]) hx hb dX2_shift_177 hl (by decide) rfl (fun ls hl => ?_)
                        obtain ⟨v24, ev24⟩ : ∃ z : Int32, z = (w48_11 + (1 : Int32)) := ⟨_, rfl⟩
                        replace hr := hr.trans (bnd_eq ev24)
                        refine lv_iinc (v := v24) (lv' := [(11, .int v24), (8, .long v23), (13, .int (b2i p20)), (10, .int (b2i b19)), (12, .int (b2i p17)), (7, .int v3), (6, .int v2), (0, .ref (ad 4)), (1, .int o), (2, .int sz), (3, .long x), (5, .int by_)]) hx hb dX2_shift_179 hl (k := 4) rfl (by rw [ev24, ← ic_1]) (by decide) rfl (fun ls hl => ?_)
                        refine lv_goto (tgt := 48) hx hb dX2_shift_182 (by decide) ?_
                        exact ih v23 b19 v24 dl48 _ _ ls (mI_dec c_52 hm ev24) hr hP hS (lv_sub hl [0, 3, 1, 5, 6, 7, 8, 9, 10, 11] rfl)
                    · replace hr := hr.trans (if_neg c_134)
                      refine lv_lload hx hb dX2_shift_137 (lv_at hl 4 rfl) ?_
                      refine lv_iconst (v := (1 : Int32)) hx hb dX2_shift_139 ic_1 ?_
                      refine lv_lshl (v := (lshl_ w48_8 (1 : Int32))) hx hb dX2_shift_140 rfl ?_
                      refine lv_iload_n hx hb dX2_shift_141 rfl (lv_at hl 9 rfl) ?_
                      refine g_RS (As := [.long (lshl_ w48_8 (1 : Int32)), .int sz]) (rest := []) hC (m_X2_cut (lshl_ w48_8 (1 : Int32)) sz _ rfl) (va_cwS 2 hts cw_X2_110 rfl rfl rfl hd_X2_cut ⟨Nat.le_of_ble_eq_true rfl, Nat.le_of_ble_eq_true rfl⟩) g_Kst0 trivial trivial ⟨Nat.zero_le _, Nat.zero_le _⟩ rfl hl.1 rfl (Nat.le_of_ble_eq_true rfl) dX2_shift_142 ?_
                      refine lv_iload hx hb dX2_shift_145 (lv_at hl 0 rfl) ?_
                      obtain ⟨p25, ep25⟩ : ∃ z : Int64, z = (if (b2i p20) = 0 then (0 : Int64) else (1 : Int64)) := ⟨_, rfl⟩
                      replace hr := hr.trans (bnd_eq ep25)
                      have kp25 : ∀ (H : Heap) (locs : List Loc) (ls : Array Slot), va_P D xcl (XW ad ca K dl48) H → va_S (xA ad) s.heap H locs → lv_has ls 14 [(13, .int (b2i p20)), (10, .int (b2i b19)), (12, .int (b2i p17)), (11, .int w48_11), (8, .long w48_8), (7, .int v3), (6, .int v2), (0, .ref (ad 4)), (1, .int o), (2, .int sz), (3, .long x), (5, .int by_)] → W p l e rm_X2_shift s m args below meth c H locs 0 0 Q (F0 m 155 ls [.long p25, .long (x_cut (lshl_ w48_8 (1 : Int32)) sz)]) := by
                        intro H locs ls hP hS hl
                        refine lv_lor hx hb dX2_shift_155 ?_
                        refine lv_goto (tgt := 177) hx hb dX2_shift_156 (by decide) ?_
                        refine lv_topl (fun v26 ev26 => ?_)
                        replace hr := hr.trans (bnd_eq ev26)
                        refine lv_lstore (lv' := [(8, .long v26), (13, .int (b2i p20)), (10, .int (b2i b19)), (12, .int (b2i p17)), (11, .int w48_11), (7, .int v3), (6, .int v2), (0, .ref (ad 4)), (1, .int o), (2, .int sz), (3, .long x), (5, .int by_)]) hx hb dX2_shift_177 hl (by decide) rfl (fun ls hl => ?_)
                        obtain ⟨v27, ev27⟩ : ∃ z : Int32, z = (w48_11 + (1 : Int32)) := ⟨_, rfl⟩
                        replace hr := hr.trans (bnd_eq ev27)
                        refine lv_iinc (v := v27) (lv' := [(11, .int v27), (8, .long v26), (13, .int (b2i p20)), (10, .int (b2i b19)), (12, .int (b2i p17)), (7, .int v3), (6, .int v2), (0, .ref (ad 4)), (1, .int o), (2, .int sz), (3, .long x), (5, .int by_)]) hx hb dX2_shift_179 hl (k := 4) rfl (by rw [ev27, ← ic_1]) (by decide) rfl (fun ls hl => ?_)
                        refine lv_goto (tgt := 48) hx hb dX2_shift_182 (by decide) ?_
                        exact ih v26 b19 v27 dl48 _ _ ls (mI_dec c_52 hm ev27) hr hP hS (lv_sub hl [0, 3, 1, 5, 6, 7, 8, 9, 10, 11] rfl)
                      replace hr := ep25
                      refine lv_if_eq (tgt := 154) hx hb dX2_shift_147 (by decide) (fun c_147 => ?_) (fun c_147 => ?_)
                      · replace hr := hr.trans (if_pos c_147)
                        refine lv_lconst (v := (0 : Int64)) hx hb dX2_shift_154 lc_0 ?_
                        subst hr
                        exact kp25 _ _ ls hP hS (lv_sub hl [0, 1, 2, 3, 4, 5, 6, 7, 8, 9, 10, 11] rfl)
                      · replace hr := hr.trans (if_neg c_147)
                        refine lv_lconst (v := (1 : Int64)) hx hb dX2_shift_150 lc_1 ?_
                        refine lv_goto (tgt := 155) hx hb dX2_shift_151 (by decide) ?_
                        subst hr
                        exact kp25 _ _ ls hP hS (lv_sub hl [0, 1, 2, 3, 4, 5, 6, 7, 8, 9, 10, 11] rfl)
                  replace hr := ep20
                  refine lv_icmp_eq (tgt := 104) hx hb dX2_shift_95 (by decide) (fun c_95 => ?_) (fun c_95 => ?_)
                  · replace hr := hr.trans (if_pos c_95)
                    refine lv_iload hx hb dX2_shift_104 (lv_at hl 0 rfl) ?_
                    refine lv_goto (tgt := 130) hx hb dX2_shift_106 (by decide) ?_
                    subst hr
                    exact kp20 _ _ ls hP hS (lv_sub hl [0, 1, 2, 3, 4, 5, 6, 7, 8, 9, 10] rfl)
                  · replace hr := hr.trans (if_neg c_95)
                    refine lv_iload_n hx hb dX2_shift_98 rfl (lv_at hl 7 rfl) ?_
                    refine lv_bipush (v := (25 : Int32)) hx hb dX2_shift_99 bp_25 ?_
                    refine lv_icmp_ne (tgt := 109) hx hb dX2_shift_101 (by decide) (fun c_101 => ?_) (fun c_101 => ?_)
                    · replace hr := hr.trans (if_neg c_101)
                      refine lv_iload_n hx hb dX2_shift_109 rfl (lv_at hl 7 rfl) ?_
                      refine lv_bipush (v := (28 : Int32)) hx hb dX2_shift_110 bp_28 ?_
                      refine lv_icmp_ne (tgt := 129) hx hb dX2_shift_112 (by decide) (fun c_112 => ?_) (fun c_112 => ?_)
                      · replace hr := hr.trans (if_neg c_112)
                        refine lv_iconst (v := (0 : Int32)) hx hb dX2_shift_129 ic_0 ?_
                        subst hr
                        exact kp20 _ _ ls hP hS (lv_sub hl [0, 1, 2, 3, 4, 5, 6, 7, 8, 9, 10] rfl)
                      · replace hr := hr.trans (if_pos c_112)
                        refine lv_lload hx hb dX2_shift_115 (lv_at hl 3 rfl) ?_
                        refine lv_iload hx hb dX2_shift_117 (lv_at hl 4 rfl) ?_
                        refine g_RS (As := [.long w48_8, .int v3]) (rest := []) hC (m_X2_bit w48_8 v3 _ rfl) (va_cwS 2 hts cw_X2_135 rfl rfl rfl hd_X2_bit ⟨Nat.le_of_ble_eq_true rfl, Nat.le_of_ble_eq_true rfl⟩) g_Kst0 trivial trivial ⟨Nat.zero_le _, Nat.zero_le _⟩ rfl hl.1 rfl (Nat.le_of_ble_eq_true rfl) dX2_shift_119 ?_
                        refine lv_if_eq (tgt := 129) hx hb dX2_shift_122 (by decide) (fun c_122 => ?_) (fun c_122 => ?_)
                        · replace hr := hr.trans (if_pos c_122)
                          refine lv_iconst (v := (0 : Int32)) hx hb dX2_shift_129 ic_0 ?_
                          subst hr
                          exact kp20 _ _ ls hP hS (lv_sub hl [0, 1, 2, 3, 4, 5, 6, 7, 8, 9, 10] rfl)
                        · replace hr := hr.trans (if_neg c_122)
                          refine lv_iconst (v := (1 : Int32)) hx hb dX2_shift_125 ic_1 ?_
                          refine lv_goto (tgt := 130) hx hb dX2_shift_126 (by decide) ?_
                          subst hr
                          exact kp20 _ _ ls hP hS (lv_sub hl [0, 1, 2, 3, 4, 5, 6, 7, 8, 9, 10] rfl)
                    · replace hr := hr.trans (if_pos c_101)
                      refine lv_iload hx hb dX2_shift_104 (lv_at hl 0 rfl) ?_
                      refine lv_goto (tgt := 130) hx hb dX2_shift_106 (by decide) ?_
                      subst hr
                      exact kp20 _ _ ls hP hS (lv_sub hl [0, 1, 2, 3, 4, 5, 6, 7, 8, 9, 10] rfl)
                replace hr := ep18
                refine lv_if_eq (tgt := 86) hx hb dX2_shift_78 (by decide) (fun c_78 => ?_) (fun c_78 => ?_)
                · replace hr := hr.trans (if_pos c_78)
                  refine lv_iconst (v := (0 : Int32)) hx hb dX2_shift_86 ic_0 ?_
                  subst hr
                  exact kp18 _ _ ls hP hS (lv_sub hl [0, 1, 2, 3, 4, 5, 6, 7, 8, 9, 10] rfl)
                · replace hr := hr.trans (if_neg c_78)
                  refine lv_iload hx hb dX2_shift_81 (lv_at hl 4 rfl) ?_
                  refine lv_goto (tgt := 87) hx hb dX2_shift_83 (by decide) ?_
                  subst hr
                  exact kp18 _ _ ls hP hS (lv_sub hl [0, 1, 2, 3, 4, 5, 6, 7, 8, 9, 10] rfl)
              replace hr := ep17
              refine lv_icmp_eq (tgt := 67) hx hb dX2_shift_58 (by decide) (fun c_58 => ?_) (fun c_58 => ?_)
              · replace hr := hr.trans (if_pos c_58)
                refine lv_iconst (v := (1 : Int32)) hx hb dX2_shift_67 ic_1 ?_
                refine lv_goto (tgt := 72) hx hb dX2_shift_68 (by decide) ?_
                subst hr
                exact kp17 _ _ ls hP hS (lv_sub hl [0, 1, 2, 3, 4, 5, 6, 7, 8, 9] rfl)
              · replace hr := hr.trans (if_neg c_58)
                refine lv_iload_n hx hb dX2_shift_61 rfl (lv_at hl 6 rfl) ?_
                refine lv_bipush (v := (26 : Int32)) hx hb dX2_shift_62 bp_26 ?_
                refine lv_icmp_ne (tgt := 71) hx hb dX2_shift_64 (by decide) (fun c_64 => ?_) (fun c_64 => ?_)
                · replace hr := hr.trans (if_neg c_64)
                  refine lv_iconst (v := (0 : Int32)) hx hb dX2_shift_71 ic_0 ?_
                  subst hr
                  exact kp17 _ _ ls hP hS (lv_sub hl [0, 1, 2, 3, 4, 5, 6, 7, 8, 9] rfl)
                · replace hr := hr.trans (if_pos c_64)
                  refine lv_iconst (v := (1 : Int32)) hx hb dX2_shift_67 ic_1 ?_
                  refine lv_goto (tgt := 72) hx hb dX2_shift_68 (by decide) ?_
                  subst hr
                  exact kp17 _ _ ls hP hS (lv_sub hl [0, 1, 2, 3, 4, 5, 6, 7, 8, 9] rfl)
        exact lp48 (mI (0 : Int32) v2 + 1) x false (0 : Int32) d _ _ ls (Nat.lt_succ_self _) hr hP hS (lv_sub hl [0, 1, 2, 3, 4, 5, 6, 7, 8, 9] rfl)
      · replace hr := hr.trans (if_pos c_27)
        exact g_endUv (Pic := (fun u => xB D ad ca K u)) (u := d) hF hQ hr hP hS dX2_shift_30
  replace hr := ep1
  refine lv_icmp_ne (tgt := 13) hx hb dX2_shift_5 (by decide) (fun c_5 => ?_) (fun c_5 => ?_)
  · replace hr := hr.trans (if_neg c_5)
    refine lv_bipush (v := (31 : Int32)) hx hb dX2_shift_13 bp_31 ?_
    subst hr
    exact kp1 _ _ ls hP hS (lv_sub hl [0, 1, 2, 3, 4] rfl)
  · replace hr := hr.trans (if_pos c_5)
    refine lv_bipush (v := (63 : Int32)) hx hb dX2_shift_8 bp_63 ?_
    refine lv_goto (tgt := 15) hx hb dX2_shift_10 (by decide) ?_
    subst hr
    exact kp1 _ _ ls hP hS (lv_sub hl [0, 1, 2, 3, 4] rfl)
