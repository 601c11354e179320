def x_has_L6 (K : XK) (a : Int64) (sz : Int32) (w : Bool) : Nat → Bool → Int32 → Bool
  | 0, w6_5, w6_6 => false
  | n + 1, w6_5, w6_6 => if sz ≤ w6_6 then w6_5 else (bnd (α := Bool) (if (b2i w6_5) = 0 then false else (if (x_where K (a + (w6_6.toInt64)) w) < 0 then false else true)) fun b1 => if b1 = true then (bnd (α := Int32) ((w6_6 + (1 : Int32))) fun v2 => x_has_L6 K a sz w n true v2) else (bnd (α := Int32) ((w6_6 + (1 : Int32))) fun v3 => x_has_L6 K a sz w n false v3))
theorem x_has_L6_s (K : XK) (a : Int64) (sz : Int32) (w : Bool) (n : Nat) (w6_5 : Bool) (w6_6 : Int32) : x_has_L6 K a sz w (n + 1) w6_5 w6_6 = if sz ≤ w6_6 then w6_5 else (bnd (α := Bool) (if (b2i w6_5) = 0 then false else (if (x_where K (a + (w6_6.toInt64)) w) < 0 then false else true)) fun b1 => if b1 = true then (bnd (α := Int32) ((w6_6 + (1 : Int32))) fun v2 => x_has_L6 K a sz w n true v2) else (bnd (α := Int32) ((w6_6 + (1 : Int32))) fun v3 => x_has_L6 K a sz w n false v3)) := rfl
def x_has (K : XK) (a : Int64) (sz : Int32) (w : Bool) : Bool := x_has_L6 K a sz w (mI (0 : Int32) sz + 1) true (0 : Int32)
abbrev rm_X1_has : Room := { frames := 2, cells := 0, slots := 0, locals := 49 }
set_option maxHeartbeats 4000000 in
set_option maxRecDepth 100000 in
theorem m_X1_has {l : Launch} {D : va_G} {ad : Nat → Nat} {ca : Nat → ClassId} {K : XK} {d : XD} (a : Int64) (sz : Int32) (w : Bool) (RES : Bool) (hr : RES = x_has K a sz w) : g_R l yX1_has (ws_ yX1_has cX1_has 7 (some .boolean)) rm_X1_has [.ref (ad 2), .long a, .int sz, .int (b2i w)] (xKp D ca) (xB D ad ca K d) (.int (b2i RES)) := by
  refine g_ofR (by decide) (Nat.le_of_ble_eq_true rfl) ?_
  intro p e s m args below meth c ls Q hF hB hKp hl hQ
  obtain ⟨hx, hb, -, -, hml, hown, hts⟩ := id hF
  have hown : s.vm.findClass RX1 = some m.cls := hown
  have hC : CallFix p m c cX1_has 7 s args lw_all RX1 := ⟨hx, hb, hml, hown, hts⟩
  obtain ⟨hK, hN⟩ := id hKp
  have hP : va_P D xcl (XW ad ca K d) s.heap := hB
  have hl : lv_has ls 7 [(0, .ref (ad 2)), (1, .long a), (3, .int sz), (4, .int (b2i w))] := hl
  unfold x_has at hr
  refine lv_iconst (v := (1 : Int32)) hx hb dX1_has_0 ic_1 ?_
  refine lv_istore (lv' := [(5, .int (1 : Int32)), (0, .ref (ad 2)), (1, .long a), (3, .int sz), (4, .int (b2i w))]) hx hb dX1_has_1 hl (by decide) rfl (fun ls hl => ?_)
  refine lv_iconst (v := (0 : Int32)) hx hb dX1_has_3 ic_0 ?_
  refine lv_istore (lv' := [(6, .int (0 : Int32)), (5, .int (1 : Int32)), (0, .ref (ad 2)), (1, .long a), (3, .int sz), (4, .int (b2i w))]) hx hb dX1_has_4 hl (by decide) rfl (fun ls hl => ?_)
  have lp6 : ∀ (n : Nat) (w6_5 : Bool) (w6_6 : Int32) (ls : Array Slot), mI w6_6 sz < n → RES = x_has_L6 K a sz w n w6_5 w6_6 → lv_has ls 7 [(6, .int w6_6), (5, .int (b2i w6_5)), (0, .ref (ad 2)), (1, .long a), (3, .int sz), (4, .int (b2i w))] → W p l e rm_X1_has s m args below meth c s.heap [] 0 0 Q (F0 m 6 ls []) := by
    intro n
    induction n with
    | zero =>
      intro w6_5 w6_6 ls hm
      exact absurd hm (Nat.not_lt_zero _)
    | succ n ih =>
      intro w6_5 w6_6 ls hm  hr hl
      replace hr := hr.trans (x_has_L6_s K a sz w n w6_5 w6_6)
      refine lv_iload hx hb dX1_has_6 (lv_at hl 0 rfl) ?_
      refine lv_iload_n hx hb dX1_has_8 rfl (lv_at hl 4 rfl) ?_
      refine lv_icmp_ge (tgt := 44) hx hb dX1_has_9 (by decide) (fun c_9 => ?_) (fun c_9 => ?_)
      · replace hr := hr.trans (if_pos c_9)
        refine lv_iload hx hb dX1_has_44 (lv_at hl 1 rfl) ?_
        exact g_endRz hF hQ hr rfl dX1_has_46
      · replace hr := hr.trans (if_neg c_9)
        refine lv_iload hx hb dX1_has_12 (lv_at hl 1 rfl) ?_
        obtain ⟨b1, eb1⟩ : ∃ z : Bool, z = (if (b2i w6_5) = 0 then false else (if (x_where K (a + (w6_6.toInt64)) w) < 0 then false else true)) := ⟨_, rfl⟩
        replace hr := hr.trans (bnd_eq eb1)
        have kb1T : b1 = true → W p l e rm_X1_has s m args below meth c s.heap [] 0 0 Q (F0 m 31 ls []) := by
          intro hb1
          replace hr := hr.trans (if_pos hb1)
          have er := eb1
          have c_14 : ¬ ((b2i w6_5) = 0) := fun q => absurd (hb1.symm.trans (er.trans (if_pos q))) (by decide)
          have er := er.trans (if_neg c_14)
          have c_28 : ¬ ((x_where K (a + (w6_6.toInt64)) w) < 0) := fun q => absurd (hb1.symm.trans (er.trans (if_pos q))) (by decide)
          have er := er.trans (if_neg c_28)
          clear er
          refine lv_iconst (v := (1 : Int32)) hx hb dX1_has_31 ic_1 ?_
          refine lv_goto (tgt := 36) hx hb dX1_has_32 (by decide) ?_
          refine lv_istore (lv' := [(5, .int (1 : Int32)), (6, .int w6_6), (0, .ref (ad 2)), (1, .long a), (3, .int sz), (4, .int (b2i w))]) hx hb dX1_has_36 hl (by decide) rfl (fun ls hl => ?_)
          obtain ⟨v2, ev2⟩ : ∃ z : Int32, z = (w6_6 + (1 : Int32)) := ⟨_, rfl⟩
          replace hr := hr.trans (bnd_eq ev2)
          refine lv_iinc (v := v2) (lv' := [(6, .int v2), (5, .int (1 : Int32)), (0, .ref (ad 2)), (1, .long a), (3, .int sz), (4, .int (b2i w))]) hx hb dX1_has_38 hl (k := 1) rfl (by rw [ev2, ← ic_1]) (by decide) rfl (fun ls hl => ?_)
          refine lv_goto (tgt := 6) hx hb dX1_has_41 (by decide) ?_
          exact ih true v2 ls (mI_dec c_9 hm ev2) hr (lv_sub hl [0, 1, 2, 3, 4, 5] rfl)
        have kb1F : ¬ b1 = true → W p l e rm_X1_has s m args below meth c s.heap [] 0 0 Q (F0 m 35 ls []) := by
          intro hb1
          replace hr := hr.trans (if_neg hb1)
          refine lv_iconst (v := (0 : Int32)) hx hb dX1_has_35 ic_0 ?_
          refine lv_istore (lv' := [(5, .int (0 : Int32)), (6, .int w6_6), (0, .ref (ad 2)), (1, .long a), (3, .int sz), (4, .int (b2i w))]) hx hb dX1_has_36 hl (by decide) rfl (fun ls hl => ?_)
          obtain ⟨v3, ev3⟩ : ∃ z : Int32, z = (w6_6 + (1 : Int32)) := ⟨_, rfl⟩
          replace hr := hr.trans (bnd_eq ev3)
          refine lv_iinc (v := v3) (lv' := [(6, .int v3), (5, .int (0 : Int32)), (0, .ref (ad 2)), (1, .long a), (3, .int sz), (4, .int (b2i w))]) hx hb dX1_has_38 hl (k := 1) rfl (by rw [ev3, ← ic_1]) (by decide) rfl (fun ls hl => ?_)
          refine lv_goto (tgt := 6) hx hb dX1_has_41 (by decide) ?_
          exact ih false v3 ls (mI_dec c_9 hm ev3) hr (lv_sub hl [0, 1, 2, 3, 4, 5] rfl)
        replace hr := eb1
        refine lv_if_eq (tgt := 35) hx hb dX1_has_14 (by decide) (fun c_14 => ?_) (fun c_14 => ?_)
        · replace hr := hr.trans (if_pos c_14)
          exact kb1F (by rw [hr]; decide)
        · replace hr := hr.trans (if_neg c_14)
          refine lv_aload_n hx hb dX1_has_17 rfl (lv_at hl 2 rfl) ?_
          refine lv_lload_n hx hb dX1_has_18 rfl (lv_at hl 3 rfl) ?_
          refine lv_iload hx hb dX1_has_19 (lv_at hl 0 rfl) ?_
          refine lv_i2l (v := w6_6.toInt64) hx hb dX1_has_21 rfl ?_
          refine lv_ladd hx hb dX1_has_22 ?_
          refine lv_iload hx hb dX1_has_23 (lv_at hl 5 rfl) ?_
          refine g_RV (As := [.long (a + (w6_6.toInt64)), .int (b2i w)]) (rest := []) hC (m_X1_where (K := K) (d := d) (a + (w6_6.toInt64)) w _ rfl) (cwV 2 hts cw_X1_62 rfl rfl rfl hd_X1_where ⟨Nat.le_of_ble_eq_true rfl, Nat.le_of_ble_eq_true rfl⟩) xKst (va_recv hK hP (ci := 1) (q0 := 2) rfl rfl) hP hKp ⟨Nat.zero_le _, Nat.zero_le _⟩ rfl hl.1 rfl (Nat.le_of_ble_eq_true rfl) dX1_has_25 ?_
          refine lv_if_lt (tgt := 35) hx hb dX1_has_28 (by decide) (fun c_28 => ?_) (fun c_28 => ?_)
          · replace hr := hr.trans (if_pos c_28)
            exact kb1F (by rw [hr]; decide)
          · replace hr := hr.trans (if_neg c_28)
            exact kb1T hr
  exact lp6 (mI (0 : Int32) sz + 1) true (0 : Int32) ls (Nat.lt_succ_self _) hr (lv_sub hl [0, 1, 2, 3, 4, 5] rfl)
