def s_in (v : Int64) (low : Int64) (high : Int64) : Bool := if v < low then false else (if high < v then false else true)
abbrev rm_X6_in : Room := { frames := 0, cells := 0, slots := 0, locals := 0 }
set_option maxHeartbeats 4000000 in
set_option maxRecDepth 100000 in
theorem m_X6_in {l : Launch} (v : Int64) (low : Int64) (high : Int64) (RES : Bool) (hr : RES = s_in v low high) : g_R l yX6_in (ws_ yX6_in cX6_in 6 (some .boolean)) rm_X6_in [.long v, .long low, .long high] (fun _ => True) (fun _ => True) (.int (b2i RES)) := by
  refine g_ofR (by decide) (Nat.le_of_ble_eq_true rfl) ?_
  intro p e s m args below meth c ls Q hF hB hKp hl hQ
  obtain ⟨hx, hb, -, -, hml, hown, hts⟩ := id hF
  have hown : s.vm.findClass RX6 = some m.cls := hown
  have hC : CallFix p m c cX6_in 6 s args lw_all RX6 := ⟨hx, hb, hml, hown, hts⟩
  have hl : lv_has ls 6 [(0, .long v), (2, .long low), (4, .long high)] := hl
  unfold s_in at hr
  refine lv_lload_n hx hb dX6_in_0 rfl (lv_at hl 0 rfl) ?_
  refine lv_lload_n hx hb dX6_in_1 rfl (lv_at hl 1 rfl) ?_
  refine lq_lt (tgt := 17) hx hb dX6_in_2 dX6_in_3 (by decide) (fun c_2 => ?_) (fun c_2 => ?_)
  · replace hr := hr.trans (if_pos c_2)
    refine lv_iconst (v := (0 : Int32)) hx hb dX6_in_17 ic_0 ?_
    exact g_endRz hF hQ hr rfl dX6_in_18
  · replace hr := hr.trans (if_neg c_2)
    refine lv_lload_n hx hb dX6_in_6 rfl (lv_at hl 0 rfl) ?_
    refine lv_lload hx hb dX6_in_7 (lv_at hl 2 rfl) ?_
    refine lq_gt (tgt := 17) hx hb dX6_in_9 dX6_in_10 (by decide) (fun c_9 => ?_) (fun c_9 => ?_)
    · replace hr := hr.trans (if_pos c_9)
      refine lv_iconst (v := (0 : Int32)) hx hb dX6_in_17 ic_0 ?_
      exact g_endRz hF hQ hr rfl dX6_in_18
    · replace hr := hr.trans (if_neg c_9)
      refine lv_iconst (v := (1 : Int32)) hx hb dX6_in_13 ic_1 ?_
      refine lv_goto (tgt := 18) hx hb dX6_in_14 (by decide) ?_
      exact g_endRz hF hQ hr rfl dX6_in_18
def s_isSize (o : Int32) (sz : Int32) : Bool := bnd (α := Bool) (if o < (31 : Int32) then (if o < (39 : Int32) then false else (if (43 : Int32) < o then false else true)) else (if o ≤ (34 : Int32) then true else (if o < (39 : Int32) then false else (if (43 : Int32) < o then false else true)))) fun p1 => bnd (α := Bool) (if o = (14 : Int32) then true else (if o = (29 : Int32) then true else (if o = (30 : Int32) then true else false))) fun p2 => bnd (α := Bool) (if o < (11 : Int32) then (if o = (23 : Int32) then true else (if o = (36 : Int32) then true else (if o = (37 : Int32) then true else (if o = (38 : Int32) then true else (if o < (44 : Int32) then false else (if (47 : Int32) < o then false else true)))))) else (if o ≤ (13 : Int32) then true else (if o = (23 : Int32) then true else (if o = (36 : Int32) then true else (if o = (37 : Int32) then true else (if o = (38 : Int32) then true else (if o < (44 : Int32) then false else (if (47 : Int32) < o then false else true)))))))) fun p3 => if (b2i p1) = 0 then (if (b2i p2) = 0 then (if o = (35 : Int32) then (if sz = (1 : Int32) then true else false) else (if sz = (4 : Int32) then true else (if sz = (8 : Int32) then true else (if sz = (1 : Int32) then (if (b2i p3) = 0 then true else false) else false)))) else (if sz = (8 : Int32) then true else false)) else (if sz = 0 then true else false)
abbrev rm_X6_isSize : Room := { frames := 0, cells := 0, slots := 0, locals := 0 }
set_option maxHeartbeats 4000000 in
set_option maxRecDepth 100000 in
theorem m_X6_isSize {l : Launch} (o : Int32) (sz : Int32) (RES : Bool) (hr : RES = s_isSize o sz) : g_R l yX6_isSize (ws_ yX6_isSize cX6_isSize 5 (some .boolean)) rm_X6_isSize [.int o, .int sz] (fun _ => True) (fun _ => True) (.int (b2i RES)) := by
  refine g_ofR (by decide) (Nat.le_of_ble_eq_true rfl) ?_
  intro p e s m args below meth c ls Q hF hB hKp hl hQ
  obtain ⟨hx, hb, -, -, hml, hown, hts⟩ := id hF
  have hown : s.vm.findClass RX6 = some m.cls := hown
  have hC : CallFix p m c cX6_isSize 5 s args lw_all RX6 := ⟨hx, hb, hml, hown, hts⟩
  have hl : lv_has ls 5 [(0, .int o), (1, .int sz)] := hl
  unfold s_isSize at hr
  refine lv_iload_n hx hb dX6_isSize_0 rfl (lv_at hl 0 rfl) ?_
  refine lv_bipush (v := (31 : Int32)) hx hb dX6_isSize_1 bp_31 ?_
  obtain ⟨p1, ep1⟩ : ∃ z : Bool, z = (if o < (31 : Int32) then (if o < (39 : Int32) then false else (if (43 : Int32) < o then false else true)) else (if o ≤ (34 : Int32) then true else (if o < (39 : Int32) then false else (if (43 : Int32) < o then false else true)))) := ⟨_, rfl⟩
  replace hr := hr.trans (bnd_eq ep1)
  have kp1 : ∀ (ls : Array Slot), lv_has ls 5 [(0, .int o), (1, .int sz)] → W p l e rm_X6_isSize s m args below meth c s.heap [] 0 0 Q (F0 m 29 ls [.int (b2i p1)]) := by
    intro ls hl
    refine lv_istore_n (lv' := [(2, .int (b2i p1)), (0, .int o), (1, .int sz)]) hx hb dX6_isSize_29 rfl hl (by decide) rfl (fun ls hl => ?_)
    refine lv_iload_n hx hb dX6_isSize_30 rfl (lv_at hl 1 rfl) ?_
    refine lv_bipush (v := (14 : Int32)) hx hb dX6_isSize_31 bp_14 ?_
    obtain ⟨p2, ep2⟩ : ∃ z : Bool, z = (if o = (14 : Int32) then true else (if o = (29 : Int32) then true else (if o = (30 : Int32) then true else false))) := ⟨_, rfl⟩
    replace hr := hr.trans (bnd_eq ep2)
    have kp2 : ∀ (ls : Array Slot), lv_has ls 5 [(2, .int (b2i p1)), (0, .int o), (1, .int sz)] → W p l e rm_X6_isSize s m args below meth c s.heap [] 0 0 Q (F0 m 53 ls [.int (b2i p2)]) := by
      intro ls hl
      refine lv_istore_n (lv' := [(3, .int (b2i p2)), (2, .int (b2i p1)), (0, .int o), (1, .int sz)]) hx hb dX6_isSize_53 rfl hl (by decide) rfl (fun ls hl => ?_)
      refine lv_iload_n hx hb dX6_isSize_54 rfl (lv_at hl 2 rfl) ?_
      refine lv_bipush (v := (11 : Int32)) hx hb dX6_isSize_55 bp_11 ?_
      obtain ⟨p3, ep3⟩ : ∃ z : Bool, z = (if o < (11 : Int32) then (if o = (23 : Int32) then true else (if o = (36 : Int32) then true else (if o = (37 : Int32) then true else (if o = (38 : Int32) then true else (if o < (44 : Int32) then false else (if (47 : Int32) < o then false else true)))))) else (if o ≤ (13 : Int32) then true else (if o = (23 : Int32) then true else (if o = (36 : Int32) then true else (if o = (37 : Int32) then true else (if o = (38 : Int32) then true else (if o < (44 : Int32) then false else (if (47 : Int32) < o then false else true)))))))) := ⟨_, rfl⟩
      replace hr := hr.trans (bnd_eq ep3)
      have kp3 : ∀ (ls : Array Slot), lv_has ls 5 [(3, .int (b2i p2)), (2, .int (b2i p1)), (0, .int o), (1, .int sz)] → W p l e rm_X6_isSize s m args below meth c s.heap [] 0 0 Q (F0 m 107 ls [.int (b2i p3)]) := by
        intro ls hl
        refine lv_istore (lv' := [(4, .int (b2i p3)), (3, .int (b2i p2)), (2, .int (b2i p1)), (0, .int o), (1, .int sz)]) hx hb dX6_isSize_107 hl (by decide) rfl (fun ls hl => ?_)
        refine lv_iload_n hx hb dX6_isSize_109 rfl (lv_at hl 2 rfl) ?_
        refine lv_if_eq (tgt := 123) hx hb dX6_isSize_110 (by decide) (fun c_110 => ?_) (fun c_110 => ?_)
        · replace hr := hr.trans (if_pos c_110)
          refine lv_iload_n hx hb dX6_isSize_123 rfl (lv_at hl 1 rfl) ?_
          refine lv_if_eq (tgt := 141) hx hb dX6_isSize_124 (by decide) (fun c_124 => ?_) (fun c_124 => ?_)
          · replace hr := hr.trans (if_pos c_124)
            refine lv_iload_n hx hb dX6_isSize_141 rfl (lv_at hl 3 rfl) ?_
            refine lv_bipush (v := (35 : Int32)) hx hb dX6_isSize_142 bp_35 ?_
            refine lv_icmp_ne (tgt := 160) hx hb dX6_isSize_144 (by decide) (fun c_144 => ?_) (fun c_144 => ?_)
            · replace hr := hr.trans (if_neg c_144)
              refine lv_iload_n hx hb dX6_isSize_160 rfl (lv_at hl 4 rfl) ?_
              refine lv_iconst (v := (4 : Int32)) hx hb dX6_isSize_161 ic_4 ?_
              refine lv_icmp_eq (tgt := 181) hx hb dX6_isSize_162 (by decide) (fun c_162 => ?_) (fun c_162 => ?_)
              · replace hr := hr.trans (if_pos c_162)
                refine lv_iconst (v := (1 : Int32)) hx hb dX6_isSize_181 ic_1 ?_
                refine lv_goto (tgt := 186) hx hb dX6_isSize_182 (by decide) ?_
                exact g_endRz hF hQ hr rfl dX6_isSize_186
              · replace hr := hr.trans (if_neg c_162)
                refine lv_iload_n hx hb dX6_isSize_165 rfl (lv_at hl 4 rfl) ?_
                refine lv_bipush (v := (8 : Int32)) hx hb dX6_isSize_166 bp_8 ?_
                refine lv_icmp_eq (tgt := 181) hx hb dX6_isSize_168 (by decide) (fun c_168 => ?_) (fun c_168 => ?_)
                · replace hr := hr.trans (if_pos c_168)
                  refine lv_iconst (v := (1 : Int32)) hx hb dX6_isSize_181 ic_1 ?_
                  refine lv_goto (tgt := 186) hx hb dX6_isSize_182 (by decide) ?_
                  exact g_endRz hF hQ hr rfl dX6_isSize_186
                · replace hr := hr.trans (if_neg c_168)
                  refine lv_iload_n hx hb dX6_isSize_171 rfl (lv_at hl 4 rfl) ?_
                  refine lv_iconst (v := (1 : Int32)) hx hb dX6_isSize_172 ic_1 ?_
                  refine lv_icmp_ne (tgt := 185) hx hb dX6_isSize_173 (by decide) (fun c_173 => ?_) (fun c_173 => ?_)
                  · replace hr := hr.trans (if_neg c_173)
                    refine lv_iconst (v := (0 : Int32)) hx hb dX6_isSize_185 ic_0 ?_
                    exact g_endRz hF hQ hr rfl dX6_isSize_186
                  · replace hr := hr.trans (if_pos c_173)
                    refine lv_iload hx hb dX6_isSize_176 (lv_at hl 0 rfl) ?_
                    refine lv_if_ne (tgt := 185) hx hb dX6_isSize_178 (by decide) (fun c_178 => ?_) (fun c_178 => ?_)
                    · replace hr := hr.trans (if_neg c_178)
                      refine lv_iconst (v := (0 : Int32)) hx hb dX6_isSize_185 ic_0 ?_
                      exact g_endRz hF hQ hr rfl dX6_isSize_186
                    · replace hr := hr.trans (if_pos c_178)
                      refine lv_iconst (v := (1 : Int32)) hx hb dX6_isSize_181 ic_1 ?_
                      refine lv_goto (tgt := 186) hx hb dX6_isSize_182 (by decide) ?_
                      exact g_endRz hF hQ hr rfl dX6_isSize_186
            · replace hr := hr.trans (if_pos c_144)
              refine lv_iload_n hx hb dX6_isSize_147 rfl (lv_at hl 4 rfl) ?_
              refine lv_iconst (v := (1 : Int32)) hx hb dX6_isSize_148 ic_1 ?_
              refine lv_icmp_ne (tgt := 156) hx hb dX6_isSize_149 (by decide) (fun c_149 => ?_) (fun c_149 => ?_)
              · replace hr := hr.trans (if_neg c_149)
                refine lv_iconst (v := (0 : Int32)) hx hb dX6_isSize_156 ic_0 ?_
                refine lv_goto (tgt := 186) hx hb dX6_isSize_157 (by decide) ?_
                exact g_endRz hF hQ hr rfl dX6_isSize_186
              · replace hr := hr.trans (if_pos c_149)
                refine lv_iconst (v := (1 : Int32)) hx hb dX6_isSize_152 ic_1 ?_
                refine lv_goto (tgt := 186) hx hb dX6_isSize_153 (by decide) ?_
                exact g_endRz hF hQ hr rfl dX6_isSize_186
          · replace hr := hr.trans (if_neg c_124)
            refine lv_iload_n hx hb dX6_isSize_127 rfl (lv_at hl 4 rfl) ?_
            refine lv_bipush (v := (8 : Int32)) hx hb dX6_isSize_128 bp_8 ?_
            refine lv_icmp_ne (tgt := 137) hx hb dX6_isSize_130 (by decide) (fun c_130 => ?_) (fun c_130 => ?_)
            · replace hr := hr.trans (if_neg c_130)
              refine lv_iconst (v := (0 : Int32)) hx hb dX6_isSize_137 ic_0 ?_
              refine lv_goto (tgt := 186) hx hb dX6_isSize_138 (by decide) ?_
              exact g_endRz hF hQ hr rfl dX6_isSize_186
            · replace hr := hr.trans (if_pos c_130)
              refine lv_iconst (v := (1 : Int32)) hx hb dX6_isSize_133 ic_1 ?_
              refine lv_goto (tgt := 186) hx hb dX6_isSize_134 (by decide) ?_
              exact g_endRz hF hQ hr rfl dX6_isSize_186
        · replace hr := hr.trans (if_neg c_110)
          refine lv_iload_n hx hb dX6_isSize_113 rfl (lv_at hl 4 rfl) ?_
          refine lv_if_ne (tgt := 121) hx hb dX6_isSize_114 (by decide) (fun c_114 => ?_) (fun c_114 => ?_)
          · replace hr := hr.trans (if_neg c_114)
            refine lv_iconst (v := (0 : Int32)) hx hb dX6_isSize_121 ic_0 ?_
            exact g_endRz hF hQ hr rfl dX6_isSize_122
          · replace hr := hr.trans (if_pos c_114)
            refine lv_iconst (v := (1 : Int32)) hx hb dX6_isSize_117 ic_1 ?_
            refine lv_goto (tgt := 122) hx hb dX6_isSize_118 (by decide) ?_
            exact g_endRz hF hQ hr rfl dX6_isSize_122
      replace hr := ep3
      refine lv_icmp_lt (tgt := 66) hx hb dX6_isSize_57 (by decide) (fun c_57 => ?_) (fun c_57 => ?_)
      · replace hr := hr.trans (if_pos c_57)
        refine lv_iload_n hx hb dX6_isSize_66 rfl (lv_at hl 2 rfl) ?_
        refine lv_bipush (v := (23 : Int32)) hx hb dX6_isSize_67 bp_23 ?_
        refine lv_icmp_eq (tgt := 102) hx hb dX6_isSize_69 (by decide) (fun c_69 => ?_) (fun c_69 => ?_)
        · replace hr := hr.trans (if_pos c_69)
          refine lv_iconst (v := (1 : Int32)) hx hb dX6_isSize_102 ic_1 ?_
          refine lv_goto (tgt := 107) hx hb dX6_isSize_103 (by decide) ?_
          subst hr
          exact kp3 ls (lv_sub hl [0, 1, 2, 3] rfl)
        · replace hr := hr.trans (if_neg c_69)
          refine lv_iload_n hx hb dX6_isSize_72 rfl (lv_at hl 2 rfl) ?_
          refine lv_bipush (v := (36 : Int32)) hx hb dX6_isSize_73 bp_36 ?_
          refine lv_icmp_eq (tgt := 102) hx hb dX6_isSize_75 (by decide) (fun c_75 => ?_) (fun c_75 => ?_)
          · replace hr := hr.trans (if_pos c_75)
            refine lv_iconst (v := (1 : Int32)) hx hb dX6_isSize_102 ic_1 ?_
            refine lv_goto (tgt := 107) hx hb dX6_isSize_103 (by decide) ?_
            subst hr
            exact kp3 ls (lv_sub hl [0, 1, 2, 3] rfl)
          · replace hr := hr.trans (if_neg c_75)
            refine lv_iload_n hx hb dX6_isSize_78 rfl (lv_at hl 2 rfl) ?_
            refine lv_bipush (v := (37 : Int32)) hx hb dX6_isSize_79 bp_37 ?_
            refine lv_icmp_eq (tgt := 102) hx hb dX6_isSize_81 (by decide) (fun c_81 => ?_) (fun c_81 => ?_)
            · replace hr := hr.trans (if_pos c_81)
              refine lv_iconst (v := (1 : Int32)) hx hb dX6_isSize_102 ic_1 ?_
              refine lv_goto (tgt := 107) hx hb dX6_isSize_103 (by decide) ?_
              subst hr
              exact kp3 ls (lv_sub hl [0, 1, 2, 3] rfl)
            · replace hr := hr.trans (if_neg c_81)
              refine lv_iload_n hx hb dX6_isSize_84 rfl (lv_at hl 2 rfl) ?_
              refine lv_bipush (v := (38 : Int32)) hx hb dX6_isSize_85 bp_38 ?_
              refine lv_icmp_eq (tgt := 102) hx hb dX6_isSize_87 (by decide) (fun c_87 => ?_) (fun c_87 => ?_)
              · replace hr := hr.trans (if_pos c_87)
                refine lv_iconst (v := (1 : Int32)) hx hb dX6_isSize_102 ic_1 ?_
                refine lv_goto (tgt := 107) hx hb dX6_isSize_103 (by decide) ?_
                subst hr
                exact kp3 ls (lv_sub hl [0, 1, 2, 3] rfl)
              · replace hr := hr.trans (if_neg c_87)
                refine lv_iload_n hx hb dX6_isSize_90 rfl (lv_at hl 2 rfl) ?_
                refine lv_bipush (v := (44 : Int32)) hx hb dX6_isSize_91 bp_44 ?_
                refine lv_icmp_lt (tgt := 106) hx hb dX6_isSize_93 (by decide) (fun c_93 => ?_) (fun c_93 => ?_)
                · replace hr := hr.trans (if_pos c_93)
                  refine lv_iconst (v := (0 : Int32)) hx hb dX6_isSize_106 ic_0 ?_
                  subst hr
                  exact kp3 ls (lv_sub hl [0, 1, 2, 3] rfl)
                · replace hr := hr.trans (if_neg c_93)
                  refine lv_iload_n hx hb dX6_isSize_96 rfl (lv_at hl 2 rfl) ?_
                  refine lv_bipush (v := (47 : Int32)) hx hb dX6_isSize_97 bp_47 ?_
                  refine lv_icmp_gt (tgt := 106) hx hb dX6_isSize_99 (by decide) (fun c_99 => ?_) (fun c_99 => ?_)
                  · replace hr := hr.trans (if_pos c_99)
                    refine lv_iconst (v := (0 : Int32)) hx hb dX6_isSize_106 ic_0 ?_
                    subst hr
                    exact kp3 ls (lv_sub hl [0, 1, 2, 3] rfl)
                  · replace hr := hr.trans (if_neg c_99)
                    refine lv_iconst (v := (1 : Int32)) hx hb dX6_isSize_102 ic_1 ?_
                    refine lv_goto (tgt := 107) hx hb dX6_isSize_103 (by decide) ?_
                    subst hr
                    exact kp3 ls (lv_sub hl [0, 1, 2, 3] rfl)
      · replace hr := hr.trans (if_neg c_57)
        refine lv_iload_n hx hb dX6_isSize_60 rfl (lv_at hl 2 rfl) ?_
        refine lv_bipush (v := (13 : Int32)) hx hb dX6_isSize_61 bp_13 ?_
        refine lv_icmp_le (tgt := 102) hx hb dX6_isSize_63 (by decide) (fun c_63 => ?_) (fun c_63 => ?_)
        · replace hr := hr.trans (if_pos c_63)
          refine lv_iconst (v := (1 : Int32)) hx hb dX6_isSize_102 ic_1 ?_
          refine lv_goto (tgt := 107) hx hb dX6_isSize_103 (by decide) ?_
          subst hr
          exact kp3 ls (lv_sub hl [0, 1, 2, 3] rfl)
        · replace hr := hr.trans (if_neg c_63)
          refine lv_iload_n hx hb dX6_isSize_66 rfl (lv_at hl 2 rfl) ?_
          refine lv_bipush (v := (23 : Int32)) hx hb dX6_isSize_67 bp_23 ?_
          refine lv_icmp_eq (tgt := 102) hx hb dX6_isSize_69 (by decide) (fun c_69 => ?_) (fun c_69 => ?_)
          · replace hr := hr.trans (if_pos c_69)
            refine lv_iconst (v := (1 : Int32)) hx hb dX6_isSize_102 ic_1 ?_
            refine lv_goto (tgt := 107) hx hb dX6_isSize_103 (by decide) ?_
            subst hr
            exact kp3 ls (lv_sub hl [0, 1, 2, 3] rfl)
          · replace hr := hr.trans (if_neg c_69)
            refine lv_iload_n hx hb dX6_isSize_72 rfl (lv_at hl 2 rfl) ?_
            refine lv_bipush (v := (36 : Int32)) hx hb dX6_isSize_73 bp_36 ?_
            refine lv_icmp_eq (tgt := 102) hx hb dX6_isSize_75 (by decide) (fun c_75 => ?_) (fun c_75 => ?_)
            · replace hr := hr.trans (if_pos c_75)
              refine lv_iconst (v := (1 : Int32)) hx hb dX6_isSize_102 ic_1 ?_
              refine lv_goto (tgt := 107) hx hb dX6_isSize_103 (by decide) ?_
              subst hr
              exact kp3 ls (lv_sub hl [0, 1, 2, 3] rfl)
            · replace hr := hr.trans (if_neg c_75)
              refine lv_iload_n hx hb dX6_isSize_78 rfl (lv_at hl 2 rfl) ?_
              refine lv_bipush (v := (37 : Int32)) hx hb dX6_isSize_79 bp_37 ?_
              refine lv_icmp_eq (tgt := 102) hx hb dX6_isSize_81 (by decide) (fun c_81 => ?_) (fun c_81 => ?_)
              · replace hr := hr.trans (if_pos c_81)
                refine lv_iconst (v := (1 : Int32)) hx hb dX6_isSize_102 ic_1 ?_
                refine lv_goto (tgt := 107) hx hb dX6_isSize_103 (by decide) ?_
                subst hr
                exact kp3 ls (lv_sub hl [0, 1, 2, 3] rfl)
              · replace hr := hr.trans (if_neg c_81)
                refine lv_iload_n hx hb dX6_isSize_84 rfl (lv_at hl 2 rfl) ?_
                refine lv_bipush (v := (38 : Int32)) hx hb dX6_isSize_85 bp_38 ?_
                refine lv_icmp_eq (tgt := 102) hx hb dX6_isSize_87 (by decide) (fun c_87 => ?_) (fun c_87 => ?_)
                · replace hr := hr.trans (if_pos c_87)
                  refine lv_iconst (v := (1 : Int32)) hx hb dX6_isSize_102 ic_1 ?_
                  refine lv_goto (tgt := 107) hx hb dX6_isSize_103 (by decide) ?_
                  subst hr
                  exact kp3 ls (lv_sub hl [0, 1, 2, 3] rfl)
                · replace hr := hr.trans (if_neg c_87)
                  refine lv_iload_n hx hb dX6_isSize_90 rfl (lv_at hl 2 rfl) ?_
                  refine lv_bipush (v := (44 : Int32)) hx hb dX6_isSize_91 bp_44 ?_
                  refine lv_icmp_lt (tgt := 106) hx hb dX6_isSize_93 (by decide) (fun c_93 => ?_) (fun c_93 => ?_)
                  · replace hr := hr.trans (if_pos c_93)
                    refine lv_iconst (v := (0 : Int32)) hx hb dX6_isSize_106 ic_0 ?_
                    subst hr
                    exact kp3 ls (lv_sub hl [0, 1, 2, 3] rfl)
                  · replace hr := hr.trans (if_neg c_93)
                    refine lv_iload_n hx hb dX6_isSize_96 rfl (lv_at hl 2 rfl) ?_
                    refine lv_bipush (v := (47 : Int32)) hx hb dX6_isSize_97 bp_47 ?_
                    refine lv_icmp_gt (tgt := 106) hx hb dX6_isSize_99 (by decide) (fun c_99 => ?_) (fun c_99 => ?_)
                    · replace hr := hr.trans (if_pos c_99)
                      refine lv_iconst (v := (0 : Int32)) hx hb dX6_isSize_106 ic_0 ?_
                      subst hr
                      exact kp3 ls (lv_sub hl [0, 1, 2, 3] rfl)
                    · replace hr := hr.trans (if_neg c_99)
                      refine lv_iconst (v := (1 : Int32)) hx hb dX6_isSize_102 ic_1 ?_
                      refine lv_goto (tgt := 107) hx hb dX6_isSize_103 (by decide) ?_
                      subst hr
                      exact kp3 ls (lv_sub hl [0, 1, 2, 3] rfl)
    replace hr := ep2
    refine lv_icmp_eq (tgt := 48) hx hb dX6_isSize_33 (by decide) (fun c_33 => ?_) (fun c_33 => ?_)
    · replace hr := hr.trans (if_pos c_33)
      refine lv_iconst (v := (1 : Int32)) hx hb dX6_isSize_48 ic_1 ?_
      refine lv_goto (tgt := 53) hx hb dX6_isSize_49 (by decide) ?_
      subst hr
      exact kp2 ls (lv_sub hl [0, 1, 2] rfl)
    · replace hr := hr.trans (if_neg c_33)
      refine lv_iload_n hx hb dX6_isSize_36 rfl (lv_at hl 1 rfl) ?_
      refine lv_bipush (v := (29 : Int32)) hx hb dX6_isSize_37 bp_29 ?_
      refine lv_icmp_eq (tgt := 48) hx hb dX6_isSize_39 (by decide) (fun c_39 => ?_) (fun c_39 => ?_)
      · replace hr := hr.trans (if_pos c_39)
        refine lv_iconst (v := (1 : Int32)) hx hb dX6_isSize_48 ic_1 ?_
        refine lv_goto (tgt := 53) hx hb dX6_isSize_49 (by decide) ?_
        subst hr
        exact kp2 ls (lv_sub hl [0, 1, 2] rfl)
      · replace hr := hr.trans (if_neg c_39)
        refine lv_iload_n hx hb dX6_isSize_42 rfl (lv_at hl 1 rfl) ?_
        refine lv_bipush (v := (30 : Int32)) hx hb dX6_isSize_43 bp_30 ?_
        refine lv_icmp_ne (tgt := 52) hx hb dX6_isSize_45 (by decide) (fun c_45 => ?_) (fun c_45 => ?_)
        · replace hr := hr.trans (if_neg c_45)
          refine lv_iconst (v := (0 : Int32)) hx hb dX6_isSize_52 ic_0 ?_
          subst hr
          exact kp2 ls (lv_sub hl [0, 1, 2] rfl)
        · replace hr := hr.trans (if_pos c_45)
          refine lv_iconst (v := (1 : Int32)) hx hb dX6_isSize_48 ic_1 ?_
          refine lv_goto (tgt := 53) hx hb dX6_isSize_49 (by decide) ?_
          subst hr
          exact kp2 ls (lv_sub hl [0, 1, 2] rfl)
  replace hr := ep1
  refine lv_icmp_lt (tgt := 12) hx hb dX6_isSize_3 (by decide) (fun c_3 => ?_) (fun c_3 => ?_)
  · replace hr := hr.trans (if_pos c_3)
    refine lv_iload_n hx hb dX6_isSize_12 rfl (lv_at hl 0 rfl) ?_
    refine lv_bipush (v := (39 : Int32)) hx hb dX6_isSize_13 bp_39 ?_
    refine lv_icmp_lt (tgt := 28) hx hb dX6_isSize_15 (by decide) (fun c_15 => ?_) (fun c_15 => ?_)
    · replace hr := hr.trans (if_pos c_15)
      refine lv_iconst (v := (0 : Int32)) hx hb dX6_isSize_28 ic_0 ?_
      subst hr
      exact kp1 ls (lv_sub hl [0, 1] rfl)
    · replace hr := hr.trans (if_neg c_15)
      refine lv_iload_n hx hb dX6_isSize_18 rfl (lv_at hl 0 rfl) ?_
      refine lv_bipush (v := (43 : Int32)) hx hb dX6_isSize_19 bp_43 ?_
      refine lv_icmp_gt (tgt := 28) hx hb dX6_isSize_21 (by decide) (fun c_21 => ?_) (fun c_21 => ?_)
      · replace hr := hr.trans (if_pos c_21)
        refine lv_iconst (v := (0 : Int32)) hx hb dX6_isSize_28 ic_0 ?_
        subst hr
        exact kp1 ls (lv_sub hl [0, 1] rfl)
      · replace hr := hr.trans (if_neg c_21)
        refine lv_iconst (v := (1 : Int32)) hx hb dX6_isSize_24 ic_1 ?_
        refine lv_goto (tgt := 29) hx hb dX6_isSize_25 (by decide) ?_
        subst hr
        exact kp1 ls (lv_sub hl [0, 1] rfl)
  · replace hr := hr.trans (if_neg c_3)
    refine lv_iload_n hx hb dX6_isSize_6 rfl (lv_at hl 0 rfl) ?_
    refine lv_bipush (v := (34 : Int32)) hx hb dX6_isSize_7 bp_34 ?_
    refine lv_icmp_le (tgt := 24) hx hb dX6_isSize_9 (by decide) (fun c_9 => ?_) (fun c_9 => ?_)
    · replace hr := hr.trans (if_pos c_9)
      refine lv_iconst (v := (1 : Int32)) hx hb dX6_isSize_24 ic_1 ?_
      refine lv_goto (tgt := 29) hx hb dX6_isSize_25 (by decide) ?_
      subst hr
      exact kp1 ls (lv_sub hl [0, 1] rfl)
    · replace hr := hr.trans (if_neg c_9)
      refine lv_iload_n hx hb dX6_isSize_12 rfl (lv_at hl 0 rfl) ?_
      refine lv_bipush (v := (39 : Int32)) hx hb dX6_isSize_13 bp_39 ?_
      refine lv_icmp_lt (tgt := 28) hx hb dX6_isSize_15 (by decide) (fun c_15 => ?_) (fun c_15 => ?_)
      · replace hr := hr.trans (if_pos c_15)
        refine lv_iconst (v := (0 : Int32)) hx hb dX6_isSize_28 ic_0 ?_
        subst hr
        exact kp1 ls (lv_sub hl [0, 1] rfl)
      · replace hr := hr.trans (if_neg c_15)
        refine lv_iload_n hx hb dX6_isSize_18 rfl (lv_at hl 0 rfl) ?_
        refine lv_bipush (v := (43 : Int32)) hx hb dX6_isSize_19 bp_43 ?_
        refine lv_icmp_gt (tgt := 28) hx hb dX6_isSize_21 (by decide) (fun c_21 => ?_) (fun c_21 => ?_)
        · replace hr := hr.trans (if_pos c_21)
          refine lv_iconst (v := (0 : Int32)) hx hb dX6_isSize_28 ic_0 ?_
          subst hr
          exact kp1 ls (lv_sub hl [0, 1] rfl)
        · replace hr := hr.trans (if_neg c_21)
          refine lv_iconst (v := (1 : Int32)) hx hb dX6_isSize_24 ic_1 ?_
          refine lv_goto (tgt := 29) hx hb dX6_isSize_25 (by decide) ?_
          subst hr
          exact kp1 ls (lv_sub hl [0, 1] rfl)
def s_isNumber (K : XK) : Bool := if ((kx_kinds K) (0 : Int32).toNatClampNeg) = (3 : Int32) then true else (if ((kx_kinds K) (1 : Int32).toNatClampNeg) = (3 : Int32) then true else (if ((kx_kinds K) (2 : Int32).toNatClampNeg) = (3 : Int32) then true else false))
abbrev rm_X6_isNumber : Room := { frames := 0, cells := 0, slots := 0, locals := 0 }
set_option maxHeartbeats 4000000 in
set_option maxRecDepth 100000 in
theorem m_X6_isNumber {l : Launch} {D : va_G} {ad : Nat → Nat} {ca : Nat → ClassId} {K : XK} {d : XD} (RES : Bool) (hr : RES = s_isNumber K) : g_R l yX6_isNumber (ws_ yX6_isNumber cX6_isNumber 1 (some .boolean)) rm_X6_isNumber [.ref (ad 9)] (xKp D ca) (xB D ad ca K d) (.int (b2i RES)) := by
  refine g_ofR (by decide) (Nat.le_of_ble_eq_true rfl) ?_
  intro p e s m args below meth c ls Q hF hB hKp hl hQ
  obtain ⟨hx, hb, -, -, hml, hown, hts⟩ := id hF
  have hown : s.vm.findClass RX6 = some m.cls := hown
  have hC : CallFix p m c cX6_isNumber 1 s args lw_all RX6 := ⟨hx, hb, hml, hown, hts⟩
  obtain ⟨hK, hN⟩ := id hKp
  have hP : va_P D xcl (XW ad ca K d) s.heap := hB
  have hl : lv_has ls 1 [(0, .ref (ad 9))] := hl
  unfold s_isNumber at hr
  refine lv_aload_n hx hb dX6_isNumber_0 rfl (lv_at hl 0 rfl) ?_
  refine xgn_9_3 hx hb hts hown hK hP (xq_q185 hN) dX6_isNumber_1 ?_
  refine lv_iconst (v := (0 : Int32)) hx hb dX6_isNumber_4 ic_0 ?_
  refine xl_10 hx hb hK hP (show ¬ ((0 : Int32) < 0 ∨ 3 ≤ (0 : Int32).toNatClampNeg) by decide) dX6_isNumber_5 ?_
  refine lv_iconst (v := (3 : Int32)) hx hb dX6_isNumber_6 ic_3 ?_
  refine lv_icmp_eq (tgt := 30) hx hb dX6_isNumber_7 (by decide) (fun c_7 => ?_) (fun c_7 => ?_)
  · replace hr := hr.trans (if_pos c_7)
    refine lv_iconst (v := (1 : Int32)) hx hb dX6_isNumber_30 ic_1 ?_
    refine lv_goto (tgt := 35) hx hb dX6_isNumber_31 (by decide) ?_
    exact g_endRz hF hQ hr rfl dX6_isNumber_35
  · replace hr := hr.trans (if_neg c_7)
    refine lv_aload_n hx hb dX6_isNumber_10 rfl (lv_at hl 0 rfl) ?_
    refine xgn_9_3 hx hb hts hown hK hP (xq_q185 hN) dX6_isNumber_11 ?_
    refine lv_iconst (v := (1 : Int32)) hx hb dX6_isNumber_14 ic_1 ?_
    refine xl_10 hx hb hK hP (show ¬ ((1 : Int32) < 0 ∨ 3 ≤ (1 : Int32).toNatClampNeg) by decide) dX6_isNumber_15 ?_
    refine lv_iconst (v := (3 : Int32)) hx hb dX6_isNumber_16 ic_3 ?_
    refine lv_icmp_eq (tgt := 30) hx hb dX6_isNumber_17 (by decide) (fun c_17 => ?_) (fun c_17 => ?_)
    · replace hr := hr.trans (if_pos c_17)
      refine lv_iconst (v := (1 : Int32)) hx hb dX6_isNumber_30 ic_1 ?_
      refine lv_goto (tgt := 35) hx hb dX6_isNumber_31 (by decide) ?_
      exact g_endRz hF hQ hr rfl dX6_isNumber_35
    · replace hr := hr.trans (if_neg c_17)
      refine lv_aload_n hx hb dX6_isNumber_20 rfl (lv_at hl 0 rfl) ?_
      refine xgn_9_3 hx hb hts hown hK hP (xq_q185 hN) dX6_isNumber_21 ?_
      refine lv_iconst (v := (2 : Int32)) hx hb dX6_isNumber_24 ic_2 ?_
      refine xl_10 hx hb hK hP (show ¬ ((2 : Int32) < 0 ∨ 3 ≤ (2 : Int32).toNatClampNeg) by decide) dX6_isNumber_25 ?_
      refine lv_iconst (v := (3 : Int32)) hx hb dX6_isNumber_26 ic_3 ?_
      refine lv_icmp_ne (tgt := 34) hx hb dX6_isNumber_27 (by decide) (fun c_27 => ?_) (fun c_27 => ?_)
      · replace hr := hr.trans (if_neg c_27)
        refine lv_iconst (v := (0 : Int32)) hx hb dX6_isNumber_34 ic_0 ?_
        exact g_endRz hF hQ hr rfl dX6_isNumber_35
      · replace hr := hr.trans (if_pos c_27)
        refine lv_iconst (v := (1 : Int32)) hx hb dX6_isNumber_30 ic_1 ?_
        refine lv_goto (tgt := 35) hx hb dX6_isNumber_31 (by decide) ?_
        exact g_endRz hF hQ hr rfl dX6_isNumber_35
def s_fits (K : XK) : Bool := bnd (α := Bool) (if (kx_op K) < (24 : Int32) then (if (kx_op K) = (47 : Int32) then true else false) else (if (kx_op K) ≤ (28 : Int32) then true else (if (kx_op K) = (47 : Int32) then true else false))) fun b1 => if b1 = true then (s_in (kx_number K) (0 : Int64) (255 : Int64)) else (if (kx_op K) = (33 : Int32) then (s_in (kx_number K) (0 : Int64) (65535 : Int64)) else (if (kx_size K) = (1 : Int32) then (s_in (kx_number K) (-128 : Int64) (127 : Int64)) else (if (kx_op K) = (8 : Int32) then (if (kx_size K) = (8 : Int32) then true else (if (b2i (s_in (kx_number K) (-2147483648 : Int64) (2147483647 : Int64))) = 0 then false else true)) else (if (b2i (s_in (kx_number K) (-2147483648 : Int64) (2147483647 : Int64))) = 0 then false else true))))
abbrev rm_X6_fits : Room := { frames := 1, cells := 0, slots := 0, locals := 25 }
set_option maxHeartbeats 4000000 in
set_option maxRecDepth 100000 in
theorem m_X6_fits {l : Launch} {D : va_G} {ad : Nat → Nat} {ca : Nat → ClassId} {K : XK} {d : XD} (RES : Bool) (hr : RES = s_fits K) : g_R l yX6_fits (ws_ yX6_fits cX6_fits 1 (some .boolean)) rm_X6_fits [.ref (ad 9)] (xKp D ca) (xB D ad ca K d) (.int (b2i RES)) := by
  refine g_ofR (by decide) (Nat.le_of_ble_eq_true rfl) ?_
  intro p e s m args below meth c ls Q hF hB hKp hl hQ
  obtain ⟨hx, hb, -, -, hml, hown, hts⟩ := id hF
  have hown : s.vm.findClass RX6 = some m.cls := hown
  have hC : CallFix p m c cX6_fits 1 s args lw_all RX6 := ⟨hx, hb, hml, hown, hts⟩
  obtain ⟨hK, hN⟩ := id hKp
  have hP : va_P D xcl (XW ad ca K d) s.heap := hB
  have hl : lv_has ls 1 [(0, .ref (ad 9))] := hl
  unfold s_fits at hr
  refine lv_aload_n hx hb dX6_fits_0 rfl (lv_at hl 0 rfl) ?_
  refine xgn_9_0 hx hb hts hown hK hP (xq_q176 hN) dX6_fits_1 ?_
  refine lv_bipush (v := (24 : Int32)) hx hb dX6_fits_4 bp_24 ?_
  obtain ⟨b1, eb1⟩ : ∃ z : Bool, z = (if (kx_op K) < (24 : Int32) then (if (kx_op K) = (47 : Int32) then true else false) else (if (kx_op K) ≤ (28 : Int32) then true else (if (kx_op K) = (47 : Int32) then true else false))) := ⟨_, rfl⟩
  replace hr := hr.trans (bnd_eq eb1)
  have kb1T : b1 = true → W p l e rm_X6_fits s m args below meth c s.heap [] 0 0 Q (F0 m 27 ls []) := by
    intro hb1
    replace hr := hr.trans (if_pos hb1)
    refine lv_aload_n hx hb dX6_fits_27 rfl (lv_at hl 0 rfl) ?_
    refine xgn_9_9 hx hb hts hown hK hP (xq_q201 hN) dX6_fits_28 ?_
    refine lv_lconst (v := (0 : Int64)) hx hb dX6_fits_31 lc_0 ?_
    refine lv_ldc2 hx hb hown (hts _ q366) dX6_fits_32 ?_
    refine g_RS (As := [.long (kx_number K), .long (0 : Int64), .long (255 : Int64)]) (rest := []) hC (m_X6_in (kx_number K) (0 : Int64) (255 : Int64) _ rfl) (va_cwS 3 hts cw_X6_15 rfl rfl rfl hd_X6_in ⟨Nat.le_of_ble_eq_true rfl, Nat.le_of_ble_eq_true rfl⟩) g_Kst0 trivial trivial ⟨Nat.zero_le _, Nat.zero_le _⟩ rfl hl.1 rfl (Nat.le_of_ble_eq_true rfl) dX6_fits_35 ?_
    exact g_endRz hF hQ hr rfl dX6_fits_38
  have kb1F : ¬ b1 = true → W p l e rm_X6_fits s m args below meth c s.heap [] 0 0 Q (F0 m 39 ls []) := by
    intro hb1
    replace hr := hr.trans (if_neg hb1)
    refine lv_aload_n hx hb dX6_fits_39 rfl (lv_at hl 0 rfl) ?_
    refine xgn_9_0 hx hb hts hown hK hP (xq_q176 hN) dX6_fits_40 ?_
    refine lv_bipush (v := (33 : Int32)) hx hb dX6_fits_43 bp_33 ?_
    refine lv_icmp_ne (tgt := 60) hx hb dX6_fits_45 (by decide) (fun c_45 => ?_) (fun c_45 => ?_)
    · replace hr := hr.trans (if_neg c_45)
      refine lv_aload_n hx hb dX6_fits_60 rfl (lv_at hl 0 rfl) ?_
      refine xgn_9_1 hx hb hts hown hK hP (xq_q179 hN) dX6_fits_61 ?_
      refine lv_iconst (v := (1 : Int32)) hx hb dX6_fits_64 ic_1 ?_
      refine lv_icmp_ne (tgt := 82) hx hb dX6_fits_65 (by decide) (fun c_65 => ?_) (fun c_65 => ?_)
      · replace hr := hr.trans (if_neg c_65)
        refine lv_aload_n hx hb dX6_fits_82 rfl (lv_at hl 0 rfl) ?_
        refine xgn_9_0 hx hb hts hown hK hP (xq_q176 hN) dX6_fits_83 ?_
        refine lv_bipush (v := (8 : Int32)) hx hb dX6_fits_86 bp_8 ?_
        refine lv_icmp_ne (tgt := 100) hx hb dX6_fits_88 (by decide) (fun c_88 => ?_) (fun c_88 => ?_)
        · replace hr := hr.trans (if_neg c_88)
          refine lv_aload_n hx hb dX6_fits_100 rfl (lv_at hl 0 rfl) ?_
          refine xgn_9_9 hx hb hts hown hK hP (xq_q201 hN) dX6_fits_101 ?_
          refine lv_ldc2 hx hb hown (hts _ q370) dX6_fits_104 ?_
          refine lv_ldc2 hx hb hown (hts _ q371) dX6_fits_107 ?_
          refine g_RS (As := [.long (kx_number K), .long (-2147483648 : Int64), .long (2147483647 : Int64)]) (rest := []) hC (m_X6_in (kx_number K) (-2147483648 : Int64) (2147483647 : Int64) _ rfl) (va_cwS 3 hts cw_X6_15 rfl rfl rfl hd_X6_in ⟨Nat.le_of_ble_eq_true rfl, Nat.le_of_ble_eq_true rfl⟩) g_Kst0 trivial trivial ⟨Nat.zero_le _, Nat.zero_le _⟩ rfl hl.1 rfl (Nat.le_of_ble_eq_true rfl) dX6_fits_110 ?_
          refine lv_if_eq (tgt := 120) hx hb dX6_fits_113 (by decide) (fun c_113 => ?_) (fun c_113 => ?_)
          · replace hr := hr.trans (if_pos c_113)
            refine lv_iconst (v := (0 : Int32)) hx hb dX6_fits_120 ic_0 ?_
            exact g_endRz hF hQ hr rfl dX6_fits_121
          · replace hr := hr.trans (if_neg c_113)
            refine lv_iconst (v := (1 : Int32)) hx hb dX6_fits_116 ic_1 ?_
            refine lv_goto (tgt := 121) hx hb dX6_fits_117 (by decide) ?_
            exact g_endRz hF hQ hr rfl dX6_fits_121
        · replace hr := hr.trans (if_pos c_88)
          refine lv_aload_n hx hb dX6_fits_91 rfl (lv_at hl 0 rfl) ?_
          refine xgn_9_1 hx hb hts hown hK hP (xq_q179 hN) dX6_fits_92 ?_
          refine lv_bipush (v := (8 : Int32)) hx hb dX6_fits_95 bp_8 ?_
          refine lv_icmp_eq (tgt := 116) hx hb dX6_fits_97 (by decide) (fun c_97 => ?_) (fun c_97 => ?_)
          · replace hr := hr.trans (if_pos c_97)
            refine lv_iconst (v := (1 : Int32)) hx hb dX6_fits_116 ic_1 ?_
            refine lv_goto (tgt := 121) hx hb dX6_fits_117 (by decide) ?_
            exact g_endRz hF hQ hr rfl dX6_fits_121
          · replace hr := hr.trans (if_neg c_97)
            refine lv_aload_n hx hb dX6_fits_100 rfl (lv_at hl 0 rfl) ?_
            refine xgn_9_9 hx hb hts hown hK hP (xq_q201 hN) dX6_fits_101 ?_
            refine lv_ldc2 hx hb hown (hts _ q370) dX6_fits_104 ?_
            refine lv_ldc2 hx hb hown (hts _ q371) dX6_fits_107 ?_
            refine g_RS (As := [.long (kx_number K), .long (-2147483648 : Int64), .long (2147483647 : Int64)]) (rest := []) hC (m_X6_in (kx_number K) (-2147483648 : Int64) (2147483647 : Int64) _ rfl) (va_cwS 3 hts cw_X6_15 rfl rfl rfl hd_X6_in ⟨Nat.le_of_ble_eq_true rfl, Nat.le_of_ble_eq_true rfl⟩) g_Kst0 trivial trivial ⟨Nat.zero_le _, Nat.zero_le _⟩ rfl hl.1 rfl (Nat.le_of_ble_eq_true rfl) dX6_fits_110 ?_
            refine lv_if_eq (tgt := 120) hx hb dX6_fits_113 (by decide) (fun c_113 => ?_) (fun c_113 => ?_)
            · replace hr := hr.trans (if_pos c_113)
              refine lv_iconst (v := (0 : Int32)) hx hb dX6_fits_120 ic_0 ?_
              exact g_endRz hF hQ hr rfl dX6_fits_121
            · replace hr := hr.trans (if_neg c_113)
              refine lv_iconst (v := (1 : Int32)) hx hb dX6_fits_116 ic_1 ?_
              refine lv_goto (tgt := 121) hx hb dX6_fits_117 (by decide) ?_
              exact g_endRz hF hQ hr rfl dX6_fits_121
      · replace hr := hr.trans (if_pos c_65)
        refine lv_aload_n hx hb dX6_fits_68 rfl (lv_at hl 0 rfl) ?_
        refine xgn_9_9 hx hb hts hown hK hP (xq_q201 hN) dX6_fits_69 ?_
        refine lv_ldc2 hx hb hown (hts _ q368) dX6_fits_72 ?_
        refine lv_ldc2 hx hb hown (hts _ q369) dX6_fits_75 ?_
        refine g_RS (As := [.long (kx_number K), .long (-128 : Int64), .long (127 : Int64)]) (rest := []) hC (m_X6_in (kx_number K) (-128 : Int64) (127 : Int64) _ rfl) (va_cwS 3 hts cw_X6_15 rfl rfl rfl hd_X6_in ⟨Nat.le_of_ble_eq_true rfl, Nat.le_of_ble_eq_true rfl⟩) g_Kst0 trivial trivial ⟨Nat.zero_le _, Nat.zero_le _⟩ rfl hl.1 rfl (Nat.le_of_ble_eq_true rfl) dX6_fits_78 ?_
        exact g_endRz hF hQ hr rfl dX6_fits_81
    · replace hr := hr.trans (if_pos c_45)
      refine lv_aload_n hx hb dX6_fits_48 rfl (lv_at hl 0 rfl) ?_
      refine xgn_9_9 hx hb hts hown hK hP (xq_q201 hN) dX6_fits_49 ?_
      refine lv_lconst (v := (0 : Int64)) hx hb dX6_fits_52 lc_0 ?_
      refine lv_ldc2 hx hb hown (hts _ q367) dX6_fits_53 ?_
      refine g_RS (As := [.long (kx_number K), .long (0 : Int64), .long (65535 : Int64)]) (rest := []) hC (m_X6_in (kx_number K) (0 : Int64) (65535 : Int64) _ rfl) (va_cwS 3 hts cw_X6_15 rfl rfl rfl hd_X6_in ⟨Nat.le_of_ble_eq_true rfl, Nat.le_of_ble_eq_true rfl⟩) g_Kst0 trivial trivial ⟨Nat.zero_le _, Nat.zero_le _⟩ rfl hl.1 rfl (Nat.le_of_ble_eq_true rfl) dX6_fits_56 ?_
      exact g_endRz hF hQ hr rfl dX6_fits_59
  replace hr := eb1
  refine lv_icmp_lt (tgt := 18) hx hb dX6_fits_6 (by decide) (fun c_6 => ?_) (fun c_6 => ?_)
  · replace hr := hr.trans (if_pos c_6)
    refine lv_aload_n hx hb dX6_fits_18 rfl (lv_at hl 0 rfl) ?_
    refine xgn_9_0 hx hb hts hown hK hP (xq_q176 hN) dX6_fits_19 ?_
    refine lv_bipush (v := (47 : Int32)) hx hb dX6_fits_22 bp_47 ?_
    refine lv_icmp_ne (tgt := 39) hx hb dX6_fits_24 (by decide) (fun c_24 => ?_) (fun c_24 => ?_)
    · replace hr := hr.trans (if_neg c_24)
      exact kb1F (by rw [hr]; decide)
    · replace hr := hr.trans (if_pos c_24)
      exact kb1T hr
  · replace hr := hr.trans (if_neg c_6)
    refine lv_aload_n hx hb dX6_fits_9 rfl (lv_at hl 0 rfl) ?_
    refine xgn_9_0 hx hb hts hown hK hP (xq_q176 hN) dX6_fits_10 ?_
    refine lv_bipush (v := (28 : Int32)) hx hb dX6_fits_13 bp_28 ?_
    refine lv_icmp_le (tgt := 27) hx hb dX6_fits_15 (by decide) (fun c_15 => ?_) (fun c_15 => ?_)
    · replace hr := hr.trans (if_pos c_15)
      exact kb1T hr
    · replace hr := hr.trans (if_neg c_15)
      refine lv_aload_n hx hb dX6_fits_18 rfl (lv_at hl 0 rfl) ?_
      refine xgn_9_0 hx hb hts hown hK hP (xq_q176 hN) dX6_fits_19 ?_
      refine lv_bipush (v := (47 : Int32)) hx hb dX6_fits_22 bp_47 ?_
      refine lv_icmp_ne (tgt := 39) hx hb dX6_fits_24 (by decide) (fun c_24 => ?_) (fun c_24 => ?_)
      · replace hr := hr.trans (if_neg c_24)
        exact kb1F (by rw [hr]; decide)
      · replace hr := hr.trans (if_pos c_24)
        exact kb1T hr
def s_isMemory (K : XK) : Bool := bnd (α := Bool) (if (kx_index K) = (-1 : Int32) then false else true) fun p1 => bnd (α := Bool) (if (b2i (s_in ((kx_base K).toInt64) (-1 : Int64) (16 : Int64))) = 0 then true else (if (b2i p1) = 0 then false else (if (b2i (s_in ((kx_index K).toInt64) (0 : Int64) (15 : Int64))) = 0 then true else (if (kx_index K) = (4 : Int32) then true else (if (kx_base K) = (16 : Int32) then true else false))))) fun b2 => if b2 = true then false else (if (b2i p1) = 0 then (if (kx_scale K) = (1 : Int32) then true else false) else (if (kx_scale K) = (1 : Int32) then true else (if (kx_scale K) = (2 : Int32) then true else (if (kx_scale K) = (4 : Int32) then true else (if (kx_scale K) = (8 : Int32) then true else false)))))
abbrev rm_X6_isMemory : Room := { frames := 1, cells := 0, slots := 0, locals := 25 }
set_option maxHeartbeats 4000000 in
set_option maxRecDepth 100000 in
theorem m_X6_isMemory {l : Launch} {D : va_G} {ad : Nat → Nat} {ca : Nat → ClassId} {K : XK} {d : XD} (RES : Bool) (hr : RES = s_isMemory K) : g_R l yX6_isMemory (ws_ yX6_isMemory cX6_isMemory 2 (some .boolean)) rm_X6_isMemory [.ref (ad 9)] (xKp D ca) (xB D ad ca K d) (.int (b2i RES)) := by
  refine g_ofR (by decide) (Nat.le_of_ble_eq_true rfl) ?_
  intro p e s m args below meth c ls Q hF hB hKp hl hQ
  obtain ⟨hx, hb, -, -, hml, hown, hts⟩ := id hF
  have hown : s.vm.findClass RX6 = some m.cls := hown
  have hC : CallFix p m c cX6_isMemory 2 s args lw_all RX6 := ⟨hx, hb, hml, hown, hts⟩
  obtain ⟨hK, hN⟩ := id hKp
  have hP : va_P D xcl (XW ad ca K d) s.heap := hB
  have hl : lv_has ls 2 [(0, .ref (ad 9))] := hl
  unfold s_isMemory at hr
  refine lv_aload_n hx hb dX6_isMemory_0 rfl (lv_at hl 0 rfl) ?_
  refine xgn_9_6 hx hb hts hown hK hP (xq_q195 hN) dX6_isMemory_1 ?_
  refine lv_iconst (v := (-1 : Int32)) hx hb dX6_isMemory_4 ic_m1 ?_
  obtain ⟨p1, ep1⟩ : ∃ z : Bool, z = (if (kx_index K) = (-1 : Int32) then false else true) := ⟨_, rfl⟩
  replace hr := hr.trans (bnd_eq ep1)
  have kp1 : ∀ (ls : Array Slot), lv_has ls 2 [(0, .ref (ad 9))] → W p l e rm_X6_isMemory s m args below meth c s.heap [] 0 0 Q (F0 m 13 ls [.int (b2i p1)]) := by
    intro ls hl
    refine lv_istore_n (lv' := [(1, .int (b2i p1)), (0, .ref (ad 9))]) hx hb dX6_isMemory_13 rfl hl (by decide) rfl (fun ls hl => ?_)
    refine lv_aload_n hx hb dX6_isMemory_14 rfl (lv_at hl 1 rfl) ?_
    refine xgn_9_5 hx hb hts hown hK hP (xq_q192 hN) dX6_isMemory_15 ?_
    refine lv_i2l (v := (kx_base K).toInt64) hx hb dX6_isMemory_18 rfl ?_
    refine lv_ldc2 hx hb hown (hts _ q358) dX6_isMemory_19 ?_
    refine lv_ldc2 hx hb hown (hts _ q359) dX6_isMemory_22 ?_
    refine g_RS (As := [.long ((kx_base K).toInt64), .long (-1 : Int64), .long (16 : Int64)]) (rest := []) hC (m_X6_in ((kx_base K).toInt64) (-1 : Int64) (16 : Int64) _ rfl) (va_cwS 3 hts cw_X6_15 rfl rfl rfl hd_X6_in ⟨Nat.le_of_ble_eq_true rfl, Nat.le_of_ble_eq_true rfl⟩) g_Kst0 trivial trivial ⟨Nat.zero_le _, Nat.zero_le _⟩ rfl hl.1 rfl (Nat.le_of_ble_eq_true rfl) dX6_isMemory_25 ?_
    obtain ⟨b2, eb2⟩ : ∃ z : Bool, z = (if (b2i (s_in ((kx_base K).toInt64) (-1 : Int64) (16 : Int64))) = 0 then true else (if (b2i p1) = 0 then false else (if (b2i (s_in ((kx_index K).toInt64) (0 : Int64) (15 : Int64))) = 0 then true else (if (kx_index K) = (4 : Int32) then true else (if (kx_base K) = (16 : Int32) then true else false))))) := ⟨_, rfl⟩
    replace hr := hr.trans (bnd_eq eb2)
    have kb2T : b2 = true → W p l e rm_X6_isMemory s m args below meth c s.heap [] 0 0 Q (F0 m 67 ls []) := by
      intro hb2
      replace hr := hr.trans (if_pos hb2)
      refine lv_iconst (v := (0 : Int32)) hx hb dX6_isMemory_67 ic_0 ?_
      exact g_endRz hF hQ hr rfl dX6_isMemory_68
    have kb2F : ¬ b2 = true → W p l e rm_X6_isMemory s m args below meth c s.heap [] 0 0 Q (F0 m 69 ls []) := by
      intro hb2
      replace hr := hr.trans (if_neg hb2)
      refine lv_iload_n hx hb dX6_isMemory_69 rfl (lv_at hl 0 rfl) ?_
      refine lv_if_eq (tgt := 114) hx hb dX6_isMemory_70 (by decide) (fun c_70 => ?_) (fun c_70 => ?_)
      · replace hr := hr.trans (if_pos c_70)
        refine lv_aload_n hx hb dX6_isMemory_114 rfl (lv_at hl 1 rfl) ?_
        refine xgn_9_7 hx hb hts hown hK hP (xq_q198 hN) dX6_isMemory_115 ?_
        refine lv_iconst (v := (1 : Int32)) hx hb dX6_isMemory_118 ic_1 ?_
        refine lv_icmp_ne (tgt := 126) hx hb dX6_isMemory_119 (by decide) (fun c_119 => ?_) (fun c_119 => ?_)
        · replace hr := hr.trans (if_neg c_119)
          refine lv_iconst (v := (0 : Int32)) hx hb dX6_isMemory_126 ic_0 ?_
          exact g_endRz hF hQ hr rfl dX6_isMemory_127
        · replace hr := hr.trans (if_pos c_119)
          refine lv_iconst (v := (1 : Int32)) hx hb dX6_isMemory_122 ic_1 ?_
          refine lv_goto (tgt := 127) hx hb dX6_isMemory_123 (by decide) ?_
          exact g_endRz hF hQ hr rfl dX6_isMemory_127
      · replace hr := hr.trans (if_neg c_70)
        refine lv_aload_n hx hb dX6_isMemory_73 rfl (lv_at hl 1 rfl) ?_
        refine xgn_9_7 hx hb hts hown hK hP (xq_q198 hN) dX6_isMemory_74 ?_
        refine lv_iconst (v := (1 : Int32)) hx hb dX6_isMemory_77 ic_1 ?_
        refine lv_icmp_eq (tgt := 106) hx hb dX6_isMemory_78 (by decide) (fun c_78 => ?_) (fun c_78 => ?_)
        · replace hr := hr.trans (if_pos c_78)
          refine lv_iconst (v := (1 : Int32)) hx hb dX6_isMemory_106 ic_1 ?_
          refine lv_goto (tgt := 127) hx hb dX6_isMemory_107 (by decide) ?_
          exact g_endRz hF hQ hr rfl dX6_isMemory_127
        · replace hr := hr.trans (if_neg c_78)
          refine lv_aload_n hx hb dX6_isMemory_81 rfl (lv_at hl 1 rfl) ?_
          refine xgn_9_7 hx hb hts hown hK hP (xq_q198 hN) dX6_isMemory_82 ?_
          refine lv_iconst (v := (2 : Int32)) hx hb dX6_isMemory_85 ic_2 ?_
          refine lv_icmp_eq (tgt := 106) hx hb dX6_isMemory_86 (by decide) (fun c_86 => ?_) (fun c_86 => ?_)
          · replace hr := hr.trans (if_pos c_86)
            refine lv_iconst (v := (1 : Int32)) hx hb dX6_isMemory_106 ic_1 ?_
            refine lv_goto (tgt := 127) hx hb dX6_isMemory_107 (by decide) ?_
            exact g_endRz hF hQ hr rfl dX6_isMemory_127
          · replace hr := hr.trans (if_neg c_86)
            refine lv_aload_n hx hb dX6_isMemory_89 rfl (lv_at hl 1 rfl) ?_
            refine xgn_9_7 hx hb hts hown hK hP (xq_q198 hN) dX6_isMemory_90 ?_
            refine lv_iconst (v := (4 : Int32)) hx hb dX6_isMemory_93 ic_4 ?_
            refine lv_icmp_eq (tgt := 106) hx hb dX6_isMemory_94 (by decide) (fun c_94 => ?_) (fun c_94 => ?_)
            · replace hr := hr.trans (if_pos c_94)
              refine lv_iconst (v := (1 : Int32)) hx hb dX6_isMemory_106 ic_1 ?_
              refine lv_goto (tgt := 127) hx hb dX6_isMemory_107 (by decide) ?_
              exact g_endRz hF hQ hr rfl dX6_isMemory_127
            · replace hr := hr.trans (if_neg c_94)
              refine lv_aload_n hx hb dX6_isMemory_97 rfl (lv_at hl 1 rfl) ?_
              refine xgn_9_7 hx hb hts hown hK hP (xq_q198 hN) dX6_isMemory_98 ?_
              refine lv_bipush (v := (8 : Int32)) hx hb dX6_isMemory_101 bp_8 ?_
              refine lv_icmp_ne (tgt := 110) hx hb dX6_isMemory_103 (by decide) (fun c_103 => ?_) (fun c_103 => ?_)
              · replace hr := hr.trans (if_neg c_103)
                refine lv_iconst (v := (0 : Int32)) hx hb dX6_isMemory_110 ic_0 ?_
                refine lv_goto (tgt := 127) hx hb dX6_isMemory_111 (by decide) ?_
                exact g_endRz hF hQ hr rfl dX6_isMemory_127
              · replace hr := hr.trans (if_pos c_103)
                refine lv_iconst (v := (1 : Int32)) hx hb dX6_isMemory_106 ic_1 ?_
                refine lv_goto (tgt := 127) hx hb dX6_isMemory_107 (by decide) ?_
                exact g_endRz hF hQ hr rfl dX6_isMemory_127
    replace hr := eb2
    refine lv_if_eq (tgt := 67) hx hb dX6_isMemory_28 (by decide) (fun c_28 => ?_) (fun c_28 => ?_)
    · replace hr := hr.trans (if_pos c_28)
      exact kb2T hr
    · replace hr := hr.trans (if_neg c_28)
      refine lv_iload_n hx hb dX6_isMemory_31 rfl (lv_at hl 0 rfl) ?_
      refine lv_if_eq (tgt := 69) hx hb dX6_isMemory_32 (by decide) (fun c_32 => ?_) (fun c_32 => ?_)
      · replace hr := hr.trans (if_pos c_32)
        exact kb2F (by rw [hr]; decide)
      · replace hr := hr.trans (if_neg c_32)
        refine lv_aload_n hx hb dX6_isMemory_35 rfl (lv_at hl 1 rfl) ?_
        refine xgn_9_6 hx hb hts hown hK hP (xq_q195 hN) dX6_isMemory_36 ?_
        refine lv_i2l (v := (kx_index K).toInt64) hx hb dX6_isMemory_39 rfl ?_
        refine lv_lconst (v := (0 : Int64)) hx hb dX6_isMemory_40 lc_0 ?_
        refine lv_ldc2 hx hb hown (hts _ q351) dX6_isMemory_41 ?_
        refine g_RS (As := [.long ((kx_index K).toInt64), .long (0 : Int64), .long (15 : Int64)]) (rest := []) hC (m_X6_in ((kx_index K).toInt64) (0 : Int64) (15 : Int64) _ rfl) (va_cwS 3 hts cw_X6_15 rfl rfl rfl hd_X6_in ⟨Nat.le_of_ble_eq_true rfl, Nat.le_of_ble_eq_true rfl⟩) g_Kst0 trivial trivial ⟨Nat.zero_le _, Nat.zero_le _⟩ rfl hl.1 rfl (Nat.le_of_ble_eq_true rfl) dX6_isMemory_44 ?_
        refine lv_if_eq (tgt := 67) hx hb dX6_isMemory_47 (by decide) (fun c_47 => ?_) (fun c_47 => ?_)
        · replace hr := hr.trans (if_pos c_47)
          exact kb2T hr
        · replace hr := hr.trans (if_neg c_47)
          refine lv_aload_n hx hb dX6_isMemory_50 rfl (lv_at hl 1 rfl) ?_
          refine xgn_9_6 hx hb hts hown hK hP (xq_q195 hN) dX6_isMemory_51 ?_
          refine lv_iconst (v := (4 : Int32)) hx hb dX6_isMemory_54 ic_4 ?_
          refine lv_icmp_eq (tgt := 67) hx hb dX6_isMemory_55 (by decide) (fun c_55 => ?_) (fun c_55 => ?_)
          · replace hr := hr.trans (if_pos c_55)
            exact kb2T hr
          · replace hr := hr.trans (if_neg c_55)
            refine lv_aload_n hx hb dX6_isMemory_58 rfl (lv_at hl 1 rfl) ?_
            refine xgn_9_5 hx hb hts hown hK hP (xq_q192 hN) dX6_isMemory_59 ?_
            refine lv_bipush (v := (16 : Int32)) hx hb dX6_isMemory_62 bp_16 ?_
            refine lv_icmp_ne (tgt := 69) hx hb dX6_isMemory_64 (by decide) (fun c_64 => ?_) (fun c_64 => ?_)
            · replace hr := hr.trans (if_neg c_64)
              exact kb2F (by rw [hr]; decide)
            · replace hr := hr.trans (if_pos c_64)
              exact kb2T hr
  replace hr := ep1
  refine lv_icmp_eq (tgt := 12) hx hb dX6_isMemory_5 (by decide) (fun c_5 => ?_) (fun c_5 => ?_)
  · replace hr := hr.trans (if_pos c_5)
    refine lv_iconst (v := (0 : Int32)) hx hb dX6_isMemory_12 ic_0 ?_
    subst hr
    exact kp1 ls (lv_sub hl [0] rfl)
  · replace hr := hr.trans (if_neg c_5)
    refine lv_iconst (v := (1 : Int32)) hx hb dX6_isMemory_8 ic_1 ?_
    refine lv_goto (tgt := 13) hx hb dX6_isMemory_9 (by decide) ?_
    subst hr
    exact kp1 ls (lv_sub hl [0] rfl)
def s_operands (K : XK) : Bool := bnd (α := Int32) (((kx_kinds K) (0 : Int32).toNatClampNeg)) fun v1 => bnd (α := Int32) (((kx_kinds K) (1 : Int32).toNatClampNeg)) fun v2 => bnd (α := Int32) (((kx_kinds K) (2 : Int32).toNatClampNeg)) fun v3 => bnd (α := Bool) (if v1 = (1 : Int32) then true else (if v1 = (2 : Int32) then true else false)) fun p4 => bnd (α := Bool) (if v1 = (1 : Int32) then true else false) fun p5 => bnd (α := Bool) (if v2 = 0 then (if v3 = 0 then true else false) else false) fun p6 => bnd (α := Bool) (if v3 = 0 then true else false) fun p7 => if (9 : Int32) ≤ (kx_op K) then (if (kx_op K) = (9 : Int32) then (if (b2i p4) = 0 then false else (if (b2i p7) = 0 then false else (if v2 = (1 : Int32) then true else (if v2 = (3 : Int32) then true else false)))) else (bnd (α := Bool) (if (kx_op K) = (10 : Int32) then true else (if (kx_op K) = (48 : Int32) then true else (if (kx_op K) = (49 : Int32) then true else false))) fun b8 => if b8 = true then (if (b2i p4) = 0 then false else (if (b2i p7) = 0 then false else (if v2 = (1 : Int32) then true else false))) else (if (kx_op K) = (11 : Int32) then (if (b2i p5) = 0 then false else (if (b2i p7) = 0 then false else (if v2 = (2 : Int32) then true else false))) else (bnd (α := Bool) (if (kx_op K) < (15 : Int32) then (if (kx_op K) = (30 : Int32) then true else (if (kx_op K) = (35 : Int32) then true else false)) else (if (kx_op K) ≤ (22 : Int32) then true else (if (kx_op K) = (30 : Int32) then true else (if (kx_op K) = (35 : Int32) then true else false)))) fun b9 => if b9 = true then (if (b2i p4) = 0 then false else (if (b2i p6) = 0 then false else true)) else (if (kx_op K) = (23 : Int32) then (if (b2i p5) = 0 then false else (if v2 = (1 : Int32) then (if (b2i p7) = 0 then (if v3 = (3 : Int32) then true else false) else true) else (if v2 = (2 : Int32) then (if (b2i p7) = 0 then (if v3 = (3 : Int32) then true else false) else true) else false))) else (bnd (α := Bool) (if (kx_op K) < (24 : Int32) then false else (if (28 : Int32) < (kx_op K) then false else true)) fun b10 => if b10 = true then (if (b2i p4) = 0 then false else (if (b2i p7) = 0 then false else (if v2 = (3 : Int32) then true else (if v2 = (1 : Int32) then (if ((kx_regs K) (1 : Int32).toNatClampNeg) = (1 : Int32) then true else false) else false)))) else (bnd (α := Bool) (if (kx_op K) = (29 : Int32) then true else (if (kx_op K) = (31 : Int32) then true else (if (kx_op K) = (32 : Int32) then true else false))) fun b11 => if b11 = true then (if v1 = 0 then false else (if (b2i p6) = 0 then false else true)) else (if (kx_op K) = (33 : Int32) then (if (b2i p6) = 0 then false else (if v1 = 0 then true else (if v1 = (3 : Int32) then true else false))) else (if (kx_op K) = (34 : Int32) then (if (b2i p6) = 0 then false else (if v1 = (3 : Int32) then true else false)) else (if (kx_op K) = (46 : Int32) then (if (b2i p5) = 0 then false else (if (b2i p6) = 0 then false else true)) else (if (kx_op K) = (47 : Int32) then (if (b2i p4) = 0 then false else (if (b2i p7) = 0 then false else (if v2 = (1 : Int32) then true else (if v2 = (3 : Int32) then true else false)))) else (bnd (α := Bool) (if (kx_op K) < (12 : Int32) then (if (kx_op K) = (36 : Int32) then true else (if (kx_op K) = (44 : Int32) then true else (if (kx_op K) = (45 : Int32) then true else false))) else (if (kx_op K) ≤ (14 : Int32) then true else (if (kx_op K) = (36 : Int32) then true else (if (kx_op K) = (44 : Int32) then true else (if (kx_op K) = (45 : Int32) then true else false))))) fun b12 => if b12 = true then (if (b2i p5) = 0 then false else (if (b2i p7) = 0 then false else (if v2 = (1 : Int32) then true else (if v2 = (2 : Int32) then true else false)))) else (if v1 = 0 then (if (b2i p6) = 0 then false else true) else false))))))))))))) else (if (b2i p4) = 0 then false else (if (b2i p7) = 0 then false else (if v2 = 0 then false else (if (b2i p5) = 0 then (if v2 = (2 : Int32) then false else true) else true))))
abbrev rm_X6_operands : Room := { frames := 0, cells := 0, slots := 0, locals := 0 }
set_option maxHeartbeats 4000000 in
set_option maxRecDepth 100000 in
theorem m_X6_operands {l : Launch} {D : va_G} {ad : Nat → Nat} {ca : Nat → ClassId} {K : XK} {d : XD} (RES : Bool) (hr : RES = s_operands K) : g_R l yX6_operands (ws_ yX6_operands cX6_operands 9 (some .boolean)) rm_X6_operands [.ref (ad 9)] (xKp D ca) (xB D ad ca K d) (.int (b2i RES)) := by
  refine g_ofR (by decide) (Nat.le_of_ble_eq_true rfl) ?_
  intro p e s m args below meth c ls Q hF hB hKp hl hQ
  obtain ⟨hx, hb, -, -, hml, hown, hts⟩ := id hF
  have hown : s.vm.findClass RX6 = some m.cls := hown
  have hC : CallFix p m c cX6_operands 9 s args lw_all RX6 := ⟨hx, hb, hml, hown, hts⟩
  obtain ⟨hK, hN⟩ := id hKp
  have hP : va_P D xcl (XW ad ca K d) s.heap := hB
  have hl : lv_has ls 9 [(0, .ref (ad 9))] := hl
  unfold s_operands at hr
  refine lv_aload_n hx hb dX6_operands_0 rfl (lv_at hl 0 rfl) ?_
  refine xgn_9_3 hx hb hts hown hK hP (xq_q185 hN) dX6_operands_1 ?_
  refine lv_iconst (v := (0 : Int32)) hx hb dX6_operands_4 ic_0 ?_
  refine xl_10 hx hb hK hP (show ¬ ((0 : Int32) < 0 ∨ 3 ≤ (0 : Int32).toNatClampNeg) by decide) dX6_operands_5 ?_
  refine lv_topi (fun v1 ev1 => ?_)
  replace hr := hr.trans (bnd_eq ev1)
  refine lv_istore_n (lv' := [(1, .int v1), (0, .ref (ad 9))]) hx hb dX6_operands_6 rfl hl (by decide) rfl (fun ls hl => ?_)
  refine lv_aload_n hx hb dX6_operands_7 rfl (lv_at hl 1 rfl) ?_
  refine xgn_9_3 hx hb hts hown hK hP (xq_q185 hN) dX6_operands_8 ?_
  refine lv_iconst (v := (1 : Int32)) hx hb dX6_operands_11 ic_1 ?_
  refine xl_10 hx hb hK hP (show ¬ ((1 : Int32) < 0 ∨ 3 ≤ (1 : Int32).toNatClampNeg) by decide) dX6_operands_12 ?_
  refine lv_topi (fun v2 ev2 => ?_)
  replace hr := hr.trans (bnd_eq ev2)
  refine lv_istore_n (lv' := [(2, .int v2), (1, .int v1), (0, .ref (ad 9))]) hx hb dX6_operands_13 rfl hl (by decide) rfl (fun ls hl => ?_)
  refine lv_aload_n hx hb dX6_operands_14 rfl (lv_at hl 2 rfl) ?_
  refine xgn_9_3 hx hb hts hown hK hP (xq_q185 hN) dX6_operands_15 ?_
  refine lv_iconst (v := (2 : Int32)) hx hb dX6_operands_18 ic_2 ?_
  refine xl_10 hx hb hK hP (show ¬ ((2 : Int32) < 0 ∨ 3 ≤ (2 : Int32).toNatClampNeg) by decide) dX6_operands_19 ?_
  refine lv_topi (fun v3 ev3 => ?_)
  replace hr := hr.trans (bnd_eq ev3)
  refine lv_istore_n (lv' := [(3, .int v3), (2, .int v2), (1, .int v1), (0, .ref (ad 9))]) hx hb dX6_operands_20 rfl hl (by decide) rfl (fun ls hl => ?_)
  refine lv_iload_n hx hb dX6_operands_21 rfl (lv_at hl 2 rfl) ?_
  refine lv_iconst (v := (1 : Int32)) hx hb dX6_operands_22 ic_1 ?_
  obtain ⟨p4, ep4⟩ : ∃ z : Bool, z = (if v1 = (1 : Int32) then true else (if v1 = (2 : Int32) then true else false)) := ⟨_, rfl⟩
  replace hr := hr.trans (bnd_eq ep4)
  have kp4 : ∀ (ls : Array Slot), lv_has ls 9 [(3, .int v3), (2, .int v2), (1, .int v1), (0, .ref (ad 9))] → W p l e rm_X6_operands s m args below meth c s.heap [] 0 0 Q (F0 m 36 ls [.int (b2i p4)]) := by
    intro ls hl
    refine lv_istore (lv' := [(4, .int (b2i p4)), (3, .int v3), (2, .int v2), (1, .int v1), (0, .ref (ad 9))]) hx hb dX6_operands_36 hl (by decide) rfl (fun ls hl => ?_)
    refine lv_iload_n hx hb dX6_operands_38 rfl (lv_at hl 3 rfl) ?_
    refine lv_iconst (v := (1 : Int32)) hx hb dX6_operands_39 ic_1 ?_
    obtain ⟨p5, ep5⟩ : ∃ z : Bool, z = (if v1 = (1 : Int32) then true else false) := ⟨_, rfl⟩
    replace hr := hr.trans (bnd_eq ep5)
    have kp5 : ∀ (ls : Array Slot), lv_has ls 9 [(4, .int (b2i p4)), (3, .int v3), (2, .int v2), (1, .int v1), (0, .ref (ad 9))] → W p l e rm_X6_operands s m args below meth c s.heap [] 0 0 Q (F0 m 48 ls [.int (b2i p5)]) := by
      intro ls hl
      refine lv_istore (lv' := [(5, .int (b2i p5)), (4, .int (b2i p4)), (3, .int v3), (2, .int v2), (1, .int v1), (0, .ref (ad 9))]) hx hb dX6_operands_48 hl (by decide) rfl (fun ls hl => ?_)
      refine lv_iload_n hx hb dX6_operands_50 rfl (lv_at hl 3 rfl) ?_
      obtain ⟨p6, ep6⟩ : ∃ z : Bool, z = (if v2 = 0 then (if v3 = 0 then true else false) else false) := ⟨_, rfl⟩
      replace hr := hr.trans (bnd_eq ep6)
      have kp6 : ∀ (ls : Array Slot), lv_has ls 9 [(5, .int (b2i p5)), (4, .int (b2i p4)), (3, .int v3), (2, .int v2), (1, .int v1), (0, .ref (ad 9))] → W p l e rm_X6_operands s m args below meth c s.heap [] 0 0 Q (F0 m 63 ls [.int (b2i p6)]) := by
        intro ls hl
        refine lv_istore (lv' := [(6, .int (b2i p6)), (5, .int (b2i p5)), (4, .int (b2i p4)), (3, .int v3), (2, .int v2), (1, .int v1), (0, .ref (ad 9))]) hx hb dX6_operands_63 hl (by decide) rfl (fun ls hl => ?_)
        refine lv_iload_n hx hb dX6_operands_65 rfl (lv_at hl 3 rfl) ?_
        obtain ⟨p7, ep7⟩ : ∃ z : Bool, z = (if v3 = 0 then true else false) := ⟨_, rfl⟩
        replace hr := hr.trans (bnd_eq ep7)
        have kp7 : ∀ (ls : Array Slot), lv_has ls 9 [(6, .int (b2i p6)), (5, .int (b2i p5)), (4, .int (b2i p4)), (3, .int v3), (2, .int v2), (1, .int v1), (0, .ref (ad 9))] → W p l e rm_X6_operands s m args below meth c s.heap [] 0 0 Q (F0 m 74 ls [.int (b2i p7)]) := by
          intro ls hl
          refine lv_istore (lv' := [(7, .int (b2i p7)), (6, .int (b2i p6)), (5, .int (b2i p5)), (4, .int (b2i p4)), (3, .int v3), (2, .int v2), (1, .int v1), (0, .ref (ad 9))]) hx hb dX6_operands_74 hl (by decide) rfl (fun ls hl => ?_)
          refine lv_aload_n hx hb dX6_operands_76 rfl (lv_at hl 7 rfl) ?_
          refine xgn_9_0 hx hb hts hown hK hP (xq_q176 hN) dX6_operands_77 ?_
          refine lv_istore (lv' := [(8, .int (kx_op K)), (7, .int (b2i p7)), (6, .int (b2i p6)), (5, .int (b2i p5)), (4, .int (b2i p4)), (3, .int v3), (2, .int v2), (1, .int v1), (0, .ref (ad 9))]) hx hb dX6_operands_80 hl (by decide) rfl (fun ls hl => ?_)
          refine lv_iload hx hb dX6_operands_82 (lv_at hl 0 rfl) ?_
          refine lv_bipush (v := (9 : Int32)) hx hb dX6_operands_84 bp_9 ?_
          refine lv_icmp_ge (tgt := 119) hx hb dX6_operands_86 (by decide) (fun c_86 => ?_) (fun c_86 => ?_)
          · replace hr := hr.trans (if_pos c_86)
            refine lv_iload hx hb dX6_operands_119 (lv_at hl 0 rfl) ?_
            refine lv_bipush (v := (9 : Int32)) hx hb dX6_operands_121 bp_9 ?_
            refine lv_icmp_ne (tgt := 152) hx hb dX6_operands_123 (by decide) (fun c_123 => ?_) (fun c_123 => ?_)
            · replace hr := hr.trans (if_neg c_123)
              refine lv_iload hx hb dX6_operands_152 (lv_at hl 0 rfl) ?_
              refine lv_bipush (v := (10 : Int32)) hx hb dX6_operands_154 bp_10 ?_
              obtain ⟨b8, eb8⟩ : ∃ z : Bool, z = (if (kx_op K) = (10 : Int32) then true else (if (kx_op K) = (48 : Int32) then true else (if (kx_op K) = (49 : Int32) then true else false))) := ⟨_, rfl⟩
              replace hr := hr.trans (bnd_eq eb8)
              have kb8T : b8 = true → W p l e rm_X6_operands s m args below meth c s.heap [] 0 0 Q (F0 m 173 ls []) := by
                intro hb8
                replace hr := hr.trans (if_pos hb8)
                refine lv_iload hx hb dX6_operands_173 (lv_at hl 4 rfl) ?_
                refine lv_if_eq (tgt := 192) hx hb dX6_operands_175 (by decide) (fun c_175 => ?_) (fun c_175 => ?_)
                · replace hr := hr.trans (if_pos c_175)
                  refine lv_iconst (v := (0 : Int32)) hx hb dX6_operands_192 ic_0 ?_
                  exact g_endRz hF hQ hr rfl dX6_operands_193
                · replace hr := hr.trans (if_neg c_175)
                  refine lv_iload hx hb dX6_operands_178 (lv_at hl 1 rfl) ?_
                  refine lv_if_eq (tgt := 192) hx hb dX6_operands_180 (by decide) (fun c_180 => ?_) (fun c_180 => ?_)
                  · replace hr := hr.trans (if_pos c_180)
                    refine lv_iconst (v := (0 : Int32)) hx hb dX6_operands_192 ic_0 ?_
                    exact g_endRz hF hQ hr rfl dX6_operands_193
                  · replace hr := hr.trans (if_neg c_180)
                    refine lv_iload_n hx hb dX6_operands_183 rfl (lv_at hl 6 rfl) ?_
                    refine lv_iconst (v := (1 : Int32)) hx hb dX6_operands_184 ic_1 ?_
                    refine lv_icmp_ne (tgt := 192) hx hb dX6_operands_185 (by decide) (fun c_185 => ?_) (fun c_185 => ?_)
                    · replace hr := hr.trans (if_neg c_185)
                      refine lv_iconst (v := (0 : Int32)) hx hb dX6_operands_192 ic_0 ?_
                      exact g_endRz hF hQ hr rfl dX6_operands_193
                    · replace hr := hr.trans (if_pos c_185)
                      refine lv_iconst (v := (1 : Int32)) hx hb dX6_operands_188 ic_1 ?_
                      refine lv_goto (tgt := 193) hx hb dX6_operands_189 (by decide) ?_
                      exact g_endRz hF hQ hr rfl dX6_operands_193
              have kb8F : ¬ b8 = true → W p l e rm_X6_operands s m args below meth c s.heap [] 0 0 Q (F0 m 194 ls []) := by
                intro hb8
                replace hr := hr.trans (if_neg hb8)
                have er := eb8
                have hf := Bool.eq_false_iff.mpr hb8
                have c_156 : ¬ ((kx_op K) = (10 : Int32)) := fun q => absurd (hf.symm.trans (er.trans (if_pos q))) (by decide)
                have er := er.trans (if_neg c_156)
                have c_163 : ¬ ((kx_op K) = (48 : Int32)) := fun q => absurd (hf.symm.trans (er.trans (if_pos q))) (by decide)
                have er := er.trans (if_neg c_163)
                have c_170 : ¬ ((kx_op K) = (49 : Int32)) := fun q => absurd (hf.symm.trans (er.trans (if_pos q))) (by decide)
                have er := er.trans (if_neg c_170)
                clear er
                refine lv_iload hx hb dX6_operands_194 (lv_at hl 0 rfl) ?_
                refine lv_bipush (v := (11 : Int32)) hx hb dX6_operands_196 bp_11 ?_
                refine lv_icmp_ne (tgt := 222) hx hb dX6_operands_198 (by decide) (fun c_198 => ?_) (fun c_198 => ?_)
                · replace hr := hr.trans (if_neg c_198)
                  refine lv_iload hx hb dX6_operands_222 (lv_at hl 0 rfl) ?_
                  refine lv_bipush (v := (15 : Int32)) hx hb dX6_operands_224 bp_15 ?_
                  obtain ⟨b9, eb9⟩ : ∃ z : Bool, z = (if (kx_op K) < (15 : Int32) then (if (kx_op K) = (30 : Int32) then true else (if (kx_op K) = (35 : Int32) then true else false)) else (if (kx_op K) ≤ (22 : Int32) then true else (if (kx_op K) = (30 : Int32) then true else (if (kx_op K) = (35 : Int32) then true else false)))) := ⟨_, rfl⟩
                  replace hr := hr.trans (bnd_eq eb9)
                  have kb9T : b9 = true → W p l e rm_X6_operands s m args below meth c s.heap [] 0 0 Q (F0 m 250 ls []) := by
                    intro hb9
                    replace hr := hr.trans (if_pos hb9)
                    refine lv_iload hx hb dX6_operands_250 (lv_at hl 4 rfl) ?_
                    refine lv_if_eq (tgt := 264) hx hb dX6_operands_252 (by decide) (fun c_252 => ?_) (fun c_252 => ?_)
                    · replace hr := hr.trans (if_pos c_252)
                      refine lv_iconst (v := (0 : Int32)) hx hb dX6_operands_264 ic_0 ?_
                      exact g_endRz hF hQ hr rfl dX6_operands_265
                    · replace hr := hr.trans (if_neg c_252)
                      refine lv_iload hx hb dX6_operands_255 (lv_at hl 2 rfl) ?_
                      refine lv_if_eq (tgt := 264) hx hb dX6_operands_257 (by decide) (fun c_257 => ?_) (fun c_257 => ?_)
                      · replace hr := hr.trans (if_pos c_257)
                        refine lv_iconst (v := (0 : Int32)) hx hb dX6_operands_264 ic_0 ?_
                        exact g_endRz hF hQ hr rfl dX6_operands_265
                      · replace hr := hr.trans (if_neg c_257)
                        refine lv_iconst (v := (1 : Int32)) hx hb dX6_operands_260 ic_1 ?_
                        refine lv_goto (tgt := 265) hx hb dX6_operands_261 (by decide) ?_
                        exact g_endRz hF hQ hr rfl dX6_operands_265
                  have kb9F : ¬ b9 = true → W p l e rm_X6_operands s m args below meth c s.heap [] 0 0 Q (F0 m 266 ls []) := by
                    intro hb9
                    replace hr := hr.trans (if_neg hb9)
                    refine lv_iload hx hb dX6_operands_266 (lv_at hl 0 rfl) ?_
                    refine lv_bipush (v := (23 : Int32)) hx hb dX6_operands_268 bp_23 ?_
                    refine lv_icmp_ne (tgt := 304) hx hb dX6_operands_270 (by decide) (fun c_270 => ?_) (fun c_270 => ?_)
                    · replace hr := hr.trans (if_neg c_270)
                      refine lv_iload hx hb dX6_operands_304 (lv_at hl 0 rfl) ?_
                      refine lv_bipush (v := (24 : Int32)) hx hb dX6_operands_306 bp_24 ?_
                      obtain ⟨b10, eb10⟩ : ∃ z : Bool, z = (if (kx_op K) < (24 : Int32) then false else (if (28 : Int32) < (kx_op K) then false else true)) := ⟨_, rfl⟩
                      replace hr := hr.trans (bnd_eq eb10)
                      have kb10T : b10 = true → W p l e rm_X6_operands s m args below meth c s.heap [] 0 0 Q (F0 m 318 ls []) := by
                        intro hb10
                        replace hr := hr.trans (if_pos hb10)
                        have er := eb10
                        have c_308 : ¬ ((kx_op K) < (24 : Int32)) := fun q => absurd (hb10.symm.trans (er.trans (if_pos q))) (by decide)
                        have er := er.trans (if_neg c_308)
                        have c_315 : ¬ ((28 : Int32) < (kx_op K)) := fun q => absurd (hb10.symm.trans (er.trans (if_pos q))) (by decide)
                        have er := er.trans (if_neg c_315)
                        clear er
                        refine lv_iload hx hb dX6_operands_318 (lv_at hl 4 rfl) ?_
                        refine lv_if_eq (tgt := 352) hx hb dX6_operands_320 (by decide) (fun c_320 => ?_) (fun c_320 => ?_)
                        · replace hr := hr.trans (if_pos c_320)
                          refine lv_iconst (v := (0 : Int32)) hx hb dX6_operands_352 ic_0 ?_
                          exact g_endRz hF hQ hr rfl dX6_operands_353
                        · replace hr := hr.trans (if_neg c_320)
                          refine lv_iload hx hb dX6_operands_323 (lv_at hl 1 rfl) ?_
                          refine lv_if_eq (tgt := 352) hx hb dX6_operands_325 (by decide) (fun c_325 => ?_) (fun c_325 => ?_)
                          · replace hr := hr.trans (if_pos c_325)
                            refine lv_iconst (v := (0 : Int32)) hx hb dX6_operands_352 ic_0 ?_
                            exact g_endRz hF hQ hr rfl dX6_operands_353
                          · replace hr := hr.trans (if_neg c_325)
                            refine lv_iload_n hx hb dX6_operands_328 rfl (lv_at hl 6 rfl) ?_
                            refine lv_iconst (v := (3 : Int32)) hx hb dX6_operands_329 ic_3 ?_
                            refine lv_icmp_eq (tgt := 348) hx hb dX6_operands_330 (by decide) (fun c_330 => ?_) (fun c_330 => ?_)
                            · replace hr := hr.trans (if_pos c_330)
                              refine lv_iconst (v := (1 : Int32)) hx hb dX6_operands_348 ic_1 ?_
                              refine lv_goto (tgt := 353) hx hb dX6_operands_349 (by decide) ?_
                              exact g_endRz hF hQ hr rfl dX6_operands_353
                            · replace hr := hr.trans (if_neg c_330)
                              refine lv_iload_n hx hb dX6_operands_333 rfl (lv_at hl 6 rfl) ?_
                              refine lv_iconst (v := (1 : Int32)) hx hb dX6_operands_334 ic_1 ?_
                              refine lv_icmp_ne (tgt := 352) hx hb dX6_operands_335 (by decide) (fun c_335 => ?_) (fun c_335 => ?_)
                              · replace hr := hr.trans (if_neg c_335)
                                refine lv_iconst (v := (0 : Int32)) hx hb dX6_operands_352 ic_0 ?_
                                exact g_endRz hF hQ hr rfl dX6_operands_353
                              · replace hr := hr.trans (if_pos c_335)
                                refine lv_aload_n hx hb dX6_operands_338 rfl (lv_at hl 8 rfl) ?_
                                refine xgn_9_4 hx hb hts hown hK hP (xq_q188 hN) dX6_operands_339 ?_
                                refine lv_iconst (v := (1 : Int32)) hx hb dX6_operands_342 ic_1 ?_
                                refine xl_11 hx hb hK hP (show ¬ ((1 : Int32) < 0 ∨ 3 ≤ (1 : Int32).toNatClampNeg) by decide) dX6_operands_343 ?_
                                refine lv_iconst (v := (1 : Int32)) hx hb dX6_operands_344 ic_1 ?_
                                refine lv_icmp_ne (tgt := 352) hx hb dX6_operands_345 (by decide) (fun c_345 => ?_) (fun c_345 => ?_)
                                · replace hr := hr.trans (if_neg c_345)
                                  refine lv_iconst (v := (0 : Int32)) hx hb dX6_operands_352 ic_0 ?_
                                  exact g_endRz hF hQ hr rfl dX6_operands_353
                                · replace hr := hr.trans (if_pos c_345)
                                  refine lv_iconst (v := (1 : Int32)) hx hb dX6_operands_348 ic_1 ?_
                                  refine lv_goto (tgt := 353) hx hb dX6_operands_349 (by decide) ?_
                                  exact g_endRz hF hQ hr rfl dX6_operands_353
                      have kb10F : ¬ b10 = true → W p l e rm_X6_operands s m args below meth c s.heap [] 0 0 Q (F0 m 354 ls []) := by
                        intro hb10
                        replace hr := hr.trans (if_neg hb10)
                        refine lv_iload hx hb dX6_operands_354 (lv_at hl 0 rfl) ?_
                        refine lv_bipush (v := (29 : Int32)) hx hb dX6_operands_356 bp_29 ?_
                        obtain ⟨b11, eb11⟩ : ∃ z : Bool, z = (if (kx_op K) = (29 : Int32) then true else (if (kx_op K) = (31 : Int32) then true else (if (kx_op K) = (32 : Int32) then true else false))) := ⟨_, rfl⟩
                        replace hr := hr.trans (bnd_eq eb11)
                        have kb11T : b11 = true → W p l e rm_X6_operands s m args below meth c s.heap [] 0 0 Q (F0 m 375 ls []) := by
                          intro hb11
                          replace hr := hr.trans (if_pos hb11)
                          refine lv_iload_n hx hb dX6_operands_375 rfl (lv_at hl 7 rfl) ?_
                          refine lv_if_eq (tgt := 388) hx hb dX6_operands_376 (by decide) (fun c_376 => ?_) (fun c_376 => ?_)
                          · replace hr := hr.trans (if_pos c_376)
                            refine lv_iconst (v := (0 : Int32)) hx hb dX6_operands_388 ic_0 ?_
                            exact g_endRz hF hQ hr rfl dX6_operands_389
                          · replace hr := hr.trans (if_neg c_376)
                            refine lv_iload hx hb dX6_operands_379 (lv_at hl 2 rfl) ?_
                            refine lv_if_eq (tgt := 388) hx hb dX6_operands_381 (by decide) (fun c_381 => ?_) (fun c_381 => ?_)
                            · replace hr := hr.trans (if_pos c_381)
                              refine lv_iconst (v := (0 : Int32)) hx hb dX6_operands_388 ic_0 ?_
                              exact g_endRz hF hQ hr rfl dX6_operands_389
                            · replace hr := hr.trans (if_neg c_381)
                              refine lv_iconst (v := (1 : Int32)) hx hb dX6_operands_384 ic_1 ?_
                              refine lv_goto (tgt := 389) hx hb dX6_operands_385 (by decide) ?_
                              exact g_endRz hF hQ hr rfl dX6_operands_389
                        have kb11F : ¬ b11 = true → W p l e rm_X6_operands s m args below meth c s.heap [] 0 0 Q (F0 m 390 ls []) := by
                          intro hb11
                          replace hr := hr.trans (if_neg hb11)
                          have er := eb11
                          have hf := Bool.eq_false_iff.mpr hb11
                          have c_358 : ¬ ((kx_op K) = (29 : Int32)) := fun q => absurd (hf.symm.trans (er.trans (if_pos q))) (by decide)
                          have er := er.trans (if_neg c_358)
                          have c_365 : ¬ ((kx_op K) = (31 : Int32)) := fun q => absurd (hf.symm.trans (er.trans (if_pos q))) (by decide)
                          have er := er.trans (if_neg c_365)
                          have c_372 : ¬ ((kx_op K) = (32 : Int32)) := fun q => absurd (hf.symm.trans (er.trans (if_pos q))) (by decide)
                          have er := er.trans (if_neg c_372)
                          clear er
                          refine lv_iload hx hb dX6_operands_390 (lv_at hl 0 rfl) ?_
                          refine lv_bipush (v := (33 : Int32)) hx hb dX6_operands_392 bp_33 ?_
                          refine lv_icmp_ne (tgt := 417) hx hb dX6_operands_394 (by decide) (fun c_394 => ?_) (fun c_394 => ?_)
                          · replace hr := hr.trans (if_neg c_394)
                            refine lv_iload hx hb dX6_operands_417 (lv_at hl 0 rfl) ?_
                            refine lv_bipush (v := (34 : Int32)) hx hb dX6_operands_419 bp_34 ?_
                            refine lv_icmp_ne (tgt := 440) hx hb dX6_operands_421 (by decide) (fun c_421 => ?_) (fun c_421 => ?_)
                            · replace hr := hr.trans (if_neg c_421)
                              refine lv_iload hx hb dX6_operands_440 (lv_at hl 0 rfl) ?_
                              refine lv_bipush (v := (46 : Int32)) hx hb dX6_operands_442 bp_46 ?_
                              refine lv_icmp_ne (tgt := 463) hx hb dX6_operands_444 (by decide) (fun c_444 => ?_) (fun c_444 => ?_)
                              · replace hr := hr.trans (if_neg c_444)
                                refine lv_iload hx hb dX6_operands_463 (lv_at hl 0 rfl) ?_
                                refine lv_bipush (v := (47 : Int32)) hx hb dX6_operands_465 bp_47 ?_
                                refine lv_icmp_ne (tgt := 496) hx hb dX6_operands_467 (by decide) (fun c_467 => ?_) (fun c_467 => ?_)
                                · replace hr := hr.trans (if_neg c_467)
                                  refine lv_iload hx hb dX6_operands_496 (lv_at hl 0 rfl) ?_
                                  refine lv_bipush (v := (12 : Int32)) hx hb dX6_operands_498 bp_12 ?_
                                  obtain ⟨b12, eb12⟩ : ∃ z : Bool, z = (if (kx_op K) < (12 : Int32) then (if (kx_op K) = (36 : Int32) then true else (if (kx_op K) = (44 : Int32) then true else (if (kx_op K) = (45 : Int32) then true else false))) else (if (kx_op K) ≤ (14 : Int32) then true else (if (kx_op K) = (36 : Int32) then true else (if (kx_op K) = (44 : Int32) then true else (if (kx_op K) = (45 : Int32) then true else false))))) := ⟨_, rfl⟩
                                  replace hr := hr.trans (bnd_eq eb12)
                                  have kb12T : b12 = true → W p l e rm_X6_operands s m args below meth c s.heap [] 0 0 Q (F0 m 531 ls []) := by
                                    intro hb12
                                    replace hr := hr.trans (if_pos hb12)
                                    refine lv_iload hx hb dX6_operands_531 (lv_at hl 3 rfl) ?_
                                    refine lv_if_eq (tgt := 555) hx hb dX6_operands_533 (by decide) (fun c_533 => ?_) (fun c_533 => ?_)
                                    · replace hr := hr.trans (if_pos c_533)
                                      refine lv_iconst (v := (0 : Int32)) hx hb dX6_operands_555 ic_0 ?_
                                      exact g_endRz hF hQ hr rfl dX6_operands_556
                                    · replace hr := hr.trans (if_neg c_533)
                                      refine lv_iload hx hb dX6_operands_536 (lv_at hl 1 rfl) ?_
                                      refine lv_if_eq (tgt := 555) hx hb dX6_operands_538 (by decide) (fun c_538 => ?_) (fun c_538 => ?_)
                                      · replace hr := hr.trans (if_pos c_538)
                                        refine lv_iconst (v := (0 : Int32)) hx hb dX6_operands_555 ic_0 ?_
                                        exact g_endRz hF hQ hr rfl dX6_operands_556
                                      · replace hr := hr.trans (if_neg c_538)
                                        refine lv_iload_n hx hb dX6_operands_541 rfl (lv_at hl 6 rfl) ?_
                                        refine lv_iconst (v := (1 : Int32)) hx hb dX6_operands_542 ic_1 ?_
                                        refine lv_icmp_eq (tgt := 551) hx hb dX6_operands_543 (by decide) (fun c_543 => ?_) (fun c_543 => ?_)
                                        · replace hr := hr.trans (if_pos c_543)
                                          refine lv_iconst (v := (1 : Int32)) hx hb dX6_operands_551 ic_1 ?_
                                          refine lv_goto (tgt := 556) hx hb dX6_operands_552 (by decide) ?_
                                          exact g_endRz hF hQ hr rfl dX6_operands_556
                                        · replace hr := hr.trans (if_neg c_543)
                                          refine lv_iload_n hx hb dX6_operands_546 rfl (lv_at hl 6 rfl) ?_
                                          refine lv_iconst (v := (2 : Int32)) hx hb dX6_operands_547 ic_2 ?_
                                          refine lv_icmp_ne (tgt := 555) hx hb dX6_operands_548 (by decide) (fun c_548 => ?_) (fun c_548 => ?_)
                                          · replace hr := hr.trans (if_neg c_548)
                                            refine lv_iconst (v := (0 : Int32)) hx hb dX6_operands_555 ic_0 ?_
                                            exact g_endRz hF hQ hr rfl dX6_operands_556
                                          · replace hr := hr.trans (if_pos c_548)
                                            refine lv_iconst (v := (1 : Int32)) hx hb dX6_operands_551 ic_1 ?_
                                            refine lv_goto (tgt := 556) hx hb dX6_operands_552 (by decide) ?_
                                            exact g_endRz hF hQ hr rfl dX6_operands_556
                                  have kb12F : ¬ b12 = true → W p l e rm_X6_operands s m args below meth c s.heap [] 0 0 Q (F0 m 557 ls []) := by
                                    intro hb12
                                    replace hr := hr.trans (if_neg hb12)
                                    refine lv_iload_n hx hb dX6_operands_557 rfl (lv_at hl 7 rfl) ?_
                                    refine lv_if_ne (tgt := 570) hx hb dX6_operands_558 (by decide) (fun c_558 => ?_) (fun c_558 => ?_)
                                    · replace hr := hr.trans (if_neg c_558)
                                      refine lv_iconst (v := (0 : Int32)) hx hb dX6_operands_570 ic_0 ?_
                                      exact g_endRz hF hQ hr rfl dX6_operands_571
                                    · replace hr := hr.trans (if_pos c_558)
                                      refine lv_iload hx hb dX6_operands_561 (lv_at hl 2 rfl) ?_
                                      refine lv_if_eq (tgt := 570) hx hb dX6_operands_563 (by decide) (fun c_563 => ?_) (fun c_563 => ?_)
                                      · replace hr := hr.trans (if_pos c_563)
                                        refine lv_iconst (v := (0 : Int32)) hx hb dX6_operands_570 ic_0 ?_
                                        exact g_endRz hF hQ hr rfl dX6_operands_571
                                      · replace hr := hr.trans (if_neg c_563)
                                        refine lv_iconst (v := (1 : Int32)) hx hb dX6_operands_566 ic_1 ?_
                                        refine lv_goto (tgt := 571) hx hb dX6_operands_567 (by decide) ?_
                                        exact g_endRz hF hQ hr rfl dX6_operands_571
                                  replace hr := eb12
                                  refine lv_icmp_lt (tgt := 510) hx hb dX6_operands_500 (by decide) (fun c_500 => ?_) (fun c_500 => ?_)
                                  · replace hr := hr.trans (if_pos c_500)
                                    refine lv_iload hx hb dX6_operands_510 (lv_at hl 0 rfl) ?_
                                    refine lv_bipush (v := (36 : Int32)) hx hb dX6_operands_512 bp_36 ?_
                                    refine lv_icmp_eq (tgt := 531) hx hb dX6_operands_514 (by decide) (fun c_514 => ?_) (fun c_514 => ?_)
                                    · replace hr := hr.trans (if_pos c_514)
                                      exact kb12T hr
                                    · replace hr := hr.trans (if_neg c_514)
                                      refine lv_iload hx hb dX6_operands_517 (lv_at hl 0 rfl) ?_
                                      refine lv_bipush (v := (44 : Int32)) hx hb dX6_operands_519 bp_44 ?_
                                      refine lv_icmp_eq (tgt := 531) hx hb dX6_operands_521 (by decide) (fun c_521 => ?_) (fun c_521 => ?_)
                                      · replace hr := hr.trans (if_pos c_521)
                                        exact kb12T hr
                                      · replace hr := hr.trans (if_neg c_521)
                                        refine lv_iload hx hb dX6_operands_524 (lv_at hl 0 rfl) ?_
                                        refine lv_bipush (v := (45 : Int32)) hx hb dX6_operands_526 bp_45 ?_
                                        refine lv_icmp_ne (tgt := 557) hx hb dX6_operands_528 (by decide) (fun c_528 => ?_) (fun c_528 => ?_)
                                        · replace hr := hr.trans (if_neg c_528)
                                          exact kb12F (by rw [hr]; decide)
                                        · replace hr := hr.trans (if_pos c_528)
                                          exact kb12T hr
                                  · replace hr := hr.trans (if_neg c_500)
                                    refine lv_iload hx hb dX6_operands_503 (lv_at hl 0 rfl) ?_
                                    refine lv_bipush (v := (14 : Int32)) hx hb dX6_operands_505 bp_14 ?_
                                    refine lv_icmp_le (tgt := 531) hx hb dX6_operands_507 (by decide) (fun c_507 => ?_) (fun c_507 => ?_)
                                    · replace hr := hr.trans (if_pos c_507)
                                      exact kb12T hr
                                    · replace hr := hr.trans (if_neg c_507)
                                      refine lv_iload hx hb dX6_operands_510 (lv_at hl 0 rfl) ?_
                                      refine lv_bipush (v := (36 : Int32)) hx hb dX6_operands_512 bp_36 ?_
                                      refine lv_icmp_eq (tgt := 531) hx hb dX6_operands_514 (by decide) (fun c_514 => ?_) (fun c_514 => ?_)
                                      · replace hr := hr.trans (if_pos c_514)
                                        exact kb12T hr
                                      · replace hr := hr.trans (if_neg c_514)
                                        refine lv_iload hx hb dX6_operands_517 (lv_at hl 0 rfl) ?_
                                        refine lv_bipush (v := (44 : Int32)) hx hb dX6_operands_519 bp_44 ?_
                                        refine lv_icmp_eq (tgt := 531) hx hb dX6_operands_521 (by decide) (fun c_521 => ?_) (fun c_521 => ?_)
                                        · replace hr := hr.trans (if_pos c_521)
                                          exact kb12T hr
                                        · replace hr := hr.trans (if_neg c_521)
                                          refine lv_iload hx hb dX6_operands_524 (lv_at hl 0 rfl) ?_
                                          refine lv_bipush (v := (45 : Int32)) hx hb dX6_operands_526 bp_45 ?_
                                          refine lv_icmp_ne (tgt := 557) hx hb dX6_operands_528 (by decide) (fun c_528 => ?_) (fun c_528 => ?_)
                                          · replace hr := hr.trans (if_neg c_528)
                                            exact kb12F (by rw [hr]; decide)
                                          · replace hr := hr.trans (if_pos c_528)
                                            exact kb12T hr
                                · replace hr := hr.trans (if_pos c_467)
                                  refine lv_iload hx hb dX6_operands_470 (lv_at hl 4 rfl) ?_
                                  refine lv_if_eq (tgt := 494) hx hb dX6_operands_472 (by decide) (fun c_472 => ?_) (fun c_472 => ?_)
                                  · replace hr := hr.trans (if_pos c_472)
                                    refine lv_iconst (v := (0 : Int32)) hx hb dX6_operands_494 ic_0 ?_
                                    exact g_endRz hF hQ hr rfl dX6_operands_495
                                  · replace hr := hr.trans (if_neg c_472)
                                    refine lv_iload hx hb dX6_operands_475 (lv_at hl 1 rfl) ?_
                                    refine lv_if_eq (tgt := 494) hx hb dX6_operands_477 (by decide) (fun c_477 => ?_) (fun c_477 => ?_)
                                    · replace hr := hr.trans (if_pos c_477)
                                      refine lv_iconst (v := (0 : Int32)) hx hb dX6_operands_494 ic_0 ?_
                                      exact g_endRz hF hQ hr rfl dX6_operands_495
                                    · replace hr := hr.trans (if_neg c_477)
                                      refine lv_iload_n hx hb dX6_operands_480 rfl (lv_at hl 6 rfl) ?_
                                      refine lv_iconst (v := (1 : Int32)) hx hb dX6_operands_481 ic_1 ?_
                                      refine lv_icmp_eq (tgt := 490) hx hb dX6_operands_482 (by decide) (fun c_482 => ?_) (fun c_482 => ?_)
                                      · replace hr := hr.trans (if_pos c_482)
                                        refine lv_iconst (v := (1 : Int32)) hx hb dX6_operands_490 ic_1 ?_
                                        refine lv_goto (tgt := 495) hx hb dX6_operands_491 (by decide) ?_
                                        exact g_endRz hF hQ hr rfl dX6_operands_495
                                      · replace hr := hr.trans (if_neg c_482)
                                        refine lv_iload_n hx hb dX6_operands_485 rfl (lv_at hl 6 rfl) ?_
                                        refine lv_iconst (v := (3 : Int32)) hx hb dX6_operands_486 ic_3 ?_
                                        refine lv_icmp_ne (tgt := 494) hx hb dX6_operands_487 (by decide) (fun c_487 => ?_) (fun c_487 => ?_)
                                        · replace hr := hr.trans (if_neg c_487)
                                          refine lv_iconst (v := (0 : Int32)) hx hb dX6_operands_494 ic_0 ?_
                                          exact g_endRz hF hQ hr rfl dX6_operands_495
                                        · replace hr := hr.trans (if_pos c_487)
                                          refine lv_iconst (v := (1 : Int32)) hx hb dX6_operands_490 ic_1 ?_
                                          refine lv_goto (tgt := 495) hx hb dX6_operands_491 (by decide) ?_
                                          exact g_endRz hF hQ hr rfl dX6_operands_495
                              · replace hr := hr.trans (if_pos c_444)
                                refine lv_iload hx hb dX6_operands_447 (lv_at hl 3 rfl) ?_
                                refine lv_if_eq (tgt := 461) hx hb dX6_operands_449 (by decide) (fun c_449 => ?_) (fun c_449 => ?_)
                                · replace hr := hr.trans (if_pos c_449)
                                  refine lv_iconst (v := (0 : Int32)) hx hb dX6_operands_461 ic_0 ?_
                                  exact g_endRz hF hQ hr rfl dX6_operands_462
                                · replace hr := hr.trans (if_neg c_449)
                                  refine lv_iload hx hb dX6_operands_452 (lv_at hl 2 rfl) ?_
                                  refine lv_if_eq (tgt := 461) hx hb dX6_operands_454 (by decide) (fun c_454 => ?_) (fun c_454 => ?_)
                                  · replace hr := hr.trans (if_pos c_454)
                                    refine lv_iconst (v := (0 : Int32)) hx hb dX6_operands_461 ic_0 ?_
                                    exact g_endRz hF hQ hr rfl dX6_operands_462
                                  · replace hr := hr.trans (if_neg c_454)
                                    refine lv_iconst (v := (1 : Int32)) hx hb dX6_operands_457 ic_1 ?_
                                    refine lv_goto (tgt := 462) hx hb dX6_operands_458 (by decide) ?_
                                    exact g_endRz hF hQ hr rfl dX6_operands_462
                            · replace hr := hr.trans (if_pos c_421)
                              refine lv_iload hx hb dX6_operands_424 (lv_at hl 2 rfl) ?_
                              refine lv_if_eq (tgt := 438) hx hb dX6_operands_426 (by decide) (fun c_426 => ?_) (fun c_426 => ?_)
                              · replace hr := hr.trans (if_pos c_426)
                                refine lv_iconst (v := (0 : Int32)) hx hb dX6_operands_438 ic_0 ?_
                                exact g_endRz hF hQ hr rfl dX6_operands_439
                              · replace hr := hr.trans (if_neg c_426)
                                refine lv_iload_n hx hb dX6_operands_429 rfl (lv_at hl 7 rfl) ?_
                                refine lv_iconst (v := (3 : Int32)) hx hb dX6_operands_430 ic_3 ?_
                                refine lv_icmp_ne (tgt := 438) hx hb dX6_operands_431 (by decide) (fun c_431 => ?_) (fun c_431 => ?_)
                                · replace hr := hr.trans (if_neg c_431)
                                  refine lv_iconst (v := (0 : Int32)) hx hb dX6_operands_438 ic_0 ?_
                                  exact g_endRz hF hQ hr rfl dX6_operands_439
                                · replace hr := hr.trans (if_pos c_431)
                                  refine lv_iconst (v := (1 : Int32)) hx hb dX6_operands_434 ic_1 ?_
                                  refine lv_goto (tgt := 439) hx hb dX6_operands_435 (by decide) ?_
                                  exact g_endRz hF hQ hr rfl dX6_operands_439
                          · replace hr := hr.trans (if_pos c_394)
                            refine lv_iload hx hb dX6_operands_397 (lv_at hl 2 rfl) ?_
                            refine lv_if_eq (tgt := 415) hx hb dX6_operands_399 (by decide) (fun c_399 => ?_) (fun c_399 => ?_)
                            · replace hr := hr.trans (if_pos c_399)
                              refine lv_iconst (v := (0 : Int32)) hx hb dX6_operands_415 ic_0 ?_
                              exact g_endRz hF hQ hr rfl dX6_operands_416
                            · replace hr := hr.trans (if_neg c_399)
                              refine lv_iload_n hx hb dX6_operands_402 rfl (lv_at hl 7 rfl) ?_
                              refine lv_if_eq (tgt := 411) hx hb dX6_operands_403 (by decide) (fun c_403 => ?_) (fun c_403 => ?_)
                              · replace hr := hr.trans (if_pos c_403)
                                refine lv_iconst (v := (1 : Int32)) hx hb dX6_operands_411 ic_1 ?_
                                refine lv_goto (tgt := 416) hx hb dX6_operands_412 (by decide) ?_
                                exact g_endRz hF hQ hr rfl dX6_operands_416
                              · replace hr := hr.trans (if_neg c_403)
                                refine lv_iload_n hx hb dX6_operands_406 rfl (lv_at hl 7 rfl) ?_
                                refine lv_iconst (v := (3 : Int32)) hx hb dX6_operands_407 ic_3 ?_
                                refine lv_icmp_ne (tgt := 415) hx hb dX6_operands_408 (by decide) (fun c_408 => ?_) (fun c_408 => ?_)
                                · replace hr := hr.trans (if_neg c_408)
                                  refine lv_iconst (v := (0 : Int32)) hx hb dX6_operands_415 ic_0 ?_
                                  exact g_endRz hF hQ hr rfl dX6_operands_416
                                · replace hr := hr.trans (if_pos c_408)
                                  refine lv_iconst (v := (1 : Int32)) hx hb dX6_operands_411 ic_1 ?_
                                  refine lv_goto (tgt := 416) hx hb dX6_operands_412 (by decide) ?_
                                  exact g_endRz hF hQ hr rfl dX6_operands_416
                        replace hr := eb11
                        refine lv_icmp_eq (tgt := 375) hx hb dX6_operands_358 (by decide) (fun c_358 => ?_) (fun c_358 => ?_)
                        · replace hr := hr.trans (if_pos c_358)
                          exact kb11T hr
                        · replace hr := hr.trans (if_neg c_358)
                          refine lv_iload hx hb dX6_operands_361 (lv_at hl 0 rfl) ?_
                          refine lv_bipush (v := (31 : Int32)) hx hb dX6_operands_363 bp_31 ?_
                          refine lv_icmp_eq (tgt := 375) hx hb dX6_operands_365 (by decide) (fun c_365 => ?_) (fun c_365 => ?_)
                          · replace hr := hr.trans (if_pos c_365)
                            exact kb11T hr
                          · replace hr := hr.trans (if_neg c_365)
                            refine lv_iload hx hb dX6_operands_368 (lv_at hl 0 rfl) ?_
                            refine lv_bipush (v := (32 : Int32)) hx hb dX6_operands_370 bp_32 ?_
                            refine lv_icmp_ne (tgt := 390) hx hb dX6_operands_372 (by decide) (fun c_372 => ?_) (fun c_372 => ?_)
                            · replace hr := hr.trans (if_neg c_372)
                              exact kb11F (by rw [hr]; decide)
                            · replace hr := hr.trans (if_pos c_372)
                              exact kb11T hr
                      replace hr := eb10
                      refine lv_icmp_lt (tgt := 354) hx hb dX6_operands_308 (by decide) (fun c_308 => ?_) (fun c_308 => ?_)
                      · replace hr := hr.trans (if_pos c_308)
                        exact kb10F (by rw [hr]; decide)
                      · replace hr := hr.trans (if_neg c_308)
                        refine lv_iload hx hb dX6_operands_311 (lv_at hl 0 rfl) ?_
                        refine lv_bipush (v := (28 : Int32)) hx hb dX6_operands_313 bp_28 ?_
                        refine lv_icmp_gt (tgt := 354) hx hb dX6_operands_315 (by decide) (fun c_315 => ?_) (fun c_315 => ?_)
                        · replace hr := hr.trans (if_pos c_315)
                          exact kb10F (by rw [hr]; decide)
                        · replace hr := hr.trans (if_neg c_315)
                          exact kb10T hr
                    · replace hr := hr.trans (if_pos c_270)
                      refine lv_iload hx hb dX6_operands_273 (lv_at hl 3 rfl) ?_
                      refine lv_if_eq (tgt := 302) hx hb dX6_operands_275 (by decide) (fun c_275 => ?_) (fun c_275 => ?_)
                      · replace hr := hr.trans (if_pos c_275)
                        refine lv_iconst (v := (0 : Int32)) hx hb dX6_operands_302 ic_0 ?_
                        exact g_endRz hF hQ hr rfl dX6_operands_303
                      · replace hr := hr.trans (if_neg c_275)
                        refine lv_iload_n hx hb dX6_operands_278 rfl (lv_at hl 6 rfl) ?_
                        refine lv_iconst (v := (1 : Int32)) hx hb dX6_operands_279 ic_1 ?_
                        refine lv_icmp_eq (tgt := 288) hx hb dX6_operands_280 (by decide) (fun c_280 => ?_) (fun c_280 => ?_)
                        · replace hr := hr.trans (if_pos c_280)
                          refine lv_iload hx hb dX6_operands_288 (lv_at hl 1 rfl) ?_
                          refine lv_if_ne (tgt := 298) hx hb dX6_operands_290 (by decide) (fun c_290 => ?_) (fun c_290 => ?_)
                          · replace hr := hr.trans (if_neg c_290)
                            refine lv_iconst (v := (1 : Int32)) hx hb dX6_operands_298 ic_1 ?_
                            refine lv_goto (tgt := 303) hx hb dX6_operands_299 (by decide) ?_
                            exact g_endRz hF hQ hr rfl dX6_operands_303
                          · replace hr := hr.trans (if_pos c_290)
                            refine lv_iload_n hx hb dX6_operands_293 rfl (lv_at hl 5 rfl) ?_
                            refine lv_iconst (v := (3 : Int32)) hx hb dX6_operands_294 ic_3 ?_
                            refine lv_icmp_ne (tgt := 302) hx hb dX6_operands_295 (by decide) (fun c_295 => ?_) (fun c_295 => ?_)
                            · replace hr := hr.trans (if_neg c_295)
                              refine lv_iconst (v := (0 : Int32)) hx hb dX6_operands_302 ic_0 ?_
                              exact g_endRz hF hQ hr rfl dX6_operands_303
                            · replace hr := hr.trans (if_pos c_295)
                              refine lv_iconst (v := (1 : Int32)) hx hb dX6_operands_298 ic_1 ?_
                              refine lv_goto (tgt := 303) hx hb dX6_operands_299 (by decide) ?_
                              exact g_endRz hF hQ hr rfl dX6_operands_303
                        · replace hr := hr.trans (if_neg c_280)
                          refine lv_iload_n hx hb dX6_operands_283 rfl (lv_at hl 6 rfl) ?_
                          refine lv_iconst (v := (2 : Int32)) hx hb dX6_operands_284 ic_2 ?_
                          refine lv_icmp_ne (tgt := 302) hx hb dX6_operands_285 (by decide) (fun c_285 => ?_) (fun c_285 => ?_)
                          · replace hr := hr.trans (if_neg c_285)
                            refine lv_iconst (v := (0 : Int32)) hx hb dX6_operands_302 ic_0 ?_
                            exact g_endRz hF hQ hr rfl dX6_operands_303
                          · replace hr := hr.trans (if_pos c_285)
                            refine lv_iload hx hb dX6_operands_288 (lv_at hl 1 rfl) ?_
                            refine lv_if_ne (tgt := 298) hx hb dX6_operands_290 (by decide) (fun c_290 => ?_) (fun c_290 => ?_)
                            · replace hr := hr.trans (if_neg c_290)
                              refine lv_iconst (v := (1 : Int32)) hx hb dX6_operands_298 ic_1 ?_
                              refine lv_goto (tgt := 303) hx hb dX6_operands_299 (by decide) ?_
                              exact g_endRz hF hQ hr rfl dX6_operands_303
                            · replace hr := hr.trans (if_pos c_290)
                              refine lv_iload_n hx hb dX6_operands_293 rfl (lv_at hl 5 rfl) ?_
                              refine lv_iconst (v := (3 : Int32)) hx hb dX6_operands_294 ic_3 ?_
                              refine lv_icmp_ne (tgt := 302) hx hb dX6_operands_295 (by decide) (fun c_295 => ?_) (fun c_295 => ?_)
                              · replace hr := hr.trans (if_neg c_295)
                                refine lv_iconst (v := (0 : Int32)) hx hb dX6_operands_302 ic_0 ?_
                                exact g_endRz hF hQ hr rfl dX6_operands_303
                              · replace hr := hr.trans (if_pos c_295)
                                refine lv_iconst (v := (1 : Int32)) hx hb dX6_operands_298 ic_1 ?_
                                refine lv_goto (tgt := 303) hx hb dX6_operands_299 (by decide) ?_
                                exact g_endRz hF hQ hr rfl dX6_operands_303
                  replace hr := eb9
                  refine lv_icmp_lt (tgt := 236) hx hb dX6_operands_226 (by decide) (fun c_226 => ?_) (fun c_226 => ?_)
                  · replace hr := hr.trans (if_pos c_226)
                    refine lv_iload hx hb dX6_operands_236 (lv_at hl 0 rfl) ?_
                    refine lv_bipush (v := (30 : Int32)) hx hb dX6_operands_238 bp_30 ?_
                    refine lv_icmp_eq (tgt := 250) hx hb dX6_operands_240 (by decide) (fun c_240 => ?_) (fun c_240 => ?_)
                    · replace hr := hr.trans (if_pos c_240)
                      exact kb9T hr
                    · replace hr := hr.trans (if_neg c_240)
                      refine lv_iload hx hb dX6_operands_243 (lv_at hl 0 rfl) ?_
                      refine lv_bipush (v := (35 : Int32)) hx hb dX6_operands_245 bp_35 ?_
                      refine lv_icmp_ne (tgt := 266) hx hb dX6_operands_247 (by decide) (fun c_247 => ?_) (fun c_247 => ?_)
                      · replace hr := hr.trans (if_neg c_247)
                        exact kb9F (by rw [hr]; decide)
                      · replace hr := hr.trans (if_pos c_247)
                        exact kb9T hr
                  · replace hr := hr.trans (if_neg c_226)
                    refine lv_iload hx hb dX6_operands_229 (lv_at hl 0 rfl) ?_
                    refine lv_bipush (v := (22 : Int32)) hx hb dX6_operands_231 bp_22 ?_
                    refine lv_icmp_le (tgt := 250) hx hb dX6_operands_233 (by decide) (fun c_233 => ?_) (fun c_233 => ?_)
                    · replace hr := hr.trans (if_pos c_233)
                      exact kb9T hr
                    · replace hr := hr.trans (if_neg c_233)
                      refine lv_iload hx hb dX6_operands_236 (lv_at hl 0 rfl) ?_
                      refine lv_bipush (v := (30 : Int32)) hx hb dX6_operands_238 bp_30 ?_
                      refine lv_icmp_eq (tgt := 250) hx hb dX6_operands_240 (by decide) (fun c_240 => ?_) (fun c_240 => ?_)
                      · replace hr := hr.trans (if_pos c_240)
                        exact kb9T hr
                      · replace hr := hr.trans (if_neg c_240)
                        refine lv_iload hx hb dX6_operands_243 (lv_at hl 0 rfl) ?_
                        refine lv_bipush (v := (35 : Int32)) hx hb dX6_operands_245 bp_35 ?_
                        refine lv_icmp_ne (tgt := 266) hx hb dX6_operands_247 (by decide) (fun c_247 => ?_) (fun c_247 => ?_)
                        · replace hr := hr.trans (if_neg c_247)
                          exact kb9F (by rw [hr]; decide)
                        · replace hr := hr.trans (if_pos c_247)
                          exact kb9T hr
                · replace hr := hr.trans (if_pos c_198)
                  refine lv_iload hx hb dX6_operands_201 (lv_at hl 3 rfl) ?_
                  refine lv_if_eq (tgt := 220) hx hb dX6_operands_203 (by decide) (fun c_203 => ?_) (fun c_203 => ?_)
                  · replace hr := hr.trans (if_pos c_203)
                    refine lv_iconst (v := (0 : Int32)) hx hb dX6_operands_220 ic_0 ?_
                    exact g_endRz hF hQ hr rfl dX6_operands_221
                  · replace hr := hr.trans (if_neg c_203)
                    refine lv_iload hx hb dX6_operands_206 (lv_at hl 1 rfl) ?_
                    refine lv_if_eq (tgt := 220) hx hb dX6_operands_208 (by decide) (fun c_208 => ?_) (fun c_208 => ?_)
                    · replace hr := hr.trans (if_pos c_208)
                      refine lv_iconst (v := (0 : Int32)) hx hb dX6_operands_220 ic_0 ?_
                      exact g_endRz hF hQ hr rfl dX6_operands_221
                    · replace hr := hr.trans (if_neg c_208)
                      refine lv_iload_n hx hb dX6_operands_211 rfl (lv_at hl 6 rfl) ?_
                      refine lv_iconst (v := (2 : Int32)) hx hb dX6_operands_212 ic_2 ?_
                      refine lv_icmp_ne (tgt := 220) hx hb dX6_operands_213 (by decide) (fun c_213 => ?_) (fun c_213 => ?_)
                      · replace hr := hr.trans (if_neg c_213)
                        refine lv_iconst (v := (0 : Int32)) hx hb dX6_operands_220 ic_0 ?_
                        exact g_endRz hF hQ hr rfl dX6_operands_221
                      · replace hr := hr.trans (if_pos c_213)
                        refine lv_iconst (v := (1 : Int32)) hx hb dX6_operands_216 ic_1 ?_
                        refine lv_goto (tgt := 221) hx hb dX6_operands_217 (by decide) ?_
                        exact g_endRz hF hQ hr rfl dX6_operands_221
              replace hr := eb8
              refine lv_icmp_eq (tgt := 173) hx hb dX6_operands_156 (by decide) (fun c_156 => ?_) (fun c_156 => ?_)
              · replace hr := hr.trans (if_pos c_156)
                exact kb8T hr
              · replace hr := hr.trans (if_neg c_156)
                refine lv_iload hx hb dX6_operands_159 (lv_at hl 0 rfl) ?_
                refine lv_bipush (v := (48 : Int32)) hx hb dX6_operands_161 bp_48 ?_
                refine lv_icmp_eq (tgt := 173) hx hb dX6_operands_163 (by decide) (fun c_163 => ?_) (fun c_163 => ?_)
                · replace hr := hr.trans (if_pos c_163)
                  exact kb8T hr
                · replace hr := hr.trans (if_neg c_163)
                  refine lv_iload hx hb dX6_operands_166 (lv_at hl 0 rfl) ?_
                  refine lv_bipush (v := (49 : Int32)) hx hb dX6_operands_168 bp_49 ?_
                  refine lv_icmp_ne (tgt := 194) hx hb dX6_operands_170 (by decide) (fun c_170 => ?_) (fun c_170 => ?_)
                  · replace hr := hr.trans (if_neg c_170)
                    exact kb8F (by rw [hr]; decide)
                  · replace hr := hr.trans (if_pos c_170)
                    exact kb8T hr
            · replace hr := hr.trans (if_pos c_123)
              refine lv_iload hx hb dX6_operands_126 (lv_at hl 4 rfl) ?_
              refine lv_if_eq (tgt := 150) hx hb dX6_operands_128 (by decide) (fun c_128 => ?_) (fun c_128 => ?_)
              · replace hr := hr.trans (if_pos c_128)
                refine lv_iconst (v := (0 : Int32)) hx hb dX6_operands_150 ic_0 ?_
                exact g_endRz hF hQ hr rfl dX6_operands_151
              · replace hr := hr.trans (if_neg c_128)
                refine lv_iload hx hb dX6_operands_131 (lv_at hl 1 rfl) ?_
                refine lv_if_eq (tgt := 150) hx hb dX6_operands_133 (by decide) (fun c_133 => ?_) (fun c_133 => ?_)
                · replace hr := hr.trans (if_pos c_133)
                  refine lv_iconst (v := (0 : Int32)) hx hb dX6_operands_150 ic_0 ?_
                  exact g_endRz hF hQ hr rfl dX6_operands_151
                · replace hr := hr.trans (if_neg c_133)
                  refine lv_iload_n hx hb dX6_operands_136 rfl (lv_at hl 6 rfl) ?_
                  refine lv_iconst (v := (1 : Int32)) hx hb dX6_operands_137 ic_1 ?_
                  refine lv_icmp_eq (tgt := 146) hx hb dX6_operands_138 (by decide) (fun c_138 => ?_) (fun c_138 => ?_)
                  · replace hr := hr.trans (if_pos c_138)
                    refine lv_iconst (v := (1 : Int32)) hx hb dX6_operands_146 ic_1 ?_
                    refine lv_goto (tgt := 151) hx hb dX6_operands_147 (by decide) ?_
                    exact g_endRz hF hQ hr rfl dX6_operands_151
                  · replace hr := hr.trans (if_neg c_138)
                    refine lv_iload_n hx hb dX6_operands_141 rfl (lv_at hl 6 rfl) ?_
                    refine lv_iconst (v := (3 : Int32)) hx hb dX6_operands_142 ic_3 ?_
                    refine lv_icmp_ne (tgt := 150) hx hb dX6_operands_143 (by decide) (fun c_143 => ?_) (fun c_143 => ?_)
                    · replace hr := hr.trans (if_neg c_143)
                      refine lv_iconst (v := (0 : Int32)) hx hb dX6_operands_150 ic_0 ?_
                      exact g_endRz hF hQ hr rfl dX6_operands_151
                    · replace hr := hr.trans (if_pos c_143)
                      refine lv_iconst (v := (1 : Int32)) hx hb dX6_operands_146 ic_1 ?_
                      refine lv_goto (tgt := 151) hx hb dX6_operands_147 (by decide) ?_
                      exact g_endRz hF hQ hr rfl dX6_operands_151
          · replace hr := hr.trans (if_neg c_86)
            refine lv_iload hx hb dX6_operands_89 (lv_at hl 4 rfl) ?_
            refine lv_if_eq (tgt := 117) hx hb dX6_operands_91 (by decide) (fun c_91 => ?_) (fun c_91 => ?_)
            · replace hr := hr.trans (if_pos c_91)
              refine lv_iconst (v := (0 : Int32)) hx hb dX6_operands_117 ic_0 ?_
              exact g_endRz hF hQ hr rfl dX6_operands_118
            · replace hr := hr.trans (if_neg c_91)
              refine lv_iload hx hb dX6_operands_94 (lv_at hl 1 rfl) ?_
              refine lv_if_eq (tgt := 117) hx hb dX6_operands_96 (by decide) (fun c_96 => ?_) (fun c_96 => ?_)
              · replace hr := hr.trans (if_pos c_96)
                refine lv_iconst (v := (0 : Int32)) hx hb dX6_operands_117 ic_0 ?_
                exact g_endRz hF hQ hr rfl dX6_operands_118
              · replace hr := hr.trans (if_neg c_96)
                refine lv_iload_n hx hb dX6_operands_99 rfl (lv_at hl 6 rfl) ?_
                refine lv_if_eq (tgt := 117) hx hb dX6_operands_100 (by decide) (fun c_100 => ?_) (fun c_100 => ?_)
                · replace hr := hr.trans (if_pos c_100)
                  refine lv_iconst (v := (0 : Int32)) hx hb dX6_operands_117 ic_0 ?_
                  exact g_endRz hF hQ hr rfl dX6_operands_118
                · replace hr := hr.trans (if_neg c_100)
                  refine lv_iload hx hb dX6_operands_103 (lv_at hl 3 rfl) ?_
                  refine lv_if_ne (tgt := 113) hx hb dX6_operands_105 (by decide) (fun c_105 => ?_) (fun c_105 => ?_)
                  · replace hr := hr.trans (if_neg c_105)
                    refine lv_iconst (v := (1 : Int32)) hx hb dX6_operands_113 ic_1 ?_
                    refine lv_goto (tgt := 118) hx hb dX6_operands_114 (by decide) ?_
                    exact g_endRz hF hQ hr rfl dX6_operands_118
                  · replace hr := hr.trans (if_pos c_105)
                    refine lv_iload_n hx hb dX6_operands_108 rfl (lv_at hl 6 rfl) ?_
                    refine lv_iconst (v := (2 : Int32)) hx hb dX6_operands_109 ic_2 ?_
                    refine lv_icmp_eq (tgt := 117) hx hb dX6_operands_110 (by decide) (fun c_110 => ?_) (fun c_110 => ?_)
                    · replace hr := hr.trans (if_pos c_110)
                      refine lv_iconst (v := (0 : Int32)) hx hb dX6_operands_117 ic_0 ?_
                      exact g_endRz hF hQ hr rfl dX6_operands_118
                    · replace hr := hr.trans (if_neg c_110)
                      refine lv_iconst (v := (1 : Int32)) hx hb dX6_operands_113 ic_1 ?_
                      refine lv_goto (tgt := 118) hx hb dX6_operands_114 (by decide) ?_
                      exact g_endRz hF hQ hr rfl dX6_operands_118
        replace hr := ep7
        refine lv_if_ne (tgt := 73) hx hb dX6_operands_66 (by decide) (fun c_66 => ?_) (fun c_66 => ?_)
        · replace hr := hr.trans (if_neg c_66)
          refine lv_iconst (v := (0 : Int32)) hx hb dX6_operands_73 ic_0 ?_
          subst hr
          exact kp7 ls (lv_sub hl [0, 1, 2, 3, 4, 5, 6] rfl)
        · replace hr := hr.trans (if_pos c_66)
          refine lv_iconst (v := (1 : Int32)) hx hb dX6_operands_69 ic_1 ?_
          refine lv_goto (tgt := 74) hx hb dX6_operands_70 (by decide) ?_
          subst hr
          exact kp7 ls (lv_sub hl [0, 1, 2, 3, 4, 5, 6] rfl)
      replace hr := ep6
      refine lv_if_ne (tgt := 62) hx hb dX6_operands_51 (by decide) (fun c_51 => ?_) (fun c_51 => ?_)
      · replace hr := hr.trans (if_neg c_51)
        refine lv_iconst (v := (0 : Int32)) hx hb dX6_operands_62 ic_0 ?_
        subst hr
        exact kp6 ls (lv_sub hl [0, 1, 2, 3, 4, 5] rfl)
      · replace hr := hr.trans (if_pos c_51)
        refine lv_iload_n hx hb dX6_operands_54 rfl (lv_at hl 2 rfl) ?_
        refine lv_if_ne (tgt := 62) hx hb dX6_operands_55 (by decide) (fun c_55 => ?_) (fun c_55 => ?_)
        · replace hr := hr.trans (if_neg c_55)
          refine lv_iconst (v := (0 : Int32)) hx hb dX6_operands_62 ic_0 ?_
          subst hr
          exact kp6 ls (lv_sub hl [0, 1, 2, 3, 4, 5] rfl)
        · replace hr := hr.trans (if_pos c_55)
          refine lv_iconst (v := (1 : Int32)) hx hb dX6_operands_58 ic_1 ?_
          refine lv_goto (tgt := 63) hx hb dX6_operands_59 (by decide) ?_
          subst hr
          exact kp6 ls (lv_sub hl [0, 1, 2, 3, 4, 5] rfl)
    replace hr := ep5
    refine lv_icmp_ne (tgt := 47) hx hb dX6_operands_40 (by decide) (fun c_40 => ?_) (fun c_40 => ?_)
    · replace hr := hr.trans (if_neg c_40)
      refine lv_iconst (v := (0 : Int32)) hx hb dX6_operands_47 ic_0 ?_
      subst hr
      exact kp5 ls (lv_sub hl [0, 1, 2, 3, 4] rfl)
    · replace hr := hr.trans (if_pos c_40)
      refine lv_iconst (v := (1 : Int32)) hx hb dX6_operands_43 ic_1 ?_
      refine lv_goto (tgt := 48) hx hb dX6_operands_44 (by decide) ?_
      subst hr
      exact kp5 ls (lv_sub hl [0, 1, 2, 3, 4] rfl)
  replace hr := ep4
  refine lv_icmp_eq (tgt := 31) hx hb dX6_operands_23 (by decide) (fun c_23 => ?_) (fun c_23 => ?_)
  · replace hr := hr.trans (if_pos c_23)
    refine lv_iconst (v := (1 : Int32)) hx hb dX6_operands_31 ic_1 ?_
    refine lv_goto (tgt := 36) hx hb dX6_operands_32 (by decide) ?_
    subst hr
    exact kp4 ls (lv_sub hl [0, 1, 2, 3] rfl)
  · replace hr := hr.trans (if_neg c_23)
    refine lv_iload_n hx hb dX6_operands_26 rfl (lv_at hl 2 rfl) ?_
    refine lv_iconst (v := (2 : Int32)) hx hb dX6_operands_27 ic_2 ?_
    refine lv_icmp_ne (tgt := 35) hx hb dX6_operands_28 (by decide) (fun c_28 => ?_) (fun c_28 => ?_)
    · replace hr := hr.trans (if_neg c_28)
      refine lv_iconst (v := (0 : Int32)) hx hb dX6_operands_35 ic_0 ?_
      subst hr
      exact kp4 ls (lv_sub hl [0, 1, 2, 3] rfl)
    · replace hr := hr.trans (if_pos c_28)
      refine lv_iconst (v := (1 : Int32)) hx hb dX6_operands_31 ic_1 ?_
      refine lv_goto (tgt := 36) hx hb dX6_operands_32 (by decide) ?_
      subst hr
      exact kp4 ls (lv_sub hl [0, 1, 2, 3] rfl)
def s_is (K : XK) : Bool := if (b2i (s_in ((kx_op K).toInt64) (0 : Int64) (53 : Int64))) = 0 then false else (if (b2i (s_isSize (kx_op K) (kx_size K))) = 0 then false else (bnd (α := Bool) (if (kx_op K) < (34 : Int32) then false else (if (36 : Int32) < (kx_op K) then false else true)) fun b1 => if b1 = true then (if (b2i (s_in ((kx_cond K).toInt64) (0 : Int64) (15 : Int64))) = 0 then false else (bnd (α := Bool) (if ((kx_kinds K) (0 : Int32).toNatClampNeg) = (2 : Int32) then true else (if ((kx_kinds K) (1 : Int32).toNatClampNeg) = (2 : Int32) then true else false)) fun p2 => if (b2i (s_operands K)) = 0 then false else (if (b2i p2) = 0 then (if (b2i (s_isNumber K)) = 0 then true else (if (b2i (s_fits K)) = 0 then false else true)) else (if (b2i (s_isMemory K)) = 0 then false else (if (b2i (s_isNumber K)) = 0 then true else (if (b2i (s_fits K)) = 0 then false else true)))))) else (if (kx_cond K) = 0 then (bnd (α := Bool) (if ((kx_kinds K) (0 : Int32).toNatClampNeg) = (2 : Int32) then true else (if ((kx_kinds K) (1 : Int32).toNatClampNeg) = (2 : Int32) then true else false)) fun p3 => if (b2i (s_operands K)) = 0 then false else (if (b2i p3) = 0 then (if (b2i (s_isNumber K)) = 0 then true else (if (b2i (s_fits K)) = 0 then false else true)) else (if (b2i (s_isMemory K)) = 0 then false else (if (b2i (s_isNumber K)) = 0 then true else (if (b2i (s_fits K)) = 0 then false else true))))) else false)))
abbrev rm_X6_is : Room := { frames := 2, cells := 0, slots := 0, locals := 46 }
set_option maxHeartbeats 4000000 in
set_option maxRecDepth 100000 in
theorem m_X6_is {l : Launch} {D : va_G} {ad : Nat → Nat} {ca : Nat → ClassId} {K : XK} {d : XD} (RES : Bool) (hr : RES = s_is K) : g_R l yX6_is (ws_ yX6_is cX6_is 2 (some .boolean)) rm_X6_is [.ref (ad 9)] (xKp D ca) (xB D ad ca K d) (.int (b2i RES)) := by
  refine g_ofR (by decide) (Nat.le_of_ble_eq_true rfl) ?_
  intro p e s m args below meth c ls Q hF hB hKp hl hQ
  obtain ⟨hx, hb, -, -, hml, hown, hts⟩ := id hF
  have hown : s.vm.findClass RX6 = some m.cls := hown
  have hC : CallFix p m c cX6_is 2 s args lw_all RX6 := ⟨hx, hb, hml, hown, hts⟩
  obtain ⟨hK, hN⟩ := id hKp
  have hP : va_P D xcl (XW ad ca K d) s.heap := hB
  have hl : lv_has ls 2 [(0, .ref (ad 9))] := hl
  unfold s_is at hr
  refine lv_aload_n hx hb dX6_is_0 rfl (lv_at hl 0 rfl) ?_
  refine xgn_9_0 hx hb hts hown hK hP (xq_q176 hN) dX6_is_1 ?_
  refine lv_i2l (v := (kx_op K).toInt64) hx hb dX6_is_4 rfl ?_
  refine lv_lconst (v := (0 : Int64)) hx hb dX6_is_5 lc_0 ?_
  refine lv_ldc2 hx hb hown (hts _ q344) dX6_is_6 ?_
  refine g_RS (As := [.long ((kx_op K).toInt64), .long (0 : Int64), .long (53 : Int64)]) (rest := []) hC (m_X6_in ((kx_op K).toInt64) (0 : Int64) (53 : Int64) _ rfl) (va_cwS 3 hts cw_X6_15 rfl rfl rfl hd_X6_in ⟨Nat.le_of_ble_eq_true rfl, Nat.le_of_ble_eq_true rfl⟩) g_Kst0 trivial trivial ⟨Nat.zero_le _, Nat.zero_le _⟩ rfl hl.1 rfl (Nat.le_of_ble_eq_true rfl) dX6_is_9 ?_
  refine lv_if_eq (tgt := 72) hx hb dX6_is_12 (by decide) (fun c_12 => ?_) (fun c_12 => ?_)
  · replace hr := hr.trans (if_pos c_12)
    refine lv_iconst (v := (0 : Int32)) hx hb dX6_is_72 ic_0 ?_
    exact g_endRz hF hQ hr rfl dX6_is_73
  · replace hr := hr.trans (if_neg c_12)
    refine lv_aload_n hx hb dX6_is_15 rfl (lv_at hl 0 rfl) ?_
    refine xgn_9_0 hx hb hts hown hK hP (xq_q176 hN) dX6_is_16 ?_
    refine lv_aload_n hx hb dX6_is_19 rfl (lv_at hl 0 rfl) ?_
    refine xgn_9_1 hx hb hts hown hK hP (xq_q179 hN) dX6_is_20 ?_
    refine g_RS (As := [.int (kx_op K), .int (kx_size K)]) (rest := []) hC (m_X6_isSize (kx_op K) (kx_size K) _ rfl) (va_cwS 2 hts cw_X6_24 rfl rfl rfl hd_X6_isSize ⟨Nat.le_of_ble_eq_true rfl, Nat.le_of_ble_eq_true rfl⟩) g_Kst0 trivial trivial ⟨Nat.zero_le _, Nat.zero_le _⟩ rfl hl.1 rfl (Nat.le_of_ble_eq_true rfl) dX6_is_23 ?_
    refine lv_if_eq (tgt := 72) hx hb dX6_is_26 (by decide) (fun c_26 => ?_) (fun c_26 => ?_)
    · replace hr := hr.trans (if_pos c_26)
      refine lv_iconst (v := (0 : Int32)) hx hb dX6_is_72 ic_0 ?_
      exact g_endRz hF hQ hr rfl dX6_is_73
    · replace hr := hr.trans (if_neg c_26)
      refine lv_aload_n hx hb dX6_is_29 rfl (lv_at hl 0 rfl) ?_
      refine xgn_9_0 hx hb hts hown hK hP (xq_q176 hN) dX6_is_30 ?_
      refine lv_bipush (v := (34 : Int32)) hx hb dX6_is_33 bp_34 ?_
      obtain ⟨b1, eb1⟩ : ∃ z : Bool, z = (if (kx_op K) < (34 : Int32) then false else (if (36 : Int32) < (kx_op K) then false else true)) := ⟨_, rfl⟩
      replace hr := hr.trans (bnd_eq eb1)
      have kb1T : b1 = true → W p l e rm_X6_is s m args below meth c s.heap [] 0 0 Q (F0 m 47 ls []) := by
        intro hb1
        replace hr := hr.trans (if_pos hb1)
        have er := eb1
        have c_35 : ¬ ((kx_op K) < (34 : Int32)) := fun q => absurd (hb1.symm.trans (er.trans (if_pos q))) (by decide)
        have er := er.trans (if_neg c_35)
        have c_44 : ¬ ((36 : Int32) < (kx_op K)) := fun q => absurd (hb1.symm.trans (er.trans (if_pos q))) (by decide)
        have er := er.trans (if_neg c_44)
        clear er
        refine lv_aload_n hx hb dX6_is_47 rfl (lv_at hl 0 rfl) ?_
        refine xgn_9_2 hx hb hts hown hK hP (xq_q182 hN) dX6_is_48 ?_
        refine lv_i2l (v := (kx_cond K).toInt64) hx hb dX6_is_51 rfl ?_
        refine lv_lconst (v := (0 : Int64)) hx hb dX6_is_52 lc_0 ?_
        refine lv_ldc2 hx hb hown (hts _ q351) dX6_is_53 ?_
        refine g_RS (As := [.long ((kx_cond K).toInt64), .long (0 : Int64), .long (15 : Int64)]) (rest := []) hC (m_X6_in ((kx_cond K).toInt64) (0 : Int64) (15 : Int64) _ rfl) (va_cwS 3 hts cw_X6_15 rfl rfl rfl hd_X6_in ⟨Nat.le_of_ble_eq_true rfl, Nat.le_of_ble_eq_true rfl⟩) g_Kst0 trivial trivial ⟨Nat.zero_le _, Nat.zero_le _⟩ rfl hl.1 rfl (Nat.le_of_ble_eq_true rfl) dX6_is_56 ?_
        refine lv_if_eq (tgt := 72) hx hb dX6_is_59 (by decide) (fun c_59 => ?_) (fun c_59 => ?_)
        · replace hr := hr.trans (if_pos c_59)
          refine lv_iconst (v := (0 : Int32)) hx hb dX6_is_72 ic_0 ?_
          exact g_endRz hF hQ hr rfl dX6_is_73
        · replace hr := hr.trans (if_neg c_59)
          refine lv_goto (tgt := 74) hx hb dX6_is_62 (by decide) ?_
          refine lv_aload_n hx hb dX6_is_74 rfl (lv_at hl 0 rfl) ?_
          refine xgn_9_3 hx hb hts hown hK hP (xq_q185 hN) dX6_is_75 ?_
          refine lv_iconst (v := (0 : Int32)) hx hb dX6_is_78 ic_0 ?_
          refine xl_10 hx hb hK hP (show ¬ ((0 : Int32) < 0 ∨ 3 ≤ (0 : Int32).toNatClampNeg) by decide) dX6_is_79 ?_
          refine lv_iconst (v := (2 : Int32)) hx hb dX6_is_80 ic_2 ?_
          obtain ⟨p2, ep2⟩ : ∃ z : Bool, z = (if ((kx_kinds K) (0 : Int32).toNatClampNeg) = (2 : Int32) then true else (if ((kx_kinds K) (1 : Int32).toNatClampNeg) = (2 : Int32) then true else false)) := ⟨_, rfl⟩
          replace hr := hr.trans (bnd_eq ep2)
          have kp2 : ∀ (ls : Array Slot), lv_has ls 2 [(0, .ref (ad 9))] → W p l e rm_X6_is s m args below meth c s.heap [] 0 0 Q (F0 m 99 ls [.int (b2i p2)]) := by
            intro ls hl
            refine lv_istore_n (lv' := [(1, .int (b2i p2)), (0, .ref (ad 9))]) hx hb dX6_is_99 rfl hl (by decide) rfl (fun ls hl => ?_)
            refine lv_aload_n hx hb dX6_is_100 rfl (lv_at hl 1 rfl) ?_
            refine g_RS (As := [.ref (ad 9)]) (rest := []) hC (m_X6_operands (K := K) (d := d)  _ rfl) (va_cwS 1 hts cw_X6_37 rfl rfl rfl hd_X6_operands ⟨Nat.le_of_ble_eq_true rfl, Nat.le_of_ble_eq_true rfl⟩) xKst hP hKp ⟨Nat.zero_le _, Nat.zero_le _⟩ rfl hl.1 rfl (Nat.le_of_ble_eq_true rfl) dX6_is_101 ?_
            refine lv_if_eq (tgt := 136) hx hb dX6_is_104 (by decide) (fun c_104 => ?_) (fun c_104 => ?_)
            · replace hr := hr.trans (if_pos c_104)
              refine lv_iconst (v := (0 : Int32)) hx hb dX6_is_136 ic_0 ?_
              exact g_endRz hF hQ hr rfl dX6_is_137
            · replace hr := hr.trans (if_neg c_104)
              refine lv_iload_n hx hb dX6_is_107 rfl (lv_at hl 0 rfl) ?_
              refine lv_if_eq (tgt := 118) hx hb dX6_is_108 (by decide) (fun c_108 => ?_) (fun c_108 => ?_)
              · replace hr := hr.trans (if_pos c_108)
                refine lv_aload_n hx hb dX6_is_118 rfl (lv_at hl 1 rfl) ?_
                refine g_RS (As := [.ref (ad 9)]) (rest := []) hC (m_X6_isNumber (K := K) (d := d)  _ rfl) (va_cwS 1 hts cw_X6_44 rfl rfl rfl hd_X6_isNumber ⟨Nat.le_of_ble_eq_true rfl, Nat.le_of_ble_eq_true rfl⟩) xKst hP hKp ⟨Nat.zero_le _, Nat.zero_le _⟩ rfl hl.1 rfl (Nat.le_of_ble_eq_true rfl) dX6_is_119 ?_
                refine lv_if_eq (tgt := 132) hx hb dX6_is_122 (by decide) (fun c_122 => ?_) (fun c_122 => ?_)
                · replace hr := hr.trans (if_pos c_122)
                  refine lv_iconst (v := (1 : Int32)) hx hb dX6_is_132 ic_1 ?_
                  refine lv_goto (tgt := 137) hx hb dX6_is_133 (by decide) ?_
                  exact g_endRz hF hQ hr rfl dX6_is_137
                · replace hr := hr.trans (if_neg c_122)
                  refine lv_aload_n hx hb dX6_is_125 rfl (lv_at hl 1 rfl) ?_
                  refine g_RS (As := [.ref (ad 9)]) (rest := []) hC (m_X6_fits (K := K) (d := d)  _ rfl) (va_cwS 1 hts cw_X6_47 rfl rfl rfl hd_X6_fits ⟨Nat.le_of_ble_eq_true rfl, Nat.le_of_ble_eq_true rfl⟩) xKst hP hKp ⟨Nat.zero_le _, Nat.zero_le _⟩ rfl hl.1 rfl (Nat.le_of_ble_eq_true rfl) dX6_is_126 ?_
                  refine lv_if_eq (tgt := 136) hx hb dX6_is_129 (by decide) (fun c_129 => ?_) (fun c_129 => ?_)
                  · replace hr := hr.trans (if_pos c_129)
                    refine lv_iconst (v := (0 : Int32)) hx hb dX6_is_136 ic_0 ?_
                    exact g_endRz hF hQ hr rfl dX6_is_137
                  · replace hr := hr.trans (if_neg c_129)
                    refine lv_iconst (v := (1 : Int32)) hx hb dX6_is_132 ic_1 ?_
                    refine lv_goto (tgt := 137) hx hb dX6_is_133 (by decide) ?_
                    exact g_endRz hF hQ hr rfl dX6_is_137
              · replace hr := hr.trans (if_neg c_108)
                refine lv_aload_n hx hb dX6_is_111 rfl (lv_at hl 1 rfl) ?_
                refine g_RS (As := [.ref (ad 9)]) (rest := []) hC (m_X6_isMemory (K := K) (d := d)  _ rfl) (va_cwS 1 hts cw_X6_41 rfl rfl rfl hd_X6_isMemory ⟨Nat.le_of_ble_eq_true rfl, Nat.le_of_ble_eq_true rfl⟩) xKst hP hKp ⟨Nat.zero_le _, Nat.zero_le _⟩ rfl hl.1 rfl (Nat.le_of_ble_eq_true rfl) dX6_is_112 ?_
                refine lv_if_eq (tgt := 136) hx hb dX6_is_115 (by decide) (fun c_115 => ?_) (fun c_115 => ?_)
                · replace hr := hr.trans (if_pos c_115)
                  refine lv_iconst (v := (0 : Int32)) hx hb dX6_is_136 ic_0 ?_
                  exact g_endRz hF hQ hr rfl dX6_is_137
                · replace hr := hr.trans (if_neg c_115)
                  refine lv_aload_n hx hb dX6_is_118 rfl (lv_at hl 1 rfl) ?_
                  refine g_RS (As := [.ref (ad 9)]) (rest := []) hC (m_X6_isNumber (K := K) (d := d)  _ rfl) (va_cwS 1 hts cw_X6_44 rfl rfl rfl hd_X6_isNumber ⟨Nat.le_of_ble_eq_true rfl, Nat.le_of_ble_eq_true rfl⟩) xKst hP hKp ⟨Nat.zero_le _, Nat.zero_le _⟩ rfl hl.1 rfl (Nat.le_of_ble_eq_true rfl) dX6_is_119 ?_
                  refine lv_if_eq (tgt := 132) hx hb dX6_is_122 (by decide) (fun c_122 => ?_) (fun c_122 => ?_)
                  · replace hr := hr.trans (if_pos c_122)
                    refine lv_iconst (v := (1 : Int32)) hx hb dX6_is_132 ic_1 ?_
                    refine lv_goto (tgt := 137) hx hb dX6_is_133 (by decide) ?_
                    exact g_endRz hF hQ hr rfl dX6_is_137
                  · replace hr := hr.trans (if_neg c_122)
                    refine lv_aload_n hx hb dX6_is_125 rfl (lv_at hl 1 rfl) ?_
                    refine g_RS (As := [.ref (ad 9)]) (rest := []) hC (m_X6_fits (K := K) (d := d)  _ rfl) (va_cwS 1 hts cw_X6_47 rfl rfl rfl hd_X6_fits ⟨Nat.le_of_ble_eq_true rfl, Nat.le_of_ble_eq_true rfl⟩) xKst hP hKp ⟨Nat.zero_le _, Nat.zero_le _⟩ rfl hl.1 rfl (Nat.le_of_ble_eq_true rfl) dX6_is_126 ?_
                    refine lv_if_eq (tgt := 136) hx hb dX6_is_129 (by decide) (fun c_129 => ?_) (fun c_129 => ?_)
                    · replace hr := hr.trans (if_pos c_129)
                      refine lv_iconst (v := (0 : Int32)) hx hb dX6_is_136 ic_0 ?_
                      exact g_endRz hF hQ hr rfl dX6_is_137
                    · replace hr := hr.trans (if_neg c_129)
                      refine lv_iconst (v := (1 : Int32)) hx hb dX6_is_132 ic_1 ?_
                      refine lv_goto (tgt := 137) hx hb dX6_is_133 (by decide) ?_
                      exact g_endRz hF hQ hr rfl dX6_is_137
          replace hr := ep2
          refine lv_icmp_eq (tgt := 94) hx hb dX6_is_81 (by decide) (fun c_81 => ?_) (fun c_81 => ?_)
          · replace hr := hr.trans (if_pos c_81)
            refine lv_iconst (v := (1 : Int32)) hx hb dX6_is_94 ic_1 ?_
            refine lv_goto (tgt := 99) hx hb dX6_is_95 (by decide) ?_
            subst hr
            exact kp2 ls (lv_sub hl [0] rfl)
          · replace hr := hr.trans (if_neg c_81)
            refine lv_aload_n hx hb dX6_is_84 rfl (lv_at hl 0 rfl) ?_
            refine xgn_9_3 hx hb hts hown hK hP (xq_q185 hN) dX6_is_85 ?_
            refine lv_iconst (v := (1 : Int32)) hx hb dX6_is_88 ic_1 ?_
            refine xl_10 hx hb hK hP (show ¬ ((1 : Int32) < 0 ∨ 3 ≤ (1 : Int32).toNatClampNeg) by decide) dX6_is_89 ?_
            refine lv_iconst (v := (2 : Int32)) hx hb dX6_is_90 ic_2 ?_
            refine lv_icmp_ne (tgt := 98) hx hb dX6_is_91 (by decide) (fun c_91 => ?_) (fun c_91 => ?_)
            · replace hr := hr.trans (if_neg c_91)
              refine lv_iconst (v := (0 : Int32)) hx hb dX6_is_98 ic_0 ?_
              subst hr
              exact kp2 ls (lv_sub hl [0] rfl)
            · replace hr := hr.trans (if_pos c_91)
              refine lv_iconst (v := (1 : Int32)) hx hb dX6_is_94 ic_1 ?_
              refine lv_goto (tgt := 99) hx hb dX6_is_95 (by decide) ?_
              subst hr
              exact kp2 ls (lv_sub hl [0] rfl)
      have kb1F : ¬ b1 = true → W p l e rm_X6_is s m args below meth c s.heap [] 0 0 Q (F0 m 65 ls []) := by
        intro hb1
        replace hr := hr.trans (if_neg hb1)
        refine lv_aload_n hx hb dX6_is_65 rfl (lv_at hl 0 rfl) ?_
        refine xgn_9_2 hx hb hts hown hK hP (xq_q182 hN) dX6_is_66 ?_
        refine lv_if_eq (tgt := 74) hx hb dX6_is_69 (by decide) (fun c_69 => ?_) (fun c_69 => ?_)
        · replace hr := hr.trans (if_pos c_69)
          refine lv_aload_n hx hb dX6_is_74 rfl (lv_at hl 0 rfl) ?_
          refine xgn_9_3 hx hb hts hown hK hP (xq_q185 hN) dX6_is_75 ?_
          refine lv_iconst (v := (0 : Int32)) hx hb dX6_is_78 ic_0 ?_
          refine xl_10 hx hb hK hP (show ¬ ((0 : Int32) < 0 ∨ 3 ≤ (0 : Int32).toNatClampNeg) by decide) dX6_is_79 ?_
          refine lv_iconst (v := (2 : Int32)) hx hb dX6_is_80 ic_2 ?_
          obtain ⟨p3, ep3⟩ : ∃ z : Bool, z = (if ((kx_kinds K) (0 : Int32).toNatClampNeg) = (2 : Int32) then true else (if ((kx_kinds K) (1 : Int32).toNatClampNeg) = (2 : Int32) then true else false)) := ⟨_, rfl⟩
          replace hr := hr.trans (bnd_eq ep3)
          have kp3 : ∀ (ls : Array Slot), lv_has ls 2 [(0, .ref (ad 9))] → W p l e rm_X6_is s m args below meth c s.heap [] 0 0 Q (F0 m 99 ls [.int (b2i p3)]) := by
            intro ls hl
            refine lv_istore_n (lv' := [(1, .int (b2i p3)), (0, .ref (ad 9))]) hx hb dX6_is_99 rfl hl (by decide) rfl (fun ls hl => ?_)
            refine lv_aload_n hx hb dX6_is_100 rfl (lv_at hl 1 rfl) ?_
            refine g_RS (As := [.ref (ad 9)]) (rest := []) hC (m_X6_operands (K := K) (d := d)  _ rfl) (va_cwS 1 hts cw_X6_37 rfl rfl rfl hd_X6_operands ⟨Nat.le_of_ble_eq_true rfl, Nat.le_of_ble_eq_true rfl⟩) xKst hP hKp ⟨Nat.zero_le _, Nat.zero_le _⟩ rfl hl.1 rfl (Nat.le_of_ble_eq_true rfl) dX6_is_101 ?_
            refine lv_if_eq (tgt := 136) hx hb dX6_is_104 (by decide) (fun c_104 => ?_) (fun c_104 => ?_)
            · replace hr := hr.trans (if_pos c_104)
              refine lv_iconst (v := (0 : Int32)) hx hb dX6_is_136 ic_0 ?_
              exact g_endRz hF hQ hr rfl dX6_is_137
            · replace hr := hr.trans (if_neg c_104)
              refine lv_iload_n hx hb dX6_is_107 rfl (lv_at hl 0 rfl) ?_
              refine lv_if_eq (tgt := 118) hx hb dX6_is_108 (by decide) (fun c_108 => ?_) (fun c_108 => ?_)
              · replace hr := hr.trans (if_pos c_108)
                refine lv_aload_n hx hb dX6_is_118 rfl (lv_at hl 1 rfl) ?_
                refine g_RS (As := [.ref (ad 9)]) (rest := []) hC (m_X6_isNumber (K := K) (d := d)  _ rfl) (va_cwS 1 hts cw_X6_44 rfl rfl rfl hd_X6_isNumber ⟨Nat.le_of_ble_eq_true rfl, Nat.le_of_ble_eq_true rfl⟩) xKst hP hKp ⟨Nat.zero_le _, Nat.zero_le _⟩ rfl hl.1 rfl (Nat.le_of_ble_eq_true rfl) dX6_is_119 ?_
                refine lv_if_eq (tgt := 132) hx hb dX6_is_122 (by decide) (fun c_122 => ?_) (fun c_122 => ?_)
                · replace hr := hr.trans (if_pos c_122)
                  refine lv_iconst (v := (1 : Int32)) hx hb dX6_is_132 ic_1 ?_
                  refine lv_goto (tgt := 137) hx hb dX6_is_133 (by decide) ?_
                  exact g_endRz hF hQ hr rfl dX6_is_137
                · replace hr := hr.trans (if_neg c_122)
                  refine lv_aload_n hx hb dX6_is_125 rfl (lv_at hl 1 rfl) ?_
                  refine g_RS (As := [.ref (ad 9)]) (rest := []) hC (m_X6_fits (K := K) (d := d)  _ rfl) (va_cwS 1 hts cw_X6_47 rfl rfl rfl hd_X6_fits ⟨Nat.le_of_ble_eq_true rfl, Nat.le_of_ble_eq_true rfl⟩) xKst hP hKp ⟨Nat.zero_le _, Nat.zero_le _⟩ rfl hl.1 rfl (Nat.le_of_ble_eq_true rfl) dX6_is_126 ?_
                  refine lv_if_eq (tgt := 136) hx hb dX6_is_129 (by decide) (fun c_129 => ?_) (fun c_129 => ?_)
                  · replace hr := hr.trans (if_pos c_129)
                    refine lv_iconst (v := (0 : Int32)) hx hb dX6_is_136 ic_0 ?_
                    exact g_endRz hF hQ hr rfl dX6_is_137
                  · replace hr := hr.trans (if_neg c_129)
                    refine lv_iconst (v := (1 : Int32)) hx hb dX6_is_132 ic_1 ?_
                    refine lv_goto (tgt := 137) hx hb dX6_is_133 (by decide) ?_
                    exact g_endRz hF hQ hr rfl dX6_is_137
              · replace hr := hr.trans (if_neg c_108)
                refine lv_aload_n hx hb dX6_is_111 rfl (lv_at hl 1 rfl) ?_
                refine g_RS (As := [.ref (ad 9)]) (rest := []) hC (m_X6_isMemory (K := K) (d := d)  _ rfl) (va_cwS 1 hts cw_X6_41 rfl rfl rfl hd_X6_isMemory ⟨Nat.le_of_ble_eq_true rfl, Nat.le_of_ble_eq_true rfl⟩) xKst hP hKp ⟨Nat.zero_le _, Nat.zero_le _⟩ rfl hl.1 rfl (Nat.le_of_ble_eq_true rfl) dX6_is_112 ?_
                refine lv_if_eq (tgt := 136) hx hb dX6_is_115 (by decide) (fun c_115 => ?_) (fun c_115 => ?_)
                · replace hr := hr.trans (if_pos c_115)
                  refine lv_iconst (v := (0 : Int32)) hx hb dX6_is_136 ic_0 ?_
                  exact g_endRz hF hQ hr rfl dX6_is_137
                · replace hr := hr.trans (if_neg c_115)
                  refine lv_aload_n hx hb dX6_is_118 rfl (lv_at hl 1 rfl) ?_
                  refine g_RS (As := [.ref (ad 9)]) (rest := []) hC (m_X6_isNumber (K := K) (d := d)  _ rfl) (va_cwS 1 hts cw_X6_44 rfl rfl rfl hd_X6_isNumber ⟨Nat.le_of_ble_eq_true rfl, Nat.le_of_ble_eq_true rfl⟩) xKst hP hKp ⟨Nat.zero_le _, Nat.zero_le _⟩ rfl hl.1 rfl (Nat.le_of_ble_eq_true rfl) dX6_is_119 ?_
                  refine lv_if_eq (tgt := 132) hx hb dX6_is_122 (by decide) (fun c_122 => ?_) (fun c_122 => ?_)
                  · replace hr := hr.trans (if_pos c_122)
                    refine lv_iconst (v := (1 : Int32)) hx hb dX6_is_132 ic_1 ?_
                    refine lv_goto (tgt := 137) hx hb dX6_is_133 (by decide) ?_
                    exact g_endRz hF hQ hr rfl dX6_is_137
                  · replace hr := hr.trans (if_neg c_122)
                    refine lv_aload_n hx hb dX6_is_125 rfl (lv_at hl 1 rfl) ?_
                    refine g_RS (As := [.ref (ad 9)]) (rest := []) hC (m_X6_fits (K := K) (d := d)  _ rfl) (va_cwS 1 hts cw_X6_47 rfl rfl rfl hd_X6_fits ⟨Nat.le_of_ble_eq_true rfl, Nat.le_of_ble_eq_true rfl⟩) xKst hP hKp ⟨Nat.zero_le _, Nat.zero_le _⟩ rfl hl.1 rfl (Nat.le_of_ble_eq_true rfl) dX6_is_126 ?_
                    refine lv_if_eq (tgt := 136) hx hb dX6_is_129 (by decide) (fun c_129 => ?_) (fun c_129 => ?_)
                    · replace hr := hr.trans (if_pos c_129)
                      refine lv_iconst (v := (0 : Int32)) hx hb dX6_is_136 ic_0 ?_
                      exact g_endRz hF hQ hr rfl dX6_is_137
                    · replace hr := hr.trans (if_neg c_129)
                      refine lv_iconst (v := (1 : Int32)) hx hb dX6_is_132 ic_1 ?_
                      refine lv_goto (tgt := 137) hx hb dX6_is_133 (by decide) ?_
                      exact g_endRz hF hQ hr rfl dX6_is_137
          replace hr := ep3
          refine lv_icmp_eq (tgt := 94) hx hb dX6_is_81 (by decide) (fun c_81 => ?_) (fun c_81 => ?_)
          · replace hr := hr.trans (if_pos c_81)
            refine lv_iconst (v := (1 : Int32)) hx hb dX6_is_94 ic_1 ?_
            refine lv_goto (tgt := 99) hx hb dX6_is_95 (by decide) ?_
            subst hr
            exact kp3 ls (lv_sub hl [0] rfl)
          · replace hr := hr.trans (if_neg c_81)
            refine lv_aload_n hx hb dX6_is_84 rfl (lv_at hl 0 rfl) ?_
            refine xgn_9_3 hx hb hts hown hK hP (xq_q185 hN) dX6_is_85 ?_
            refine lv_iconst (v := (1 : Int32)) hx hb dX6_is_88 ic_1 ?_
            refine xl_10 hx hb hK hP (show ¬ ((1 : Int32) < 0 ∨ 3 ≤ (1 : Int32).toNatClampNeg) by decide) dX6_is_89 ?_
            refine lv_iconst (v := (2 : Int32)) hx hb dX6_is_90 ic_2 ?_
            refine lv_icmp_ne (tgt := 98) hx hb dX6_is_91 (by decide) (fun c_91 => ?_) (fun c_91 => ?_)
            · replace hr := hr.trans (if_neg c_91)
              refine lv_iconst (v := (0 : Int32)) hx hb dX6_is_98 ic_0 ?_
              subst hr
              exact kp3 ls (lv_sub hl [0] rfl)
            · replace hr := hr.trans (if_pos c_91)
              refine lv_iconst (v := (1 : Int32)) hx hb dX6_is_94 ic_1 ?_
              refine lv_goto (tgt := 99) hx hb dX6_is_95 (by decide) ?_
              subst hr
              exact kp3 ls (lv_sub hl [0] rfl)
        · replace hr := hr.trans (if_neg c_69)
          refine lv_iconst (v := (0 : Int32)) hx hb dX6_is_72 ic_0 ?_
          exact g_endRz hF hQ hr rfl dX6_is_73
      replace hr := eb1
      refine lv_icmp_lt (tgt := 65) hx hb dX6_is_35 (by decide) (fun c_35 => ?_) (fun c_35 => ?_)
      · replace hr := hr.trans (if_pos c_35)
        exact kb1F (by rw [hr]; decide)
      · replace hr := hr.trans (if_neg c_35)
        refine lv_aload_n hx hb dX6_is_38 rfl (lv_at hl 0 rfl) ?_
        refine xgn_9_0 hx hb hts hown hK hP (xq_q176 hN) dX6_is_39 ?_
        refine lv_bipush (v := (36 : Int32)) hx hb dX6_is_42 bp_36 ?_
        refine lv_icmp_gt (tgt := 65) hx hb dX6_is_44 (by decide) (fun c_44 => ?_) (fun c_44 => ?_)
        · replace hr := hr.trans (if_pos c_44)
          exact kb1F (by rw [hr]; decide)
        · replace hr := hr.trans (if_neg c_44)
          exact kb1T hr
