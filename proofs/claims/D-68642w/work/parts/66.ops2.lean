/-! ===== op 8 to 16, 21, 22: moves and single operands ===== -/
theorem addr_eq {K : XK} {L : MK} {d0 d : XD} {e0 e : MD} (hi : RIn K L) (hA : XAdr K) (h : Live d0 e0 d e) : x_address K d = m_addressNow L e := by
  obtain ⟨⟨-, eb, ei, es, ed⟩, -, -⟩ := hi
  obtain ⟨-, -, h3, h4, -⟩ := h
  unfold x_address m_addressNow
  simp only [bnd_app]
  rw [← eb, ← ei, ← es, ← ed, ← h4]
  have e16 : (16 : Int32).toInt = 16 := by decide
  have e0 : (0 : Int32).toInt = 0 := by decide
  have ix : ∀ z : Int64, (if 0 ≤ kx_index K then z + dx_r d (kx_index K).toNatClampNeg * (kx_scale K).toInt64 else z) = (if kx_index K < 0 then z else z + dm_regs e (kx_index K).toNatClampNeg * (kx_scale K).toInt64) := by
    intro z
    by_cases c : kx_index K < 0
    · rw [if_pos c, if_neg (Int32.not_le.mpr c)]
    · rw [if_neg c, if_pos (Int32.not_lt.mp c)]
      rcases hA.2 with q | q
      · exact absurd q c
      · rw [h3 _ (vp_lt q)]
  rw [ix]
  congr 1
  · by_cases b0 : kx_base K < 0
    · have n16 : ¬ kx_base K = 16 := fun q => by rw [q] at b0; exact absurd b0 (by decide)
      rw [if_pos b0, if_pos b0, if_neg n16]
    · rw [if_neg b0, if_neg b0]
      by_cases b16 : kx_base K = 16
      · rw [if_pos b16, if_pos b16, if_pos (by rw [b16]; decide)]
      · rw [if_neg b16, if_neg b16]
        rcases hA.1 with q | q | q
        · exact absurd q b0
        · exact absurd q b16
        · have lt := (vp_in_iff.mp q).2
          rw [if_neg (by rw [Int32.le_iff_toInt_le, e16]; omega), h3 _ (vp_lt q)]
  · by_cases b0 : kx_base K < 0
    · have n16 : ¬ kx_base K = 16 := fun q => by rw [q] at b0; exact absurd b0 (by decide)
      rw [if_pos b0, if_pos b0, if_neg n16]
    · rw [if_neg b0, if_neg b0]
      by_cases b16 : kx_base K = 16
      · rw [if_pos b16, if_pos b16, if_pos (by rw [b16]; decide)]
      · rw [if_neg b16, if_neg b16]
        rcases hA.1 with q | q | q
        · exact absurd q b0
        · exact absurd q b16
        · have lt := (vp_in_iff.mp q).2
          rw [if_neg (by rw [Int32.le_iff_toInt_le, e16]; omega), h3 _ (vp_lt q)]
theorem s1 : SZ 1 := Or.inl rfl
theorem s4 : SZ 4 := Or.inr (Or.inl rfl)
theorem s8 : SZ 8 := Or.inr (Or.inr rfl)
def K12 (K : XK) (k : Int32) : Prop := kx_kinds K k.toNatClampNeg = 1 ∨ kx_kinds K k.toNatClampNeg = 2
theorem op_8 {K : XK} {L : MK} {d0 d : XD} {e0 e : MD} (hc : Ctx K L d0 e0 d e) {sz : Int32} (hs : SZ sz) (h0 : K12 K 0) : RS d0 e0 (x_middle K 8 sz d) (m_moves L 8 sz e) := by
  have ex : x_middle K 8 sz d = x_put K 0 sz (x_get K 1 sz d).1 (x_get K 1 sz d).2 := rfl
  have em : m_moves L 8 sz e = m_put L 0 sz (m_take L 1 sz e).1 (m_take L 1 sz e).2 := rfl
  rw [ex, em]
  rcases get_take hc v3_1 hs with ⟨v, c, a1, a2⟩ | ⟨a, a1, a2⟩
  · rw [a1, a2]; exact put_put hc v3_0 hs h0 rfl
  · rw [a1, a2]; exact Or.inr (dd_put (ctx_dead hc a bad3) _ _ _ _ _ _)
theorem op_9 {K : XK} {L : MK} {d0 d : XD} {e0 e : MD} (hc : Ctx K L d0 e0 d e) {sz : Int32} (hs : SZ sz) : RS d0 e0 (x_middle K 9 sz d) (m_arithmetic L 9 sz e) := by
  have ex : x_middle K 9 sz d = (xar 9 sz (x_get K 0 sz d).1 (x_get K 1 sz (x_get K 0 sz d).2).1 (x_get K 1 sz (x_get K 0 sz d).2).2).2 := rfl
  rw [ex, mar_eq, if_neg (by decide), if_pos rfl]
  rcases get_take hc v3_0 hs with ⟨v1, c1, a1, a2⟩ | ⟨a, a1, a2⟩
  · rw [a1, a2]
    rcases get_take hc v3_1 hs with ⟨v2, c2, b1, b2⟩ | ⟨a, b1, b2⟩
    · simp only [b1, b2]
      obtain ⟨q1, q2⟩ := ar_rel (o := 9) hc.2.2.2.1.2.2.2.2 hs c1 c2
      exact Or.inl (live_fo hc.2.2.2.1 q2)
    · simp only [b1, b2]
      exact Or.inr (dead_same (xf_xar 9 sz v1 0 (x_fail 3 a d)) (mf_mar 9 sz v1 0 (m_stopWith 3 a e)) (ctx_dead hc a bad3))
  · simp only [a1, a2]
    have hd := dd_get (K := K) (L := L) (ctx_dead hc a bad3) 1 1 sz sz
    exact Or.inr (dead_same (xf_xar 9 sz 0 (x_get K 1 sz (x_fail 3 a d)).1 _) (mf_mar 9 sz 0 (m_take L 1 sz (m_stopWith 3 a e)).1 _) hd)
theorem put2 {K : XK} {L : MK} {d0 d : XD} {e0 e : MD} (hi : RIn K L) (hr : XReg K) {k sz : Int32} {v v' : Int64} (hk : vp_in k 3) (hs : SZ sz) (k1 : kx_kinds K k.toNatClampNeg = 1) (hv : x_cut v sz = x_cut v' sz) (h : RS d0 e0 d e) : RS d0 e0 (x_put K k sz v d) (m_put L k sz v' e) := by
  rcases h with h | h
  · exact Or.inl (put_reg hi hr h hk hs k1 hv)
  · exact Or.inr (dd_put h _ _ _ _ _ _)
theorem op_10 {K : XK} {L : MK} {d0 d : XD} {e0 e : MD} (hc : Ctx K L d0 e0 d e) {sz : Int32} (hs : SZ sz) (h0 : K12 K 0) (h1 : kx_kinds K (1 : Int32).toNatClampNeg = 1) : RS d0 e0 (x_middle K 10 sz d) (m_moves L 10 sz e) := by
  have ex : x_middle K 10 sz d = x_put K 1 sz (x_get K 0 sz d).1 (x_put K 0 sz (x_get K 1 sz (x_get K 0 sz d).2).1 (x_get K 1 sz (x_get K 0 sz d).2).2) := rfl
  have em : m_moves L 10 sz e = m_put L 1 sz (m_take L 0 sz e).1 (m_put L 0 sz (m_take L 1 sz (m_take L 0 sz e).2).1 (m_take L 1 sz (m_take L 0 sz e).2).2) := rfl
  rw [ex, em]
  rcases get_take hc v3_0 hs with ⟨v1, c1, a1, a2⟩ | ⟨a, a1, a2⟩
  · rw [a1, a2]
    rcases get_take hc v3_1 hs with ⟨v2, c2, b1, b2⟩ | ⟨a, b1, b2⟩
    · simp only [b1, b2]
      exact put2 hc.1 hc.2.2.1 v3_1 hs h1 rfl (put_put hc v3_0 hs h0 rfl)
    · simp only [b1, b2]
      exact Or.inr (dd_put (dd_put (ctx_dead hc a bad3) _ _ _ _ _ _) _ _ _ _ _ _)
  · simp only [a1, a2]
    exact Or.inr (dd_put (dd_put (dd_get (K := K) (L := L) (ctx_dead hc a bad3) 1 1 sz sz) _ _ _ _ _ _) _ _ _ _ _ _)
theorem op_11 {K : XK} {L : MK} {d0 d : XD} {e0 e : MD} (hc : Ctx K L d0 e0 d e) {sz : Int32} (hs : SZ sz) (h0 : K12 K 0) (hA : XAdr K) : RS d0 e0 (x_middle K 11 sz d) (m_moves L 11 sz e) := by
  have ex : x_middle K 11 sz d = x_put K 0 sz (x_address K d) d := rfl
  have em : m_moves L 11 sz e = m_put L 0 sz (m_cut (m_addressNow L e) sz) e := rfl
  rw [ex, em, ← addr_eq hc.1 hA hc.2.2.2.1]
  exact put_put hc v3_0 hs h0 (by rw [cut_eq, cut_cut _ hs])
theorem op_12 {K : XK} {L : MK} {d0 d : XD} {e0 e : MD} (hc : Ctx K L d0 e0 d e) {sz : Int32} (hs : SZ sz) (h0 : K12 K 0) : RS d0 e0 (x_middle K 12 sz d) (m_moves L 12 sz e) := by
  have ex : x_middle K 12 sz d = x_put K 0 sz (x_get K 1 1 d).1 (x_get K 1 1 d).2 := rfl
  have em : m_moves L 12 sz e = m_put L 0 sz (m_take L 1 1 e).1 (m_take L 1 1 e).2 := rfl
  rw [ex, em]
  rcases get_take hc v3_1 s1 with ⟨v, c, a1, a2⟩ | ⟨a, a1, a2⟩
  · rw [a1, a2]; exact put_put hc v3_0 hs h0 rfl
  · rw [a1, a2]; exact Or.inr (dd_put (ctx_dead hc a bad3) _ _ _ _ _ _)
theorem op_13 {K : XK} {L : MK} {d0 d : XD} {e0 e : MD} (hc : Ctx K L d0 e0 d e) {sz : Int32} (hs : SZ sz) (h0 : K12 K 0) : RS d0 e0 (x_middle K 13 sz d) (m_moves L 13 sz e) := by
  have ex : x_middle K 13 sz d = x_put K 0 sz (x_signed (x_get K 1 1 d).1 1) (x_get K 1 1 d).2 := rfl
  have em : m_moves L 13 sz e = m_put L 0 sz (m_cut (m_signed (m_take L 1 1 e).1 1) sz) (m_take L 1 1 e).2 := rfl
  rw [ex, em]
  rcases get_take hc v3_1 s1 with ⟨v, c, a1, a2⟩ | ⟨a, a1, a2⟩
  · rw [a1, a2]; exact put_put hc v3_0 hs h0 (by rw [cut_eq, cut_cut _ hs]; rfl)
  · rw [a1, a2]; exact Or.inr (dd_put (ctx_dead hc a bad3) _ _ _ _ _ _)
theorem op_14 {K : XK} {L : MK} {d0 d : XD} {e0 e : MD} (hc : Ctx K L d0 e0 d e) {sz : Int32} (hs : SZ sz) (h0 : K12 K 0) : RS d0 e0 (x_middle K 14 sz d) (m_moves L 14 sz e) := by
  have ex : x_middle K 14 sz d = x_put K 0 sz (x_signed (x_get K 1 4 d).1 4) (x_get K 1 4 d).2 := rfl
  have em : m_moves L 14 sz e = m_put L 0 sz (m_cut (m_signed (m_take L 1 4 e).1 4) sz) (m_take L 1 4 e).2 := rfl
  rw [ex, em]
  rcases get_take hc v3_1 s4 with ⟨v, c, a1, a2⟩ | ⟨a, a1, a2⟩
  · rw [a1, a2]; exact put_put hc v3_0 hs h0 (by rw [cut_eq, cut_cut _ hs]; rfl)
  · rw [a1, a2]; exact Or.inr (dd_put (ctx_dead hc a bad3) _ _ _ _ _ _)
theorem op_15 {K : XK} {L : MK} {d0 d : XD} {e0 e : MD} (hc : Ctx K L d0 e0 d e) {sz : Int32} (hs : SZ sz) (h0 : K12 K 0) : RS d0 e0 (x_middle K 15 sz d) (m_single L 15 sz e) := by
  have ex : x_middle K 15 sz d = x_put K 0 sz ((x_get K 0 sz d).1 ^^^ (-1)) (x_get K 0 sz d).2 := rfl
  have em : m_single L 15 sz e = m_put L 0 sz (m_cut ((m_take L 0 sz e).1 ^^^ (-1)) sz) (m_take L 0 sz e).2 := rfl
  rw [ex, em]
  rcases get_take hc v3_0 hs with ⟨v, c, a1, a2⟩ | ⟨a, a1, a2⟩
  · rw [a1, a2]; exact put_put hc v3_0 hs h0 (by rw [cut_eq, cut_cut _ hs])
  · rw [a1, a2]; exact Or.inr (dd_put (ctx_dead hc a bad3) _ _ _ _ _ _)
theorem cut_0 (sz : Int32) : x_cut 0 sz = 0 := by unfold x_cut; split; rfl; split <;> rfl
theorem cut_1 {sz : Int32} (h : SZ sz) : x_cut 1 sz = 1 := by rcases h with h | h | h <;> subst h <;> decide
theorem op_16 {K : XK} {L : MK} {d0 d : XD} {e0 e : MD} (hc : Ctx K L d0 e0 d e) {sz : Int32} (hs : SZ sz) (h0 : K12 K 0) : RS d0 e0 (x_middle K 16 sz d) (m_single L 16 sz e) := by
  have ex : x_middle K 16 sz d = x_put K 0 sz (x_difference 0 (x_get K 0 sz d).1 false sz (x_get K 0 sz d).2).1 (x_difference 0 (x_get K 0 sz d).1 false sz (x_get K 0 sz d).2).2 := rfl
  have em : m_single L 16 sz e = m_put L 0 sz (m_subtract 0 (m_take L 0 sz e).1 false sz (m_take L 0 sz e).2).1 (m_subtract 0 (m_take L 0 sz e).1 false sz (m_take L 0 sz e).2).2 := rfl
  rw [ex, em]
  rcases get_take hc v3_0 hs with ⟨v, c, a1, a2⟩ | ⟨a, a1, a2⟩
  · rw [a1, a2]
    obtain ⟨q1, q2⟩ := diff_sub hc.2.2.2.1.2.2.2.2 (c := false) hs (cut_0 sz) c
    exact put_put (ctx_fo hc q2) v3_0 hs h0 (by rw [← q1, cut_cut _ hs])
  · rw [a1, a2]
    exact Or.inr (dd_put (dead_same (xf_diff 0 0 false sz (x_fail 3 a d)) (mf_sub 0 0 false sz (m_stopWith 3 a e)) (ctx_dead hc a bad3)) _ _ _ _ _ _)
theorem fo_carry {d d1 : XD} {e e1 : MD} (h : FO d e d1 e1) (b : Bool) : FO d e (x_mark 1 b d1) (dm_carry_ b e1) := by
  obtain ⟨c, p, z, n, o, rfl, rfl⟩ := h
  rw [mk_c (c := c) (p := p) (z := z) (n := n) (o := o) rfl]
  exact ⟨b, p, z, n, o, rfl, rfl⟩
theorem op_21 {K : XK} {L : MK} {d0 d : XD} {e0 e : MD} (hc : Ctx K L d0 e0 d e) {sz : Int32} (hs : SZ sz) (h0 : K12 K 0) : RS d0 e0 (x_middle K 21 sz d) (m_single L 21 sz e) := by
  have ex : x_middle K 21 sz d = x_put K 0 sz (x_sum (x_get K 0 sz d).1 1 false sz (x_get K 0 sz d).2).1 (x_mark 1 (x_is 1 d) (x_sum (x_get K 0 sz d).1 1 false sz (x_get K 0 sz d).2).2) := rfl
  have em : m_single L 21 sz e = m_put L 0 sz (m_add (m_take L 0 sz e).1 1 false sz (m_take L 0 sz e).2).1 (dm_carry_ (dm_carry (m_take L 0 sz e).2) (m_add (m_take L 0 sz e).1 1 false sz (m_take L 0 sz e).2).2) := rfl
  rw [ex, em]
  rcases get_take hc v3_0 hs with ⟨v, c, a1, a2⟩ | ⟨a, a1, a2⟩
  · rw [a1, a2, is_c hc.2.2.2.1.2.2.2.2]
    obtain ⟨q1, q2⟩ := sum_add hc.2.2.2.1.2.2.2.2 (c := false) hs c (cut_1 hs)
    exact put_put (ctx_fo hc (fo_carry q2 _)) v3_0 hs h0 (by rw [← q1, cut_cut _ hs])
  · rw [a1, a2]
    have h1 := dead_same (xf_sum 0 1 false sz (x_fail 3 a d)) (mf_add 0 1 false sz (m_stopWith 3 a e)) (ctx_dead hc a bad3)
    exact Or.inr (dd_put (dead_same (xf_mark 1 (x_is 1 d) _) (mf_carry _ _) h1) _ _ _ _ _ _)
theorem op_22 {K : XK} {L : MK} {d0 d : XD} {e0 e : MD} (hc : Ctx K L d0 e0 d e) {sz : Int32} (hs : SZ sz) (h0 : K12 K 0) : RS d0 e0 (x_middle K 22 sz d) (m_single L 22 sz e) := by
  have ex : x_middle K 22 sz d = x_put K 0 sz (x_difference (x_get K 0 sz d).1 1 false sz (x_get K 0 sz d).2).1 (x_mark 1 (x_is 1 d) (x_difference (x_get K 0 sz d).1 1 false sz (x_get K 0 sz d).2).2) := rfl
  have em : m_single L 22 sz e = m_put L 0 sz (m_subtract (m_take L 0 sz e).1 1 false sz (m_take L 0 sz e).2).1 (dm_carry_ (dm_carry (m_take L 0 sz e).2) (m_subtract (m_take L 0 sz e).1 1 false sz (m_take L 0 sz e).2).2) := rfl
  rw [ex, em]
  rcases get_take hc v3_0 hs with ⟨v, c, a1, a2⟩ | ⟨a, a1, a2⟩
  · rw [a1, a2, is_c hc.2.2.2.1.2.2.2.2]
    obtain ⟨q1, q2⟩ := diff_sub hc.2.2.2.1.2.2.2.2 (c := false) hs c (cut_1 hs)
    exact put_put (ctx_fo hc (fo_carry q2 _)) v3_0 hs h0 (by rw [← q1, cut_cut _ hs])
  · rw [a1, a2]
    have h1 := dead_same (xf_diff 0 1 false sz (x_fail 3 a d)) (mf_sub 0 1 false sz (m_stopWith 3 a e)) (ctx_dead hc a bad3)
    exact Or.inr (dd_put (dead_same (xf_mark 1 (x_is 1 d) _) (mf_carry _ _) h1) _ _ _ _ _ _)
