/-! ===== op 37 to 49 but the services ===== -/
theorem op_37 {K : XK} {L : MK} {d0 d : XD} {e0 e : MD} (hc : Ctx K L d0 e0 d e) {sz : Int32} (hs : SZ sz) : ∃ d', x_others K 37 sz d = (K, d') ∧ RS d0 e0 d' (m_spread 37 sz e) := by
  have hL := hc.2.2.2.1
  have r0 : dx_r d (0 : Int32).toNatClampNeg = dm_regs e (0 : Int32).toNatClampNeg := hL.2.2.1 0 (by decide)
  have ex : x_others K 37 sz d = (if b2i (x_isNegative (dx_r d (0 : Int32).toNatClampNeg) sz) = 0 then (K, x_setRegister 2 sz 0 d) else (K, x_setRegister 2 sz (-1) d)) := by
    unfold x_others
    simp only [bnd_app, show ((37 : Int32) = 37) = True from eq_true rfl, show ((37 : Int32) = 38) = False from eq_false (by decide), show ((37 : Int32) = 39) = False from eq_false (by decide), show ((37 : Int32) = 40) = False from eq_false (by decide), show ((37 : Int32) = 41) = False from eq_false (by decide), show ((37 : Int32) = 42) = False from eq_false (by decide), show ((37 : Int32) = 43) = False from eq_false (by decide), show ((37 : Int32) = 44) = False from eq_false (by decide), show ((37 : Int32) = 45) = False from eq_false (by decide), show ((37 : Int32) = 46) = False from eq_false (by decide), show ((37 : Int32) = 47) = False from eq_false (by decide), show ((37 : Int32) = 48) = False from eq_false (by decide), show ((37 : Int32) = 49) = False from eq_false (by decide), if_true, if_false, if_t, if_f, Bool.false_eq_true]
  have em : m_spread 37 sz e = (if m_upper (dm_regs e (0 : Int32).toNatClampNeg) sz = 1 then m_setRegister 2 sz (-1) e else m_setRegister 2 sz 0 e) := by
    unfold m_spread
    simp only [bnd_app, show ((37 : Int32) = 37) = True from eq_true rfl, if_true, if_false, if_t, if_f, Bool.false_eq_true]
  rw [ex, em, ← r0]
  have hu := neg_up (dx_r d (0 : Int32).toNatClampNeg) (dx_r d (0 : Int32).toNatClampNeg) hs rfl
  by_cases c : m_upper (dx_r d (0 : Int32).toNatClampNeg) sz = 1
  · rw [if_pos c] at hu
    rw [if_pos c, ← hu, if_t]
    exact ⟨_, rfl, Or.inl (setreg hL hs rfl (by decide)).1⟩
  · rw [if_neg c] at hu
    rw [if_neg c, ← hu, if_f]
    exact ⟨_, rfl, Or.inl (setreg hL hs rfl (by decide)).1⟩
theorem op_38 {K : XK} {L : MK} {d0 d : XD} {e0 e : MD} (hc : Ctx K L d0 e0 d e) {sz : Int32} (hs : SZ sz) : ∃ d', x_others K 38 sz d = (K, d') ∧ RS d0 e0 d' (m_spread 38 sz e) := by
  have hL := hc.2.2.2.1
  have r0 : dx_r d (0 : Int32).toNatClampNeg = dm_regs e (0 : Int32).toNatClampNeg := hL.2.2.1 0 (by decide)
  have ex : x_others K 38 sz d = (if sz = 4 then (K, x_setRegister 0 sz ((dx_r d (0 : Int32).toNatClampNeg).toInt32.toInt16.toInt32.toInt64) d) else (K, x_setRegister 0 sz ((dx_r d (0 : Int32).toNatClampNeg).toInt32.toInt64) d)) := by
    unfold x_others
    simp only [bnd_app, show ((38 : Int32) = 37) = False from eq_false (by decide), show ((38 : Int32) = 38) = True from eq_true rfl, show ((38 : Int32) = 39) = False from eq_false (by decide), show ((38 : Int32) = 40) = False from eq_false (by decide), show ((38 : Int32) = 41) = False from eq_false (by decide), show ((38 : Int32) = 42) = False from eq_false (by decide), show ((38 : Int32) = 43) = False from eq_false (by decide), show ((38 : Int32) = 44) = False from eq_false (by decide), show ((38 : Int32) = 45) = False from eq_false (by decide), show ((38 : Int32) = 46) = False from eq_false (by decide), show ((38 : Int32) = 47) = False from eq_false (by decide), show ((38 : Int32) = 48) = False from eq_false (by decide), show ((38 : Int32) = 49) = False from eq_false (by decide), if_true, if_false, if_t, if_f, Bool.false_eq_true]
  have em : m_spread 38 sz e = (if sz = 4 then m_setRegister 0 sz ((dm_regs e (0 : Int32).toNatClampNeg).toInt32.toInt16.toInt32.toInt64) e else m_setRegister 0 sz ((dm_regs e (0 : Int32).toNatClampNeg).toInt32.toInt64) e) := by
    unfold m_spread
    simp only [bnd_app, show ((38 : Int32) = 37) = False from eq_false (by decide), if_true, if_false, if_t, if_f, Bool.false_eq_true]
  rw [ex, em, ← r0]
  split
  · exact ⟨_, rfl, Or.inl (setreg hL hs rfl (by decide)).1⟩
  · exact ⟨_, rfl, Or.inl (setreg hL hs rfl (by decide)).1⟩
theorem op_43 {K : XK} {L : MK} {d0 d : XD} {e0 e : MD} (hc : Ctx K L d0 e0 d e) (sz : Int32) : ∃ d', x_others K 43 sz d = (K, d') ∧ RS d0 e0 d' (dm_regs_ (vp_updL (dm_regs (m_pop L (dm_regs_ (vp_updL (dm_regs e) (4 : Int32).toNatClampNeg (dm_regs e (5 : Int32).toNatClampNeg)) e)).2) (5 : Int32).toNatClampNeg (m_pop L (dm_regs_ (vp_updL (dm_regs e) (4 : Int32).toNatClampNeg (dm_regs e (5 : Int32).toNatClampNeg)) e)).1) (m_pop L (dm_regs_ (vp_updL (dm_regs e) (4 : Int32).toNatClampNeg (dm_regs e (5 : Int32).toNatClampNeg)) e)).2) := by
  obtain ⟨hi, hl, hr, hL, hf, ha⟩ := id hc
  have r5 : dx_r d (5 : Int32).toNatClampNeg = dm_regs e (5 : Int32).toNatClampNeg := hL.2.2.1 5 (by decide)
  have ex : x_others K 43 sz d = (if dx_stop (x_fetch K (dx_r d (5 : Int32).toNatClampNeg) 8 d).2 = 0 then (K, dx_r_ (vp_updL (dx_r (dx_r_ (vp_updL (dx_r (x_fetch K (dx_r d (5 : Int32).toNatClampNeg) 8 d).2) (4 : Int32).toNatClampNeg (dx_r (x_fetch K (dx_r d (5 : Int32).toNatClampNeg) 8 d).2 (5 : Int32).toNatClampNeg + 8)) (x_fetch K (dx_r d (5 : Int32).toNatClampNeg) 8 d).2)) (5 : Int32).toNatClampNeg (x_fetch K (dx_r d (5 : Int32).toNatClampNeg) 8 d).1) (dx_r_ (vp_updL (dx_r (x_fetch K (dx_r d (5 : Int32).toNatClampNeg) 8 d).2) (4 : Int32).toNatClampNeg (dx_r (x_fetch K (dx_r d (5 : Int32).toNatClampNeg) 8 d).2 (5 : Int32).toNatClampNeg + 8)) (x_fetch K (dx_r d (5 : Int32).toNatClampNeg) 8 d).2)) else (K, (x_fetch K (dx_r d (5 : Int32).toNatClampNeg) 8 d).2)) := by
    unfold x_others
    simp only [bnd_app, show ((43 : Int32) = 37) = False from eq_false (by decide), show ((43 : Int32) = 38) = False from eq_false (by decide), show ((43 : Int32) = 39) = False from eq_false (by decide), show ((43 : Int32) = 40) = False from eq_false (by decide), show ((43 : Int32) = 41) = False from eq_false (by decide), show ((43 : Int32) = 42) = False from eq_false (by decide), show ((43 : Int32) = 43) = True from eq_true rfl, show ((43 : Int32) = 44) = False from eq_false (by decide), show ((43 : Int32) = 45) = False from eq_false (by decide), show ((43 : Int32) = 46) = False from eq_false (by decide), show ((43 : Int32) = 47) = False from eq_false (by decide), show ((43 : Int32) = 48) = False from eq_false (by decide), show ((43 : Int32) = 49) = False from eq_false (by decide), if_true, if_false, if_t, if_f, Bool.false_eq_true]
  generalize hE : dm_regs_ (vp_updL (dm_regs e) (4 : Int32).toNatClampNeg (dm_regs e (5 : Int32).toNatClampNeg)) e = E
  have em2 : m_pop L E = ((m_load L (dm_regs E (4 : Int32).toNatClampNeg) 8 E).1, dm_regs_ (vp_updL (dm_regs (m_load L (dm_regs E (4 : Int32).toNatClampNeg) 8 E).2) (4 : Int32).toNatClampNeg (dm_regs (m_load L (dm_regs E (4 : Int32).toNatClampNeg) 8 E).2 (4 : Int32).toNatClampNeg + 8)) (m_load L (dm_regs E (4 : Int32).toNatClampNeg) 8 E).2) := rfl
  have eR : dm_regs E = vp_updL (dm_regs e) (4 : Int32).toNatClampNeg (dm_regs e (5 : Int32).toNatClampNeg) := by rw [← hE]; rfl
  have eA : dm_regs E (4 : Int32).toNatClampNeg = dm_regs e (5 : Int32).toNatClampNeg := by rw [eR, updL_at, if_pos rfl]
  have hmE : RM d E := by rw [← hE]; exact hL.1.1
  rw [ex, em2, eA, r5]
  rcases fetch_load hl hmE hL.2.1 (dm_regs e (5 : Int32).toNatClampNeg) 8 with ⟨a1, a2⟩ | ⟨a1, a2⟩
  · rw [a1, a2]
    generalize x_read K (dm_regs e (5 : Int32).toNatClampNeg) 8 d = v
    rw [if_pos hL.2.1]
    refine ⟨_, rfl, Or.inl ?_⟩
    have hE2 : Com d0 e0 d E := by rw [← hE]; exact hL.1
    obtain ⟨c1, c2, c3, c4, c5⟩ := hE2
    obtain ⟨-, h2, h3, h4, h5⟩ := hL
    refine ⟨⟨c1, c2, c3, c4, c5⟩, h2, fun i hi => ?_, ?_, ?_⟩
    · show vp_updL (vp_updL (dx_r d) (4 : Int32).toNatClampNeg (dx_r d (5 : Int32).toNatClampNeg + 8)) (5 : Int32).toNatClampNeg v i = vp_updL (vp_updL (dm_regs E) (4 : Int32).toNatClampNeg (dm_regs E (4 : Int32).toNatClampNeg + 8)) (5 : Int32).toNatClampNeg v i
      rw [eA, eR, updL_at, updL_at, updL_at, updL_at, updL_at, r5, h3 i hi]
      by_cases q5 : i = (5 : Int32).toNatClampNeg
      · rw [if_pos q5, if_pos q5]
      · rw [if_neg q5, if_neg q5]
        by_cases q4 : i = (4 : Int32).toNatClampNeg
        · rw [if_pos q4, if_pos q4]
        · rw [if_neg q4, if_neg q4, if_neg q4]
    · show dx_next d = dm_ip E
      rw [← hE]; exact h4
    · show dx_flags d = flw (dm_carry E) (dm_parity E) (dm_zero E) (dm_negative E) (dm_over E)
      rw [← hE]; exact h5
  · have hd := ctx_dead hc (dm_regs e (5 : Int32).toNatClampNeg) bad3
    rw [a1, a2, if_neg (dead_x hd)]
    refine ⟨_, rfl, Or.inr (dd_m hd ?_)⟩
    rw [m_stop_0 (show dm_halt E = 0 by rw [← hE]; exact (show dm_halt e = 0 from live_m hL)), m_stop_0 (live_m hL), ← hE]
    rfl
/-! byte order -/
theorem tb_65280 : ∀ i, i < 64 → tb 71777214294589695 i = decide (i % 16 < 8) := by decide +kernel
theorem tb_4294901760 : ∀ i, i < 64 → tb 4294901760 i = decide (16 ≤ i ∧ i < 32) := by decide +kernel
theorem rev_tb (x : Int64) {i : Nat} (hi : i < 64) : tb (j_reverseBytes x) i = tb x (8 * (7 - i / 8) + i % 8) := by
  unfold j_reverseBytes
  simp only [bnd_app]
  have h1 : ∀ j, j < 64 → tb (lshl_ (x &&& 71777214294589695) 8 ||| (lushr_ x 8 &&& 71777214294589695)) j = tb x (if j % 16 < 8 then j + 8 else j - 8) := by
    intro j hj
    rw [tb_or, tb_lshl _ 8 (by decide) (by decide) hj, tb_and, tb_and, tb_lushr x 8 (by decide) (by decide), tb_65280 j hj]
    by_cases c : j % 16 < 8
    · rw [if_pos c, decide_eq_true c, Bool.and_true, Nat.add_comm 8 j]
      by_cases c8 : 8 ≤ j
      · rw [tb_65280 (j - 8) (by omega), decide_eq_false (show ¬ (j - 8) % 16 < 8 by omega), Bool.and_false, Bool.and_false, Bool.false_or]
      · rw [decide_eq_false c8, Bool.false_and, Bool.false_or]
    · rw [if_neg c, decide_eq_false c, Bool.and_false, Bool.or_false, decide_eq_true (show 8 ≤ j by omega), Bool.true_and, tb_65280 (j - 8) (by omega), decide_eq_true (show (j - 8) % 16 < 8 by omega), Bool.and_true]
  generalize hv : lshl_ (x &&& 71777214294589695) 8 ||| (lushr_ x 8 &&& 71777214294589695) = v at *
  rw [tb_or, tb_or, tb_or, tb_lshl _ 48 (by decide) (by decide) hi, tb_lshl _ 16 (by decide) (by decide) hi, tb_and, tb_and, tb_lushr v 16 (by decide) (by decide), tb_lushr v 48 (by decide) (by decide), tb_4294901760 i hi]
  have hb : i < 16 ∨ (16 ≤ i ∧ i < 32) ∨ (32 ≤ i ∧ i < 48) ∨ 48 ≤ i := by omega
  rcases hb with c | c | c | c
  · rw [decide_eq_false (show ¬ 48 ≤ i by omega), decide_eq_false (show ¬ 16 ≤ i by omega), decide_eq_false (show ¬ (16 ≤ i ∧ i < 32) by omega), Bool.false_and, Bool.false_and, Bool.and_false, Bool.false_or, Bool.false_or, Bool.false_or, h1 (48 + i) (by omega)]
    congr 1
    split <;> omega
  · rw [decide_eq_false (show ¬ 48 ≤ i by omega), decide_eq_true (show 16 ≤ i by omega), decide_eq_true (show (16 ≤ i ∧ i < 32) by omega), Bool.false_and, Bool.false_or, Bool.true_and, Bool.and_true, tb_4294901760 (i - 16) (by omega), decide_eq_false (show ¬ (16 ≤ i - 16 ∧ i - 16 < 32) by omega), Bool.and_false, Bool.false_or, tb_big (show 64 ≤ 48 + i by omega), Bool.or_false, h1 (16 + i) (by omega)]
    congr 1
    split <;> omega
  · rw [decide_eq_false (show ¬ 48 ≤ i by omega), decide_eq_true (show 16 ≤ i by omega), decide_eq_false (show ¬ (16 ≤ i ∧ i < 32) by omega), Bool.false_and, Bool.false_or, Bool.true_and, Bool.and_false, tb_4294901760 (i - 16) (by omega), decide_eq_true (show (16 ≤ i - 16 ∧ i - 16 < 32) by omega), Bool.and_true, Bool.or_false, tb_big (show 64 ≤ 48 + i by omega), Bool.or_false, h1 (i - 16) (by omega)]
    congr 1
    split <;> omega
  · rw [decide_eq_true (show 48 ≤ i by omega), decide_eq_true (show 16 ≤ i by omega), decide_eq_false (show ¬ (16 ≤ i ∧ i < 32) by omega), Bool.true_and, Bool.true_and, Bool.and_false, tb_4294901760 (i - 16) (by omega), decide_eq_false (show ¬ (16 ≤ i - 16 ∧ i - 16 < 32) by omega), Bool.and_false, Bool.or_false, Bool.or_false, tb_big (show 64 ≤ 48 + i by omega), Bool.or_false, h1 (i - 48) (by omega)]
    congr 1
    split <;> omega
/-- the bytes one behind the other, the lowest first -/
theorem tb_step (r x : Int64) {y : Int32} (k : Nat) (hk : 8 * k + 8 ≤ 64) (hy : y = nI (8 * k)) {i : Nat} (hi : i < 64) : tb (lshl_ r 8 ||| (lshr_ x y &&& 255)) i = if i < 8 then tb x (8 * k + i) else tb r (i - 8) := by
  rw [tb_or, tb_lshl r 8 (by decide) (by decide) hi, tb_and, tb_255, tb_lshr x (8 * k) (by omega) hy hi]
  by_cases c : i < 8
  · rw [if_pos c, decide_eq_false (show ¬ 8 ≤ i by omega), Bool.false_and, Bool.false_or, decide_eq_true c, Bool.and_true, if_pos (by omega)]
  · rw [if_neg c, decide_eq_true (show 8 ≤ i by omega), Bool.true_and, decide_eq_false c, Bool.and_false, Bool.or_false]
theorem rev4 (x : Int64) : lushr_ (j_reverseBytes x) ((64 : Int32) - (8 : Int32) * 4) = lshl_ (lshl_ (lshl_ (lshl_ 0 8 ||| (lshr_ x ((8 : Int32) * 0) &&& 255)) 8 ||| (lshr_ x ((8 : Int32) * (0 + 1)) &&& 255)) 8 ||| (lshr_ x ((8 : Int32) * (0 + 1 + 1)) &&& 255)) 8 ||| (lshr_ x ((8 : Int32) * (0 + 1 + 1 + 1)) &&& 255) := by
  apply tb_ext
  intro i hi
  rw [tb_lushr _ 32 (by decide) (by decide), tb_step _ x 3 (by decide) (by decide) hi]
  by_cases c0 : i < 8
  · rw [if_pos c0, rev_tb x (by omega)]; congr 1; omega
  · rw [if_neg c0, tb_step _ x 2 (by decide) (by decide) (by omega)]
    by_cases c1 : i - 8 < 8
    · rw [if_pos c1, rev_tb x (by omega)]; congr 1; omega
    · rw [if_neg c1, tb_step _ x 1 (by decide) (by decide) (by omega)]
      by_cases c2 : i - 8 - 8 < 8
      · rw [if_pos c2, rev_tb x (by omega)]; congr 1; omega
      · rw [if_neg c2, tb_step _ x 0 (by decide) (by decide) (by omega)]
        by_cases c3 : i - 8 - 8 - 8 < 8
        · rw [if_pos c3, rev_tb x (by omega)]; congr 1; omega
        · rw [if_neg c3, tb_0, tb_big (by omega)]
theorem rev8 (x : Int64) : lushr_ (j_reverseBytes x) ((64 : Int32) - (8 : Int32) * 8) = lshl_ (lshl_ (lshl_ (lshl_ (lshl_ (lshl_ (lshl_ (lshl_ 0 8 ||| (lshr_ x ((8 : Int32) * 0) &&& 255)) 8 ||| (lshr_ x ((8 : Int32) * (0 + 1)) &&& 255)) 8 ||| (lshr_ x ((8 : Int32) * (0 + 1 + 1)) &&& 255)) 8 ||| (lshr_ x ((8 : Int32) * (0 + 1 + 1 + 1)) &&& 255)) 8 ||| (lshr_ x ((8 : Int32) * (0 + 1 + 1 + 1 + 1)) &&& 255)) 8 ||| (lshr_ x ((8 : Int32) * (0 + 1 + 1 + 1 + 1 + 1)) &&& 255)) 8 ||| (lshr_ x ((8 : Int32) * (0 + 1 + 1 + 1 + 1 + 1 + 1)) &&& 255)) 8 ||| (lshr_ x ((8 : Int32) * (0 + 1 + 1 + 1 + 1 + 1 + 1 + 1)) &&& 255) := by
  apply tb_ext
  intro i hi
  rw [tb_lushr _ 0 (by decide) (by decide), Nat.zero_add, rev_tb x hi, tb_step _ x 7 (by decide) (by decide) hi]
  by_cases c0 : i < 8
  · rw [if_pos c0]; congr 1; omega
  · rw [if_neg c0, tb_step _ x 6 (by decide) (by decide) (by omega)]
    by_cases c1 : i - 8 < 8
    · rw [if_pos c1]; congr 1; omega
    · rw [if_neg c1, tb_step _ x 5 (by decide) (by decide) (by omega)]
      by_cases c2 : i - 8 - 8 < 8
      · rw [if_pos c2]; congr 1; omega
      · rw [if_neg c2, tb_step _ x 4 (by decide) (by decide) (by omega)]
        by_cases c3 : i - 8 - 8 - 8 < 8
        · rw [if_pos c3]; congr 1; omega
        · rw [if_neg c3, tb_step _ x 3 (by decide) (by decide) (by omega)]
          by_cases c4 : i - 8 - 8 - 8 - 8 < 8
          · rw [if_pos c4]; congr 1; omega
          · rw [if_neg c4, tb_step _ x 2 (by decide) (by decide) (by omega)]
            by_cases c5 : i - 8 - 8 - 8 - 8 - 8 < 8
            · rw [if_pos c5]; congr 1; omega
            · rw [if_neg c5, tb_step _ x 1 (by decide) (by decide) (by omega)]
              by_cases c6 : i - 8 - 8 - 8 - 8 - 8 - 8 < 8
              · rw [if_pos c6]; congr 1; omega
              · rw [if_neg c6, tb_step _ x 0 (by decide) (by decide) (by omega), if_pos (by omega)]; congr 1; omega
theorem op_46 {K : XK} {L : MK} {d0 d : XD} {e0 e : MD} (hc : Ctx K L d0 e0 d e) {sz : Int32} (hs : sz = 4 ∨ sz = 8) (k1 : kx_kinds K (0 : Int32).toNatClampNeg = 1) : ∃ d', x_others K 46 sz d = (K, d') ∧ RS d0 e0 d' (m_bits L 46 sz e) := by
  have hs3 : SZ sz := Or.inr hs
  have ex : x_others K 46 sz d = (K, x_put K 0 sz (lushr_ (j_reverseBytes (x_get K 0 sz d).1) ((64 : Int32) - (8 : Int32) * sz)) (x_get K 0 sz d).2) := by
    unfold x_others
    simp only [bnd_app, show ((46 : Int32) = 37) = False from eq_false (by decide), show ((46 : Int32) = 38) = False from eq_false (by decide), show ((46 : Int32) = 39) = False from eq_false (by decide), show ((46 : Int32) = 40) = False from eq_false (by decide), show ((46 : Int32) = 41) = False from eq_false (by decide), show ((46 : Int32) = 42) = False from eq_false (by decide), show ((46 : Int32) = 43) = False from eq_false (by decide), show ((46 : Int32) = 44) = False from eq_false (by decide), show ((46 : Int32) = 45) = False from eq_false (by decide), show ((46 : Int32) = 46) = True from eq_true rfl, show ((46 : Int32) = 47) = False from eq_false (by decide), show ((46 : Int32) = 48) = False from eq_false (by decide), show ((46 : Int32) = 49) = False from eq_false (by decide), if_true, if_false, if_t, if_f, Bool.false_eq_true]
  have em : m_bits L 46 sz e = m_bits_L19 L sz (m_take L 0 sz e) (mI (0 : Int32) sz + 1) 0 0 (m_take L 0 sz e).2 := by
    unfold m_bits
    simp only [bnd_app, show ((46 : Int32) = 44) = False from eq_false (by decide), show ((46 : Int32) = 46) = True from eq_true rfl, show ((46 : Int32) = 47) = False from eq_false (by decide), if_true, if_false, if_t, if_f, Bool.false_eq_true]
  refine ⟨_, ex, ?_⟩
  rw [em]
  rcases get_take hc v3_0 hs3 with ⟨v, c, a1, a2⟩ | ⟨a, a1, a2⟩
  · rw [a1, a2]
    dsimp only
    rcases hs with q | q <;> subst q
    · have e5 : m_bits_L19 L 4 (v, e) (mI (0 : Int32) 4 + 1) 0 0 e = m_put L 0 4 (lshl_ (lshl_ (lshl_ (lshl_ 0 8 ||| (lshr_ v ((8 : Int32) * 0) &&& 255)) 8 ||| (lshr_ v ((8 : Int32) * (0 + 1)) &&& 255)) 8 ||| (lshr_ v ((8 : Int32) * (0 + 1 + 1)) &&& 255)) 8 ||| (lshr_ v ((8 : Int32) * (0 + 1 + 1 + 1)) &&& 255)) e := rfl
      rw [e5, rev4]
      exact put_put hc v3_0 s4 (Or.inl k1) rfl
    · have e5 : m_bits_L19 L 8 (v, e) (mI (0 : Int32) 8 + 1) 0 0 e = m_put L 0 8 (lshl_ (lshl_ (lshl_ (lshl_ (lshl_ (lshl_ (lshl_ (lshl_ 0 8 ||| (lshr_ v ((8 : Int32) * 0) &&& 255)) 8 ||| (lshr_ v ((8 : Int32) * (0 + 1)) &&& 255)) 8 ||| (lshr_ v ((8 : Int32) * (0 + 1 + 1)) &&& 255)) 8 ||| (lshr_ v ((8 : Int32) * (0 + 1 + 1 + 1)) &&& 255)) 8 ||| (lshr_ v ((8 : Int32) * (0 + 1 + 1 + 1 + 1)) &&& 255)) 8 ||| (lshr_ v ((8 : Int32) * (0 + 1 + 1 + 1 + 1 + 1)) &&& 255)) 8 ||| (lshr_ v ((8 : Int32) * (0 + 1 + 1 + 1 + 1 + 1 + 1)) &&& 255)) 8 ||| (lshr_ v ((8 : Int32) * (0 + 1 + 1 + 1 + 1 + 1 + 1 + 1)) &&& 255)) e := rfl
      rw [e5, rev8]
      exact put_put hc v3_0 s8 (Or.inl k1) rfl
  · have := (take_reg hc.1 (sz := sz) (d := d) (e := e) v3_0 k1).2
    rw [a2] at this
    exact absurd (show dm_halt (m_stopWith 3 a e) = 0 by rw [show m_stopWith 3 a e = e from this]; exact live_m hc.2.2.2.1) (dead_m (ctx_dead hc a bad3))
theorem and_63 (y : Int64) {m : Int32} (k : Nat) (hk : k ≤ 6) (hm : m = nI (2 ^ k - 1)) : ∃ j : Nat, j < 64 ∧ (y.toInt32 &&& m) = nI j ∧ ((y &&& m.toInt64).toInt32) = nI j := by
  subst hm
  have hk2 : 2 ^ k ≤ 64 := by
    have : 2 ^ k ≤ 2 ^ 6 := Nat.pow_le_pow_right (by decide) hk
    omega
  have hp : 0 < 2 ^ k := Nat.two_pow_pos k
  refine ⟨uN y % 2 ^ k, by have := Nat.mod_lt (uN y) hp; omega, ?_, ?_⟩
  · rw [pk_and y.toInt32 (m := nI (2 ^ k - 1)) k (pk_tn (by omega))]
    have e : y.toInt32.toBitVec.toNat = uN y % 4294967296 := by
      show (y.toBitVec.signExtend 32).toNat = _
      rw [BitVec.signExtend_eq_setWidth_of_le _ (by decide), BitVec.toNat_setWidth]; rfl
    rw [e, show (4294967296 : Nat) = 2 ^ 32 from rfl, Nat.mod_mod_of_dvd _ (Nat.pow_dvd_pow 2 (by omega))]
  · have e1 : y &&& (nI (2 ^ k - 1)).toInt64 = lN (uN y % 2 ^ k) := by
      rw [nI_l (by omega)]
      apply uN_inj
      have lt : uN y % 2 ^ k < 64 := by have := Nat.mod_lt (uN y) hp; omega
      rw [uN_lN (by omega)]
      show (y.toUInt64 &&& (lN (2 ^ k - 1)).toUInt64).toNat = _
      rw [UInt64.toNat_and]
      have e2 : (lN (2 ^ k - 1)).toUInt64.toNat = 2 ^ k - 1 := uN_lN (by omega)
      rw [e2]
      exact Nat.and_two_pow_sub_one_eq_mod _ k
    rw [e1, lN_i]
theorem op_47 {K : XK} {L : MK} {d0 d : XD} {e0 e : MD} (hc : Ctx K L d0 e0 d e) {sz : Int32} (hs : sz = 4 ∨ sz = 8) : ∃ d', x_others K 47 sz d = (K, d') ∧ RS d0 e0 d' (m_bits L 47 sz e) := by
  have hs3 : SZ sz := Or.inr hs
  have ex : x_others K 47 sz d = (K, x_mark 1 (x_bit (x_get K 0 sz d).1 ((x_get K 1 sz (x_get K 0 sz d).2).1.toInt32 &&& ((8 : Int32) * sz - 1))) (x_get K 1 sz (x_get K 0 sz d).2).2) := by
    unfold x_others
    simp only [bnd_app, show ((47 : Int32) = 37) = False from eq_false (by decide), show ((47 : Int32) = 38) = False from eq_false (by decide), show ((47 : Int32) = 39) = False from eq_false (by decide), show ((47 : Int32) = 40) = False from eq_false (by decide), show ((47 : Int32) = 41) = False from eq_false (by decide), show ((47 : Int32) = 42) = False from eq_false (by decide), show ((47 : Int32) = 43) = False from eq_false (by decide), show ((47 : Int32) = 44) = False from eq_false (by decide), show ((47 : Int32) = 45) = False from eq_false (by decide), show ((47 : Int32) = 46) = False from eq_false (by decide), show ((47 : Int32) = 47) = True from eq_true rfl, show ((47 : Int32) = 48) = False from eq_false (by decide), show ((47 : Int32) = 49) = False from eq_false (by decide), if_true, if_false, if_t, if_f, Bool.false_eq_true]
  have em : m_bits L 47 sz e = (if (lushr_ (m_take L 0 sz (m_take L 1 sz e).2).1 (((m_take L 1 sz e).1 &&& ((8 : Int32) * sz - 1).toInt64).toInt32) &&& 1) = 1 then dm_carry_ true (m_take L 0 sz (m_take L 1 sz e).2).2 else dm_carry_ false (m_take L 0 sz (m_take L 1 sz e).2).2) := by
    unfold m_bits
    simp only [bnd_app, show ((47 : Int32) = 44) = False from eq_false (by decide), show ((47 : Int32) = 46) = False from eq_false (by decide), show ((47 : Int32) = 47) = True from eq_true rfl, if_true, if_false, if_t, if_f, Bool.false_eq_true]
  refine ⟨_, ex, ?_⟩
  rw [em]
  rcases get_take hc v3_0 hs3 with ⟨v, c, a1, a2⟩ | ⟨a, a1, a2⟩
  · rcases get_take hc v3_1 hs3 with ⟨w, c', b1, b2⟩ | ⟨a, b1, b2⟩
    · simp only [a1, a2, b1, b2]
      obtain ⟨j, j1, j2, j3⟩ : ∃ j : Nat, j < 64 ∧ (w.toInt32 &&& ((8 : Int32) * sz - 1)) = nI j ∧ ((w &&& ((8 : Int32) * sz - 1).toInt64).toInt32) = nI j := by
        rcases hs with q | q <;> subst q
        · exact and_63 w 5 (by decide) (by decide)
        · exact and_63 w 6 (by decide) (by decide)
      rw [x_bit_tb v j j1 j2, bit01 v j j1 j3]
      have eb : (if (if tb v j = true then (1 : Int64) else 0) = 1 then dm_carry_ true e else dm_carry_ false e) = dm_carry_ (tb v j) e := by cases tb v j <;> rfl
      rw [eb]
      exact Or.inl (live_fo hc.2.2.2.1 (by rw [mk_c hc.2.2.2.1.2.2.2.2]; exact ⟨tb v j, dm_parity e, dm_zero e, dm_negative e, dm_over e, rfl, rfl⟩))
    · simp only [a1, b1, b2]
      have hd := ctx_dead hc a bad3
      refine Or.inr (dead_same (xf_mark _ _ _) ?_ hd)
      have := md_take (L := L) (k := 0) (sz := sz) (dead_m hd)
      split <;> rw [mf_carry, this]
  · have hd := ctx_dead hc a bad3
    rcases get_take hc v3_1 hs3 with ⟨w, c', b1, b2⟩ | ⟨a', b1, b2⟩
    · simp only [a1, a2, b2]
      refine Or.inr (dead_same ((xf_mark _ _ _).trans (by rw [xd_get (dead_x hd)])) ?_ hd)
      split <;> rfl
    · simp only [a1, b2]
      have hd2 := ctx_dead hc a' bad3
      have e1 : a' = a := by
        have k2 : ∀ k : Int32, vp_in k 3 → ∀ z, x_get K k sz d = (0, x_fail 3 z d) → z = x_address K d := by
          intro k hk z hz
          unfold x_get at hz
          split at hz
          · simp only [bnd_app] at hz
            unfold x_fetch at hz
            rw [if_pos hc.2.2.2.1.2.1] at hz
            split at hz
            · simp only [bnd_app] at hz
              have := congrArg (fun p => dx_stopValue p.2) hz
              simp only [x_fail_0 hc.2.2.2.1.2.1] at this
              exact this.symm
            · have := congrArg (fun p => dx_stop p.2) hz
              simp only [x_fail_0 hc.2.2.2.1.2.1] at this
              have h0 := hc.2.2.2.1.2.1
              have t2 : dx_stop d = (3 : Int32) := this
              rw [h0] at t2
              exact absurd t2 (by decide)
          · have h0 := hc.2.2.2.1.2.1
            split at hz
            · have := congrArg (fun p => dx_stop p.2) hz
              simp only [x_fail_0 h0] at this
              have t2 : dx_stop d = (3 : Int32) := this
              rw [h0] at t2
              exact absurd t2 (by decide)
            · have := congrArg (fun p => dx_stop p.2) hz
              simp only [x_fail_0 h0] at this
              have t2 : dx_stop d = (3 : Int32) := this
              rw [h0] at t2
              exact absurd t2 (by decide)
        rw [k2 0 v3_0 a a1, k2 1 v3_1 a' b1]
      subst e1
      have := md_take (L := L) (k := 0) (sz := sz) (dead_m hd)
      refine Or.inr (dead_same ((xf_mark _ _ _).trans (by rw [xd_get (dead_x hd)])) ?_ hd)
      split <;> rw [mf_carry, this]
theorem mf_stop_regs (w : Int32) (v : Int64) (G : Nat → Int64) (e : MD) : mfix (dm_haltValue_ v (dm_halt_ w (dm_regs_ G e))) = mfix (dm_haltValue_ v (dm_halt_ w e)) := rfl
theorem kind1 {K : XK} {L : MK} (hi : RIn K L) : km_kinds L (1 : Int32).toNatClampNeg = kx_kinds K (1 : Int32).toNatClampNeg := (hi.2.1 1 (by decide)).symm
theorem op_48 {K : XK} {L : MK} {d0 d : XD} {e0 e : MD} (hc : Ctx K L d0 e0 d e) {sz : Int32} (hs : SZ sz) (h0 : K12 K 0) (h1 : kx_kinds K (1 : Int32).toNatClampNeg = 1) : RS d0 e0 (x_exchangeAdd K sz d) (m_together L 48 sz e) := by
  have em : m_together L 48 sz e = m_put L 0 sz (m_add (m_take L 0 sz e).1 (m_take L 1 sz (m_take L 0 sz e).2).1 false sz (m_take L 1 sz (m_take L 0 sz e).2).2).1 (m_put L 1 sz (m_take L 0 sz e).1 (m_add (m_take L 0 sz e).1 (m_take L 1 sz (m_take L 0 sz e).2).1 false sz (m_take L 1 sz (m_take L 0 sz e).2).2).2) := by
    unfold m_together
    simp only [bnd_app, show ((48 : Int32) = 48) = True from eq_true rfl, if_true, if_false, if_t, if_f, Bool.false_eq_true]
  rw [em]
  unfold x_exchangeAdd
  simp only [bnd_app]
  have dead : ∀ (d1 : XD) (e1 : MD) (x y x' y' : Int64), Dead d0 e0 d1 e1 → ∀ (k k' : Int32) (u u' w w' : Int64), RS d0 e0 (x_put K k sz u (x_put K k' sz w (x_sum x y false sz d1).2)) (m_put L 0 sz u' (m_put L 1 sz w' (m_add x' y' false sz e1).2)) := by
    intro d1 e1 x y x' y' hd k k' u u' w w'
    exact Or.inr (dd_put (dd_put (dead_same (xf_sum _ _ _ _ _) (mf_add _ _ _ _ _) hd) _ _ _ _ _ _) _ _ _ _ _ _)
  have split2 : ∀ (P : Prop) [Decidable P] (a b : XD), RS d0 e0 a (m_put L 0 sz (m_add (m_take L 0 sz e).1 (m_take L 1 sz (m_take L 0 sz e).2).1 false sz (m_take L 1 sz (m_take L 0 sz e).2).2).1 (m_put L 1 sz (m_take L 0 sz e).1 (m_add (m_take L 0 sz e).1 (m_take L 1 sz (m_take L 0 sz e).2).1 false sz (m_take L 1 sz (m_take L 0 sz e).2).2).2)) → RS d0 e0 b (m_put L 0 sz (m_add (m_take L 0 sz e).1 (m_take L 1 sz (m_take L 0 sz e).2).1 false sz (m_take L 1 sz (m_take L 0 sz e).2).2).1 (m_put L 1 sz (m_take L 0 sz e).1 (m_add (m_take L 0 sz e).1 (m_take L 1 sz (m_take L 0 sz e).2).1 false sz (m_take L 1 sz (m_take L 0 sz e).2).2).2)) → RS d0 e0 (if P then a else b) (m_put L 0 sz (m_add (m_take L 0 sz e).1 (m_take L 1 sz (m_take L 0 sz e).2).1 false sz (m_take L 1 sz (m_take L 0 sz e).2).2).1 (m_put L 1 sz (m_take L 0 sz e).1 (m_add (m_take L 0 sz e).1 (m_take L 1 sz (m_take L 0 sz e).2).1 false sz (m_take L 1 sz (m_take L 0 sz e).2).2).2)) := by
    intro P _ a b ha hb
    split
    · exact ha
    · exact hb
  rcases get_take hc v3_0 hs with ⟨v, c, a1, a2⟩ | ⟨a, a1, a2⟩
  · rcases get_take hc v3_1 hs with ⟨w, c', b1, b2⟩ | ⟨a, b1, b2⟩
    · simp only [a1, a2, b1, b2]
      obtain ⟨q1, q2⟩ := sum_add hc.2.2.2.1.2.2.2.2 (c := false) hs c c'
      have hc2 := ctx_fo hc q2
      have qv : x_cut (x_sum v w false sz d).1 sz = x_cut (m_add v w false sz e).1 sz := by rw [← q1, cut_cut _ hs]
      rcases h0 with k1 | k2
      · rw [if_neg (show ¬ kx_kinds K (0 : Int32).toNatClampNeg = 2 by rw [k1]; decide)]
        simp only [if_f]
        have e1 : RS d0 e0 (x_put K (b2i true) sz v (x_sum v w false sz d).2) (m_put L 1 sz v (m_add v w false sz e).2) := Or.inl (put_reg hc.1 hc.2.2.1 hc2.2.2.2.1 v3_1 hs h1 rfl)
        exact put2 hc.1 hc.2.2.1 v3_0 hs k1 qv e1
      · rw [if_pos k2]
        simp only [if_t]
        -- a memory: stored first by X, second by M
        have e1 : m_put L 1 sz v (m_add v w false sz e).2 = m_setRegister (km_places L (1 : Int32).toNatClampNeg) sz v (m_add v w false sz e).2 := by
          unfold m_put m_kindAt m_registerAt
          rw [kind1 hc.1, if_pos h1]; rfl
        have r1 : (kx_regs K (1 : Int32).toNatClampNeg).toNatClampNeg < 16 := vp_lt (hc.2.2.1 1 v3_1)
        have er : km_places L (1 : Int32).toNatClampNeg = kx_regs K (1 : Int32).toNatClampNeg := (hc.1.2.2 1 (by decide)).symm
        have sr := setreg hc2.2.2.2.1 (k := kx_regs K (1 : Int32).toNatClampNeg) (v := v) (v' := v) hs rfl r1
        rw [e1, er]
        -- M's state behind the register: its store sees the same memory
        have es : ∀ E : MD, ∀ u : Int64, m_put L 0 sz u E = m_store L (dm_operandAt E) sz u E := by
          intro E u
          unfold m_put m_kindAt
          rw [kind0 hc.1, if_neg (by rw [k2]; decide)]; rfl
        rw [es, sr.2.2]
        have ha := hc2.2.2.2.2.2 0 v3_0 k2
        have ep : x_put K (b2i false) sz (x_sum v w false sz d).1 (x_sum v w false sz d).2 = x_store K (dm_operandAt (m_add v w false sz e).2) sz (x_sum v w false sz d).1 (x_sum v w false sz d).2 := by
          show x_put K 0 sz _ _ = _
          unfold x_put
          rw [if_pos k2, ← ha]; rfl
        rw [ep]
        generalize dm_regs (m_setRegister (kx_regs K (1 : Int32).toNatClampNeg) sz v (m_add v w false sz e).2) = G at *
        have hL2 := hc2.2.2.2.1
        rcases store_store (e := dm_regs_ G (m_add v w false sz e).2) hc.2.1 (show RM (x_sum v w false sz d).2 (dm_regs_ G (m_add v w false sz e).2) from hL2.1.1) hL2.2.1 (show dm_halt (dm_regs_ G (m_add v w false sz e).2) = 0 from (show dm_halt (m_add v w false sz e).2 = 0 from live_m hL2)) (dm_operandAt (m_add v w false sz e).2) (x_sum v w false sz d).1 (m_add v w false sz e).1 sz (beq_cut hs qv) with ⟨b, f, g, h, s1, s2, s3⟩ | ⟨s1, s2⟩
        · rw [s1, show m_store L (dm_operandAt (dm_regs_ G (m_add v w false sz e).2)) sz (m_add v w false sz e).1 (dm_regs_ G (m_add v w false sz e).2) = mmem f g h (dm_regs_ G (m_add v w false sz e).2) from s2]
          have hL3 : Live d0 e0 (dx_bytes_ b (x_sum v w false sz d).2) (mmem f g h (m_add v w false sz e).2) := by
            obtain ⟨⟨c1, c2, c3, c4, c5⟩, h2, h3, h4, h5⟩ := hL2
            exact ⟨⟨s3, c2, c3, c4, c5⟩, h2, h3, h4, h5⟩
          have hp := put_reg (v := v) (v' := v) hc.1 hc.2.2.1 hL3 v3_1 hs h1 rfl
          have e2 : m_put L 1 sz v (mmem f g h (m_add v w false sz e).2) = mmem f g h (dm_regs_ G (m_add v w false sz e).2) := by
            have e3 : m_put L 1 sz v (mmem f g h (m_add v w false sz e).2) = m_setRegister (kx_regs K (1 : Int32).toNatClampNeg) sz v (mmem f g h (m_add v w false sz e).2) := by
              unfold m_put m_kindAt m_registerAt
              rw [kind1 hc.1, if_pos h1, er]; rfl
            rw [e3]
            have e4 : ∀ E : MD, m_setRegister (kx_regs K (1 : Int32).toNatClampNeg) sz v (mmem f g h E) = mmem f g h (m_setRegister (kx_regs K (1 : Int32).toNatClampNeg) sz v E) := by
              intro E; unfold m_setRegister; split
              · rfl
              · split <;> rfl
            rw [e4, sr.2.2]
          rw [← e2]
          exact Or.inl hp
        · have hd := fail_dead (v := dm_operandAt (m_add v w false sz e).2) hL2 hc2.2.2.2.2.1 bad3
          rw [s1, show m_store L (dm_operandAt (dm_regs_ G (m_add v w false sz e).2)) sz (m_add v w false sz e).1 (dm_regs_ G (m_add v w false sz e).2) = m_stopWith 3 (dm_operandAt (m_add v w false sz e).2) (dm_regs_ G (m_add v w false sz e).2) from s2]
          refine Or.inr (dead_same (by rw [xd_put (dead_x hd)]) ?_ hd)
          rw [m_stop_0 (live_m hL2), m_stop_0 (show dm_halt (dm_regs_ G (m_add v w false sz e).2) = 0 from (show dm_halt (m_add v w false sz e).2 = 0 from live_m hL2))]
          exact mf_stop_regs _ _ _ _
    · apply split2
      · simp only [a1, a2, b1, b2]; exact dead _ _ _ _ _ _ (ctx_dead hc a bad3) _ _ _ _ _ _
      · simp only [a1, a2, b1, b2]; exact dead _ _ _ _ _ _ (ctx_dead hc a bad3) _ _ _ _ _ _
  · apply split2
    · simp only [a1, a2]; exact dead _ _ _ _ _ _ (dd_get (K := K) (L := L) (ctx_dead hc a bad3) 1 1 sz sz) _ _ _ _ _ _
    · simp only [a1, a2]; exact dead _ _ _ _ _ _ (dd_get (K := K) (L := L) (ctx_dead hc a bad3) 1 1 sz sz) _ _ _ _ _ _
