/-! ===== op 29 to 36: flow ===== -/
theorem xd_push {K : XK} {v : Int64} {d : XD} (h : ¬ dx_stop d = 0) : x_push K v d = d := by
  unfold x_push; simp only [bnd_app]; rw [xd_store h, if_neg h]
theorem live_next {d0 d : XD} {e0 e : MD} (h : Live d0 e0 d e) (v : Int64) : Live d0 e0 (dx_next_ v d) (dm_ip_ v e) := by
  obtain ⟨⟨c1, c2, c3, c4, c5⟩, h2, h3, h4, h5⟩ := h
  exact ⟨⟨c1, c2, c3, c4, c5⟩, h2, h3, rfl, h5⟩
theorem push_rel {K : XK} {L : MK} {d0 d : XD} {e0 e : MD} (hl : RLay K L) (h : Live d0 e0 d e) (hf : Fr d e) (v : Int64) : RS d0 e0 (x_push K v d) (m_push L v e) := by
  have r4 : dx_r d (4 : Int32).toNatClampNeg = dm_regs e (4 : Int32).toNatClampNeg := h.2.2.1 4 (by decide)
  unfold x_push m_push
  simp only [bnd_app]
  rw [r4]
  rcases store_store hl h.1.1 h.2.1 (live_m h) (dm_regs e (4 : Int32).toNatClampNeg - 8) v v 8 (beq_cut s8 rfl) with ⟨b, f, g, k, a1, a2, a3⟩ | ⟨a1, a2⟩
  · rw [a1, a2, if_pos (show dx_stop (dx_bytes_ b d) = 0 from h.2.1)]
    have hl2 : Live d0 e0 (dx_bytes_ b d) (mmem f g k e) := by
      obtain ⟨⟨c1, c2, c3, c4, c5⟩, h2, h3, h4, h5⟩ := h
      exact ⟨⟨a3, c2, c3, c4, c5⟩, h2, h3, h4, h5⟩
    exact Or.inl (live_r hl2 (req_up hl2.2.2.1 (by show dx_r d (4 : Int32).toNatClampNeg - 8 = dm_regs e (4 : Int32).toNatClampNeg - 8; rw [r4]) _))
  · have hd := fail_dead (k := 3) (v := dm_regs e (4 : Int32).toNatClampNeg - 8) h hf bad3
    rw [a1, a2, if_neg (dead_x hd)]
    exact Or.inr (dd_m hd (mf_regs _ _))
theorem dd_push {K : XK} {L : MK} {d0 d : XD} {e0 e : MD} (h : Dead d0 e0 d e) (v v' : Int64) : Dead d0 e0 (x_push K v d) (m_push L v' e) := dead_same (by rw [xd_push (dead_x h)]) (md_push (dead_m h)) h
theorem kind0 {K : XK} {L : MK} (hi : RIn K L) : km_kinds L (0 : Int32).toNatClampNeg = kx_kinds K (0 : Int32).toNatClampNeg := (hi.2.1 0 (by decide)).symm
theorem op_29 {K : XK} {L : MK} {d0 d : XD} {e0 e : MD} (hc : Ctx K L d0 e0 d e) (sz : Int32) : RS d0 e0 (x_flow K 29 sz d) (m_goes L 29 e) := by
  have ex : x_flow K 29 sz d = (if kx_kinds K (0 : Int32).toNatClampNeg = 3 then x_push K (kx_number K) d else x_push K (x_get K 0 8 d).1 (x_get K 0 8 d).2) := by
    unfold x_flow
    simp only [bnd_app, show ((29 : Int32) = 29) = True from eq_true rfl, show ((29 : Int32) = 30) = False from eq_false (by decide), show ((29 : Int32) = 31) = False from eq_false (by decide), show ((29 : Int32) = 32) = False from eq_false (by decide), show ((29 : Int32) = 33) = False from eq_false (by decide), show ((29 : Int32) = 34) = False from eq_false (by decide), show ((29 : Int32) = 35) = False from eq_false (by decide), show ((29 : Int32) = 36) = False from eq_false (by decide), if_true, if_false, if_t, if_f, Bool.false_eq_true]
  have em : m_goes L 29 e = (if km_kinds L (0 : Int32).toNatClampNeg = 3 then m_push L (km_number L) e else m_push L (m_take L 0 8 e).1 (m_take L 0 8 e).2) := by
    unfold m_goes
    simp only [bnd_app, m_kindAt, show ((29 : Int32) = 29) = True from eq_true rfl, show ((29 : Int32) = 30) = False from eq_false (by decide), show ((29 : Int32) = 32) = False from eq_false (by decide), show ((29 : Int32) = 33) = False from eq_false (by decide), show ((29 : Int32) = 34) = False from eq_false (by decide), if_true, if_false, if_t, if_f, Bool.false_eq_true]
  rw [ex, em, kind0 hc.1, ← hc.1.1.1.2.2.2]
  split
  · exact push_rel hc.2.1 hc.2.2.2.1 hc.2.2.2.2.1 _
  · rcases get_take hc v3_0 s8 with ⟨v, c, a1, a2⟩ | ⟨a, a1, a2⟩
    · rw [a1, a2]; exact push_rel hc.2.1 hc.2.2.2.1 hc.2.2.2.2.1 _
    · rw [a1, a2]; exact Or.inr (dd_push (ctx_dead hc a bad3) _ _)
theorem i64_back (x : Int64) : x + 8 - 8 = x := by grind
theorem op_30 {K : XK} {L : MK} {d0 d : XD} {e0 e : MD} (hc : Ctx K L d0 e0 d e) (sz : Int32) (h0 : K12 K 0) (hA : kx_kinds K (0 : Int32).toNatClampNeg = 2 → XAdr K) : RS d0 e0 (x_flow K 30 sz d) (m_goes L 30 e) := by
  have ex : x_flow K 30 sz d = x_pop K d := by
    unfold x_flow
    simp only [bnd_app, show ((30 : Int32) = 29) = False from eq_false (by decide), show ((30 : Int32) = 30) = True from eq_true rfl, show ((30 : Int32) = 31) = False from eq_false (by decide), show ((30 : Int32) = 32) = False from eq_false (by decide), show ((30 : Int32) = 33) = False from eq_false (by decide), show ((30 : Int32) = 34) = False from eq_false (by decide), show ((30 : Int32) = 35) = False from eq_false (by decide), show ((30 : Int32) = 36) = False from eq_false (by decide), if_true, if_false, if_t, if_f, Bool.false_eq_true]
  have em : m_goes L 30 e = m_put L 0 8 (m_pop L e).1 (if km_kinds L (0 : Int32).toNatClampNeg = 2 then dm_operandAt_ (m_addressNow L (m_pop L e).2) (m_pop L e).2 else (m_pop L e).2) := by
    unfold m_goes
    simp only [bnd_app, m_kindAt, show ((30 : Int32) = 29) = False from eq_false (by decide), show ((30 : Int32) = 30) = True from eq_true rfl, show ((30 : Int32) = 32) = False from eq_false (by decide), show ((30 : Int32) = 33) = False from eq_false (by decide), show ((30 : Int32) = 34) = False from eq_false (by decide), if_true, if_false, if_t, if_f, Bool.false_eq_true]
  have em2 : m_pop L e = ((m_load L (dm_regs e (4 : Int32).toNatClampNeg) 8 e).1, dm_regs_ (vp_updL (dm_regs (m_load L (dm_regs e (4 : Int32).toNatClampNeg) 8 e).2) (4 : Int32).toNatClampNeg (dm_regs (m_load L (dm_regs e (4 : Int32).toNatClampNeg) 8 e).2 (4 : Int32).toNatClampNeg + 8)) (m_load L (dm_regs e (4 : Int32).toNatClampNeg) 8 e).2) := rfl
  obtain ⟨hi, hl, hr, hL, hf, ha⟩ := id hc
  have r4 : dx_r d (4 : Int32).toNatClampNeg = dm_regs e (4 : Int32).toNatClampNeg := hL.2.2.1 4 (by decide)
  rw [ex, em, kind0 hi, em2]
  unfold x_pop
  simp only [bnd_app]
  rw [r4]
  rcases fetch_load hl hL.1.1 hL.2.1 (dm_regs e (4 : Int32).toNatClampNeg) 8 with ⟨a1, a2⟩ | ⟨a1, a2⟩
  · rw [a1, a2]
    generalize x_read K (dm_regs e (4 : Int32).toNatClampNeg) 8 d = v
    dsimp only
    rw [if_pos hL.2.1]
    have hL2 : Live d0 e0 (dx_r_ (vp_updL (dx_r d) (4 : Int32).toNatClampNeg (dx_r d (4 : Int32).toNatClampNeg + 8)) d) (dm_regs_ (vp_updL (dm_regs e) (4 : Int32).toNatClampNeg (dm_regs e (4 : Int32).toNatClampNeg + 8)) e) := live_r hL (req_up hL.2.2.1 (by rw [r4]) _)
    rcases h0 with k1 | k2
    · rw [if_neg (show ¬ kx_kinds K (0 : Int32).toNatClampNeg = 2 by rw [k1]; decide)]
      have hp := put_reg (v := v) (v' := v) hi hr hL2 v3_0 s8 k1 rfl
      rw [if_pos hp.2.1]
      exact Or.inl hp
    · rw [if_pos k2]
      rw [← addr_eq hi (hA k2) hL2]
      generalize hd2 : dx_r_ (vp_updL (dx_r d) (4 : Int32).toNatClampNeg (dx_r d (4 : Int32).toNatClampNeg + 8)) d = d2 at *
      generalize he2 : dm_regs_ (vp_updL (dm_regs e) (4 : Int32).toNatClampNeg (dm_regs e (4 : Int32).toNatClampNeg + 8)) e = e2 at *
      have ep : x_put K 0 8 v d2 = x_store K (x_address K d2) 8 v d2 := by
        unfold x_put; rw [if_pos k2]; rfl
      have eq : m_put L 0 8 v (dm_operandAt_ (x_address K d2) e2) = m_store L (x_address K d2) 8 v (dm_operandAt_ (x_address K d2) e2) := by
        unfold m_put m_kindAt; rw [kind0 hi, if_neg (by rw [k2]; decide)]; rfl
      rw [ep, eq]
      have hm2 : RM d2 (dm_operandAt_ (x_address K d2) e2) := hL2.1.1
      rcases store_store hl hm2 hL2.2.1 (show dm_halt (dm_operandAt_ (x_address K d2) e2) = 0 from live_m hL2) (x_address K d2) v v 8 (beq_cut s8 rfl) with ⟨b, f, g, k, b1, b2, b3⟩ | ⟨b1, b2⟩
      · rw [b1, b2, if_pos (show dx_stop (dx_bytes_ b d2) = 0 from hL2.2.1)]
        obtain ⟨⟨c1, c2, c3, c4, c5⟩, h2, h3, h4, h5⟩ := hL2
        exact Or.inl ⟨⟨b3, c2, c3, c4, c5⟩, h2, h3, h4, h5⟩
      · rw [b1, b2, x_fail_0 hL2.2.1, m_stop_0 (show dm_halt (dm_operandAt_ (x_address K d2) e2) = 0 from live_m hL2)]
        rw [if_neg (show ¬ dx_stop (dx_stopValue_ (x_address K d2) (dx_stop_ 3 d2)) = 0 from show ¬ (3 : Int32) = 0 by decide)]
        obtain ⟨⟨c1, c2, c3, c4, c5⟩, h2, h3, h4, h5⟩ := hL2
        refine Or.inr ⟨⟨c1, c2, ⟨rfl, rfl⟩, c4, c5⟩, bad3, fun i hi => ?_⟩
        show vp_updL (dx_r d2) (4 : Int32).toNatClampNeg (dx_r d2 (4 : Int32).toNatClampNeg - 8) i = dm_kept e2 i
        have ek : dm_kept e2 = dm_kept e := by rw [← he2]; rfl
        have er : dx_r d2 = vp_updL (dx_r d) (4 : Int32).toNatClampNeg (dx_r d (4 : Int32).toNatClampNeg + 8) := by rw [← hd2]; rfl
        rw [ek, er, updL_at, updL_at, updL_at, if_pos rfl, ← hf i hi]
        by_cases q : i = (4 : Int32).toNatClampNeg
        · rw [if_pos q, q, i64_back]
        · rw [if_neg q, if_neg q]
  · have hd := ctx_dead hc (dm_regs e (4 : Int32).toNatClampNeg) bad3
    rw [a1, a2, if_neg (dead_x hd)]
    refine Or.inr (dd_m hd ?_)
    have h1 : ∀ x : MD, mfix x = mfix (m_stopWith 3 (dm_regs e (4 : Int32).toNatClampNeg) e) → mfix (m_put L 0 8 0 x) = mfix (m_stopWith 3 (dm_regs e (4 : Int32).toNatClampNeg) e) := fun x hx => (md_put (mf_nz hx (dead_m hd))).trans hx
    apply h1
    split <;> rfl
/-- a target: a number from the next place, or an operand -/
theorem tgt_rel {K : XK} {L : MK} {d0 d : XD} {e0 e : MD} (hc : Ctx K L d0 e0 d e) : (∃ v, x_target K d = (v, d) ∧ (if km_kinds L (0 : Int32).toNatClampNeg = 3 then (dm_ip e + km_number L, e) else ((m_take L 0 8 e).1, (m_take L 0 8 e).2)) = (v, e)) ∨ (∃ a, x_target K d = (0, x_fail 3 a d) ∧ (if km_kinds L (0 : Int32).toNatClampNeg = 3 then (dm_ip e + km_number L, e) else ((m_take L 0 8 e).1, (m_take L 0 8 e).2)) = (0, m_stopWith 3 a e)) := by
  unfold x_target
  simp only [bnd_app]
  rw [kind0 hc.1, ← hc.1.1.1.2.2.2, ← hc.2.2.2.1.2.2.2.1]
  split
  · exact Or.inl ⟨_, rfl, rfl⟩
  · rcases get_take hc v3_0 s8 with ⟨v, c, a1, a2⟩ | ⟨a, a1, a2⟩
    · rw [a1, a2]; exact Or.inl ⟨v, rfl, rfl⟩
    · rw [a1, a2]; exact Or.inr ⟨a, rfl, rfl⟩
theorem op_31 {K : XK} {L : MK} {d0 d : XD} {e0 e : MD} (hc : Ctx K L d0 e0 d e) (sz : Int32) : RS d0 e0 (x_flow K 31 sz d) (m_goes L 31 e) := by
  have ex : x_flow K 31 sz d = (if (if dx_stop (x_target K d).2 = 0 then true else false) = true then dx_next_ (x_target K d).1 (x_target K d).2 else (x_target K d).2) := by
    unfold x_flow
    simp only [bnd_app, show ((31 : Int32) = 29) = False from eq_false (by decide), show ((31 : Int32) = 30) = False from eq_false (by decide), show ((31 : Int32) = 31) = True from eq_true rfl, show ((31 : Int32) = 32) = False from eq_false (by decide), show ((31 : Int32) = 33) = False from eq_false (by decide), show ((31 : Int32) = 34) = False from eq_false (by decide), show ((31 : Int32) = 35) = False from eq_false (by decide), show ((31 : Int32) = 36) = False from eq_false (by decide), if_true, if_false, if_t, if_f, Bool.false_eq_true]
  have em : m_goes L 31 e = dm_ip_ (if km_kinds L (0 : Int32).toNatClampNeg = 3 then (dm_ip e + km_number L, e) else ((m_take L 0 8 e).1, (m_take L 0 8 e).2)).1 (if km_kinds L (0 : Int32).toNatClampNeg = 3 then (dm_ip e + km_number L, e) else ((m_take L 0 8 e).1, (m_take L 0 8 e).2)).2 := by
    unfold m_goes
    simp only [bnd_app, m_kindAt, show ((31 : Int32) = 29) = False from eq_false (by decide), show ((31 : Int32) = 30) = False from eq_false (by decide), show ((31 : Int32) = 32) = False from eq_false (by decide), show ((31 : Int32) = 33) = False from eq_false (by decide), show ((31 : Int32) = 34) = False from eq_false (by decide), if_true, if_false, if_t, if_f, Bool.false_eq_true]
  rw [ex, em]
  rcases tgt_rel hc with ⟨v, a1, a2⟩ | ⟨a, a1, a2⟩
  · rw [a1, a2]
    rw [if_pos (show (if dx_stop d = 0 then true else false) = true by rw [if_pos hc.2.2.2.1.2.1])]
    exact Or.inl (live_next hc.2.2.2.1 v)
  · have hd := ctx_dead hc a bad3
    rw [a1, a2]
    rw [if_neg (show ¬ (if dx_stop (x_fail 3 a d) = 0 then true else false) = true by rw [if_neg (dead_x hd)]; decide)]
    exact Or.inr (dd_m hd (mf_ip _ _))
theorem op_32 {K : XK} {L : MK} {d0 d : XD} {e0 e : MD} (hc : Ctx K L d0 e0 d e) (sz : Int32) : RS d0 e0 (x_flow K 32 sz d) (m_goes L 32 e) := by
  have ex : x_flow K 32 sz d = (if dx_stop (x_push K (dx_next (x_target K d).2) (x_target K d).2) = 0 then dx_next_ (x_target K d).1 (x_push K (dx_next (x_target K d).2) (x_target K d).2) else x_push K (dx_next (x_target K d).2) (x_target K d).2) := by
    unfold x_flow
    simp only [bnd_app, show ((32 : Int32) = 29) = False from eq_false (by decide), show ((32 : Int32) = 30) = False from eq_false (by decide), show ((32 : Int32) = 31) = False from eq_false (by decide), show ((32 : Int32) = 32) = True from eq_true rfl, show ((32 : Int32) = 33) = False from eq_false (by decide), show ((32 : Int32) = 34) = False from eq_false (by decide), show ((32 : Int32) = 35) = False from eq_false (by decide), show ((32 : Int32) = 36) = False from eq_false (by decide), if_true, if_false, if_t, if_f, Bool.false_eq_true]
  have em : m_goes L 32 e = dm_ip_ (if km_kinds L (0 : Int32).toNatClampNeg = 3 then (dm_ip e + km_number L, e) else ((m_take L 0 8 e).1, (m_take L 0 8 e).2)).1 (m_push L (dm_ip (if km_kinds L (0 : Int32).toNatClampNeg = 3 then (dm_ip e + km_number L, e) else ((m_take L 0 8 e).1, (m_take L 0 8 e).2)).2) (if km_kinds L (0 : Int32).toNatClampNeg = 3 then (dm_ip e + km_number L, e) else ((m_take L 0 8 e).1, (m_take L 0 8 e).2)).2) := by
    unfold m_goes
    simp only [bnd_app, m_kindAt, show ((32 : Int32) = 29) = False from eq_false (by decide), show ((32 : Int32) = 30) = False from eq_false (by decide), show ((32 : Int32) = 32) = True from eq_true rfl, show ((32 : Int32) = 33) = False from eq_false (by decide), show ((32 : Int32) = 34) = False from eq_false (by decide), if_true, if_false, if_t, if_f, Bool.false_eq_true]
  rw [ex, em]
  rcases tgt_rel hc with ⟨v, a1, a2⟩ | ⟨a, a1, a2⟩
  · rw [a1, a2]
    have hp := push_rel hc.2.1 hc.2.2.2.1 hc.2.2.2.2.1 (dx_next d)
    rw [show dm_ip e = dx_next d from hc.2.2.2.1.2.2.2.1.symm]
    rcases hp with hp | hp
    · rw [if_pos hp.2.1]; exact Or.inl (live_next hp v)
    · rw [if_neg (dead_x hp)]; exact Or.inr (dd_m hp (mf_ip _ _))
  · have hd := ctx_dead hc a bad3
    rw [a1, a2]
    have hp := dd_push (K := K) (L := L) hd (dx_next (x_fail 3 a d)) (dm_ip (m_stopWith 3 a e))
    rw [if_neg (dead_x hp)]
    exact Or.inr (dd_m hp (mf_ip _ _))
theorem op_33 {K : XK} {L : MK} {d0 d : XD} {e0 e : MD} (hc : Ctx K L d0 e0 d e) (sz : Int32) : RS d0 e0 (x_flow K 33 sz d) (m_goes L 33 e) := by
  have ex : x_flow K 33 sz d = (if dx_stop (x_fetch K (dx_r d (4 : Int32).toNatClampNeg) 8 d).2 = 0 then dx_r_ (vp_updL (dx_r (dx_next_ (x_fetch K (dx_r d (4 : Int32).toNatClampNeg) 8 d).1 (x_fetch K (dx_r d (4 : Int32).toNatClampNeg) 8 d).2)) (4 : Int32).toNatClampNeg (dx_r (dx_next_ (x_fetch K (dx_r d (4 : Int32).toNatClampNeg) 8 d).1 (x_fetch K (dx_r d (4 : Int32).toNatClampNeg) 8 d).2) (4 : Int32).toNatClampNeg + (8 + (if kx_kinds K (0 : Int32).toNatClampNeg = 3 then kx_number K else 0)))) (dx_next_ (x_fetch K (dx_r d (4 : Int32).toNatClampNeg) 8 d).1 (x_fetch K (dx_r d (4 : Int32).toNatClampNeg) 8 d).2) else (x_fetch K (dx_r d (4 : Int32).toNatClampNeg) 8 d).2) := by
    unfold x_flow
    simp only [bnd_app, show ((33 : Int32) = 29) = False from eq_false (by decide), show ((33 : Int32) = 30) = False from eq_false (by decide), show ((33 : Int32) = 31) = False from eq_false (by decide), show ((33 : Int32) = 32) = False from eq_false (by decide), show ((33 : Int32) = 33) = True from eq_true rfl, show ((33 : Int32) = 34) = False from eq_false (by decide), show ((33 : Int32) = 35) = False from eq_false (by decide), show ((33 : Int32) = 36) = False from eq_false (by decide), if_true, if_false, if_t, if_f, Bool.false_eq_true]
  have em : m_goes L 33 e = (if km_kinds L (0 : Int32).toNatClampNeg = 3 then dm_regs_ (vp_updL (dm_regs (dm_ip_ (m_pop L e).1 (m_pop L e).2)) (4 : Int32).toNatClampNeg (dm_regs (dm_ip_ (m_pop L e).1 (m_pop L e).2) (4 : Int32).toNatClampNeg + km_number L)) (dm_ip_ (m_pop L e).1 (m_pop L e).2) else dm_regs_ (vp_updL (dm_regs (dm_ip_ (m_pop L e).1 (m_pop L e).2)) (4 : Int32).toNatClampNeg (dm_regs (dm_ip_ (m_pop L e).1 (m_pop L e).2) (4 : Int32).toNatClampNeg + 0)) (dm_ip_ (m_pop L e).1 (m_pop L e).2)) := by
    unfold m_goes
    simp only [bnd_app, m_kindAt, show ((33 : Int32) = 29) = False from eq_false (by decide), show ((33 : Int32) = 30) = False from eq_false (by decide), show ((33 : Int32) = 32) = False from eq_false (by decide), show ((33 : Int32) = 33) = True from eq_true rfl, show ((33 : Int32) = 34) = False from eq_false (by decide), if_true, if_false, if_t, if_f, Bool.false_eq_true]
  have em2 : m_pop L e = ((m_load L (dm_regs e (4 : Int32).toNatClampNeg) 8 e).1, dm_regs_ (vp_updL (dm_regs (m_load L (dm_regs e (4 : Int32).toNatClampNeg) 8 e).2) (4 : Int32).toNatClampNeg (dm_regs (m_load L (dm_regs e (4 : Int32).toNatClampNeg) 8 e).2 (4 : Int32).toNatClampNeg + 8)) (m_load L (dm_regs e (4 : Int32).toNatClampNeg) 8 e).2) := rfl
  obtain ⟨hi, hl, hr, hL, hf, ha⟩ := id hc
  have r4 : dx_r d (4 : Int32).toNatClampNeg = dm_regs e (4 : Int32).toNatClampNeg := hL.2.2.1 4 (by decide)
  have em3 : ∀ (x : Int64) (y : MD), (if kx_kinds K (0 : Int32).toNatClampNeg = 3 then dm_regs_ (vp_updL (dm_regs y) (4 : Int32).toNatClampNeg (x + kx_number K)) y else dm_regs_ (vp_updL (dm_regs y) (4 : Int32).toNatClampNeg (x + 0)) y) = dm_regs_ (vp_updL (dm_regs y) (4 : Int32).toNatClampNeg (x + (if kx_kinds K (0 : Int32).toNatClampNeg = 3 then kx_number K else 0))) y := by
    intro x y; split <;> rfl
  rw [ex, em, kind0 hi, ← hi.1.1.2.2.2, em3, em2, r4]
  rcases fetch_load hl hL.1.1 hL.2.1 (dm_regs e (4 : Int32).toNatClampNeg) 8 with ⟨a1, a2⟩ | ⟨a1, a2⟩
  · rw [a1, a2]
    generalize x_read K (dm_regs e (4 : Int32).toNatClampNeg) 8 d = v
    generalize (if kx_kinds K (0 : Int32).toNatClampNeg = 3 then kx_number K else 0) = m
    rw [if_pos hL.2.1]
    obtain ⟨⟨c1, c2, c3, c4, c5⟩, h2, h3, h4, h5⟩ := hL
    refine Or.inl ⟨⟨c1, c2, c3, c4, c5⟩, h2, fun i hi => ?_, rfl, h5⟩
    show vp_updL (dx_r d) (4 : Int32).toNatClampNeg (dx_r d (4 : Int32).toNatClampNeg + (8 + m)) i = vp_updL (vp_updL (dm_regs e) (4 : Int32).toNatClampNeg (dm_regs e (4 : Int32).toNatClampNeg + 8)) (4 : Int32).toNatClampNeg (vp_updL (dm_regs e) (4 : Int32).toNatClampNeg (dm_regs e (4 : Int32).toNatClampNeg + 8) (4 : Int32).toNatClampNeg + m) i
    rw [updL_at, updL_at, updL_at, updL_at, if_pos rfl, h3 i hi, r4]
    by_cases q : i = (4 : Int32).toNatClampNeg
    · rw [if_pos q, if_pos q]; grind
    · rw [if_neg q, if_neg q, if_neg q]
  · have hd := ctx_dead hc (dm_regs e (4 : Int32).toNatClampNeg) bad3
    rw [a1, a2, if_neg (dead_x hd)]
    exact Or.inr (dd_m hd rfl)
theorem op_34 {K : XK} {L : MK} {d0 d : XD} {e0 e : MD} (hc : Ctx K L d0 e0 d e) (sz : Int32) (h3 : kx_kinds K (0 : Int32).toNatClampNeg = 3) : RS d0 e0 (x_flow K 34 sz d) (m_goes L 34 e) := by
  have ex : x_flow K 34 sz d = (if (if dx_stop (x_target K d).2 = 0 then (if b2i (x_holds (kx_cond K) (x_target K d).2) = 0 then false else true) else false) = true then dx_next_ (x_target K d).1 (x_target K d).2 else (x_target K d).2) := by
    unfold x_flow
    simp only [bnd_app, show ((34 : Int32) = 29) = False from eq_false (by decide), show ((34 : Int32) = 30) = False from eq_false (by decide), show ((34 : Int32) = 31) = False from eq_false (by decide), show ((34 : Int32) = 32) = False from eq_false (by decide), show ((34 : Int32) = 33) = False from eq_false (by decide), show ((34 : Int32) = 34) = True from eq_true rfl, show ((34 : Int32) = 35) = False from eq_false (by decide), show ((34 : Int32) = 36) = False from eq_false (by decide), if_true, if_false, if_t, if_f, Bool.false_eq_true]
  have em : m_goes L 34 e = (if b2i (m_isMet (km_condition L) e) = 0 then dm_ip_ (dm_ip e + 0) e else dm_ip_ (dm_ip e + km_number L) e) := by
    unfold m_goes
    simp only [bnd_app, m_kindAt, show ((34 : Int32) = 29) = False from eq_false (by decide), show ((34 : Int32) = 30) = False from eq_false (by decide), show ((34 : Int32) = 32) = False from eq_false (by decide), show ((34 : Int32) = 33) = False from eq_false (by decide), show ((34 : Int32) = 34) = True from eq_true rfl, if_true, if_false, if_t, if_f, Bool.false_eq_true]
  have hL := hc.2.2.2.1
  have et : x_target K d = (dx_next d + kx_number K, d) := by unfold x_target; rw [if_pos h3]
  rw [ex, em, et, ← hc.1.1.1.2.2.2, ← hc.1.1.1.2.2.1, ← holds_met hL.2.2.2.2, if_pos hL.2.1, bb_0, ← hL.2.2.2.1]
  cases x_holds (kx_cond K) d
  · rw [if_neg (by decide), if_f]
    obtain ⟨⟨c1, c2, c3, c4, c5⟩, h2, h3, h4, h5⟩ := hL
    refine Or.inl ⟨⟨c1, c2, c3, c4, c5⟩, h2, h3, ?_, h5⟩
    show dx_next d = dx_next d + 0
    grind
  · rw [if_pos rfl, if_t]
    exact Or.inl (live_next hL _)
theorem op_35 {K : XK} {L : MK} {d0 d : XD} {e0 e : MD} (hc : Ctx K L d0 e0 d e) (sz : Int32) (h0 : K12 K 0) : RS d0 e0 (x_flow K 35 sz d) (if b2i (m_isMet (km_condition L) e) = 0 then m_put L 0 1 0 e else m_put L 0 1 1 e) := by
  have ex : x_flow K 35 sz d = (if b2i (x_holds (kx_cond K) d) = 0 then x_put K 0 1 0 d else x_put K 0 1 1 d) := by
    unfold x_flow
    simp only [bnd_app, show ((35 : Int32) = 29) = False from eq_false (by decide), show ((35 : Int32) = 30) = False from eq_false (by decide), show ((35 : Int32) = 31) = False from eq_false (by decide), show ((35 : Int32) = 32) = False from eq_false (by decide), show ((35 : Int32) = 33) = False from eq_false (by decide), show ((35 : Int32) = 34) = False from eq_false (by decide), show ((35 : Int32) = 35) = True from eq_true rfl, show ((35 : Int32) = 36) = False from eq_false (by decide), if_true, if_false, if_t, if_f, Bool.false_eq_true]
  rw [ex, ← hc.1.1.1.2.2.1, ← holds_met hc.2.2.2.1.2.2.2.2]
  split
  · exact put_put hc v3_0 s1 h0 rfl
  · exact put_put hc v3_0 s1 h0 rfl
theorem take_reg {K : XK} {L : MK} (hi : RIn K L) {k sz : Int32} {d : XD} {e : MD} (hk : vp_in k 3) (k1 : kx_kinds K k.toNatClampNeg = 1) : (x_get K k sz d).2 = d ∧ (m_take L k sz e).2 = e := by
  unfold x_get m_take m_kindAt
  simp only [bnd_app]
  rw [← hi.2.1 _ (vp_lt hk), if_neg (by rw [k1]; decide), if_pos k1, if_pos k1]
  exact ⟨rfl, rfl⟩
theorem op_36 {K : XK} {L : MK} {d0 d : XD} {e0 e : MD} (hc : Ctx K L d0 e0 d e) {sz : Int32} (hs : SZ sz) (k1 : kx_kinds K (0 : Int32).toNatClampNeg = 1) : RS d0 e0 (x_flow K 36 sz d) (m_choose L sz e) := by
  have ex : x_flow K 36 sz d = (if b2i (x_holds (kx_cond K) (x_get K 1 sz d).2) = 0 then x_put K 0 sz (x_get K 0 sz (x_get K 1 sz d).2).1 (x_get K 0 sz (x_get K 1 sz d).2).2 else x_put K 0 sz (x_get K 1 sz d).1 (x_get K 1 sz d).2) := by
    unfold x_flow
    simp only [bnd_app, show ((36 : Int32) = 29) = False from eq_false (by decide), show ((36 : Int32) = 30) = False from eq_false (by decide), show ((36 : Int32) = 31) = False from eq_false (by decide), show ((36 : Int32) = 32) = False from eq_false (by decide), show ((36 : Int32) = 33) = False from eq_false (by decide), show ((36 : Int32) = 34) = False from eq_false (by decide), show ((36 : Int32) = 35) = False from eq_false (by decide), show ((36 : Int32) = 36) = True from eq_true rfl, if_true, if_false, if_t, if_f, Bool.false_eq_true]
  have em : m_choose L sz e = (if b2i (m_isMet (km_condition L) (m_take L 0 sz (m_take L 1 sz e).2).2) = 0 then m_put L 0 sz (m_take L 0 sz (m_take L 1 sz e).2).1 (m_take L 0 sz (m_take L 1 sz e).2).2 else m_put L 0 sz (m_take L 1 sz e).1 (m_take L 0 sz (m_take L 1 sz e).2).2) := rfl
  rw [ex, em]
  rcases get_take hc v3_1 hs with ⟨v, c, a1, a2⟩ | ⟨a, a1, a2⟩
  · rw [a1, a2]
    rcases get_take hc v3_0 hs with ⟨w, c', b1, b2⟩ | ⟨a, b1, b2⟩
    · simp only [b1, b2]
      rw [← hc.1.1.1.2.2.1, ← holds_met hc.2.2.2.1.2.2.2.2]
      split
      · exact put_put hc v3_0 hs (Or.inl k1) rfl
      · exact put_put hc v3_0 hs (Or.inl k1) rfl
    · have := (take_reg hc.1 (sz := sz) (d := d) (e := e) v3_0 k1).2
      rw [b2] at this
      have hd := ctx_dead hc a bad3
      exact absurd (show dm_halt (m_stopWith 3 a e) = 0 by rw [show m_stopWith 3 a e = e from this]; exact live_m hc.2.2.2.1) (dead_m hd)
  · have hd := ctx_dead hc a bad3
    rw [a1, a2]
    have h1 := (take_reg hc.1 (sz := sz) (d := x_fail 3 a d) (e := m_stopWith 3 a e) v3_0 k1)
    rw [h1.1, h1.2]
    refine Or.inr (dead_same ?_ ?_ hd)
    · split <;> rw [xd_put (dead_x hd)]
    · split <;> exact md_put (dead_m hd)
