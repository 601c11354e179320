/-! ===== op 49, 50 to 53 ===== -/
theorem sub_zero {e : MD} {x y : Int64} {sz : Int32} (h : SZ sz) (hx : x_cut x sz = x) (hy : x_cut y sz = y) : dm_zero (m_subtract x y false sz e).2 = (if x = y then true else false) := by
  unfold m_subtract
  simp only [bnd_app]
  rw [zsp_eq]
  show (if x_cut (m_cut (x - y - (if b2i false = 0 then (0 : Int64) else 1)) sz) sz = 0 then true else false) = _
  rw [cut_eq, cut_cut _ h, if_f]
  have ux := congrArg uN hx
  have uy := congrArg uN hy
  rw [uN_cut _ h] at ux uy
  have hp : 0 < pw sz := by rcases pw_cases h with q | q | q <;> rw [q.2] <;> decide
  have lx : uN x < pw sz := by rw [← ux]; exact Nat.mod_lt _ hp
  have ly : uN y < pw sz := by rw [← uy]; exact Nat.mod_lt _ hp
  have lx2 := uN_lt x
  have ly2 := uN_lt y
  have u0 : uN 0 = 0 := rfl
  have e1 : uN (x_cut (x - y - 0) sz) = (18446744073709551616 - uN y + uN x) % pw sz := by
    rw [uN_cut _ h, uN_sub, uN_sub, u0]
    rcases pw_cases h with q | q | q <;> rw [q.2] <;> omega
  by_cases z : x = y
  · subst z
    rw [if_pos rfl, if_pos]
    apply uN_inj
    rw [e1, u0]
    rcases pw_cases h with q | q | q <;> rw [q.2] <;> omega
  · rw [if_neg z, if_neg]
    intro w
    have := congrArg uN w
    rw [e1, u0] at this
    apply z
    apply uN_inj
    rcases pw_cases h with q | q | q <;> rw [q.2] at this lx ly <;> omega
theorem op_49 {K : XK} {L : MK} {d0 d : XD} {e0 e : MD} (hc : Ctx K L d0 e0 d e) {sz : Int32} (hs : SZ sz) (h0 : K12 K 0) : RS d0 e0 (x_compareExchange K sz d) (m_together L 49 sz e) := by
  have r0 : dm_regs e (0 : Int32).toNatClampNeg = dx_r d (0 : Int32).toNatClampNeg := (hc.2.2.2.1.2.2.1 0 (by decide)).symm
  unfold x_compareExchange m_together
  simp only [bnd_app, show ((49 : Int32) = 48) = False from eq_false (by decide), if_false, cut_eq]
  have dm : ∀ (e1 : MD) (x y u w : Int64), ¬ dm_halt e1 = 0 → mfix (if x = y then m_put L 0 sz u (m_subtract x y false sz e1).2 else m_setRegister 0 sz w (m_subtract x y false sz e1).2) = mfix e1 := by
    intro e1 x y u w h1
    have hs1 := mf_sub x y false sz e1
    exact mf_ite ((md_put (mf_nz hs1 h1)).trans hs1) ((mf_reg _ _ _ _).trans hs1)
  rcases get_take hc v3_0 hs with ⟨v, c, a1, a2⟩ | ⟨a, a1, a2⟩
  · rcases get_take hc v3_1 hs with ⟨w, c', b1, b2⟩ | ⟨a, b1, b2⟩
    · simp only [a1, a2, b1, b2]
      rw [if_pos hc.2.2.2.1.2.1, r0]
      have hx := cut_cut (dx_r d (0 : Int32).toNatClampNeg) hs
      generalize x_cut (dx_r d (0 : Int32).toNatClampNeg) sz = x at *
      obtain ⟨q1, q2⟩ := diff_sub hc.2.2.2.1.2.2.2.2 (c := false) hs hx c
      have hc2 := ctx_fo hc q2
      have hz := sub_zero (e := e) hs hx c
      rw [is_z hc2.2.2.2.1.2.2.2.2, hz]
      by_cases z : x = v
      · rw [if_pos z, if_t, if_pos z]
        exact put_put hc2 v3_0 hs h0 rfl
      · rw [if_neg z, if_f, if_neg z]
        exact Or.inl (setreg hc2.2.2.2.1 hs rfl (by decide)).1
    · have hd := ctx_dead hc a bad3
      simp only [a1, a2, b1, b2]
      rw [if_neg (dead_x hd)]
      exact Or.inr (dd_m hd (dm _ _ _ _ _ (dead_m hd)))
  · have hd := ctx_dead hc a bad3
    simp only [a1, a2]
    rw [xd_get (dead_x hd), if_neg (dead_x hd), md_take (dead_m hd)]
    exact Or.inr (dd_m hd (dm _ _ _ _ _ (dead_m hd)))
/-! strings -/
theorem str_store {K : XK} {L : MK} {d0 d : XD} {e0 e : MD} (hl : RLay K L) (h : Live d0 e0 d e) {sz : Int32} (hs : SZ sz) (a v v' : Int64) (hv : x_cut v sz = x_cut v' sz) :
    (∃ b f g k, x_store K a sz v d = dx_bytes_ b d ∧ m_store L a sz v' e = mmem f g k e ∧ Live d0 e0 (dx_bytes_ b d) (mmem f g k e)) ∨ (x_store K a sz v d = x_fail 3 a d ∧ m_store L a sz v' e = m_stopWith 3 a e) := by
  rcases store_store hl h.1.1 h.2.1 (live_m h) a v v' sz (beq_cut hs hv) with ⟨b, f, g, k, a1, a2, a3⟩ | q
  · refine Or.inl ⟨b, f, g, k, a1, a2, ?_⟩
    obtain ⟨⟨c1, c2, c3, c4, c5⟩, h2, h3, h4, h5⟩ := h
    exact ⟨⟨a3, c2, c3, c4, c5⟩, h2, h3, h4, h5⟩
  · exact Or.inr q
theorem req_swap {f g : Nat → Int64} (h : REq f g) (i j : Nat) (hij : ¬ i = j) (u v u' v' : Int64) (hu : u = u') (hv : v = v') : REq (vp_updL (vp_updL f i u) j v) (vp_updL (vp_updL g j v') i u') := by
  intro k hk
  rw [updL_at, updL_at, updL_at, updL_at, h k hk, hu, hv]
  by_cases q1 : k = j
  · rw [if_pos q1, if_neg (fun w => hij (w.symm.trans q1)), if_pos q1]
  · rw [if_neg q1, if_neg q1]
theorem xb_r (b : Nat → Int32) (d : XD) : dx_r (dx_bytes_ b d) = dx_r d := rfl
theorem xb_ip (b : Nat → Int32) (d : XD) : dx_ip (dx_bytes_ b d) = dx_ip d := rfl
theorem xr_ip (f : Nat → Int64) (d : XD) : dx_ip (dx_r_ f d) = dx_ip d := rfl
theorem mm_r (f g h : Nat → Int32) (e : MD) : dm_regs (mmem f g h e) = dm_regs e := rfl
theorem mm_ip (f g h : Nat → Int32) (e : MD) : dm_ip (mmem f g h e) = dm_ip e := rfl
theorem mm_len (f g h : Nat → Int32) (e : MD) : dm_length (mmem f g h e) = dm_length e := rfl
theorem mr_ip (f : Nat → Int64) (e : MD) : dm_ip (dm_regs_ f e) = dm_ip e := rfl
theorem mr_len (f : Nat → Int64) (e : MD) : dm_length (dm_regs_ f e) = dm_length e := rfl
theorem updL_ne {f : Nat → Int64} {k j : Nat} {x : Int64} (h : ¬ j = k) : vp_updL f k x j = f j := by rw [updL_at, if_neg h]
theorem updL_eq (f : Nat → Int64) (k : Nat) (x : Int64) : vp_updL f k x k = x := by rw [updL_at, if_pos rfl]
set_option maxHeartbeats 1000000 in
theorem str_tail {K : XK} {L : MK} {d0 d : XD} {e0 e : MD} (hc : Ctx K L d0 e0 d e) {sz : Int32} (hs : SZ sz) (hnx : dx_next d = dx_ip d + (dm_length e).toInt64) (rep cop : Bool) (v v' : Int64) (hv : x_cut v sz = x_cut v' sz) (D : XD) (E : MD) (hD : D = x_store K (dx_r d (7 : Int32).toNatClampNeg) sz v d) (hE : E = m_store L (dm_regs e (7 : Int32).toNatClampNeg) sz v' e) (D7 D8 D10 : XD) (h7 : D7 = dx_r_ (vp_updL (dx_r D) (7 : Int32).toNatClampNeg (dx_r D (7 : Int32).toNatClampNeg + sz.toInt64)) D) (h8 : D8 = (if b2i cop = 0 then D7 else dx_r_ (vp_updL (dx_r D7) (6 : Int32).toNatClampNeg (dx_r D7 (6 : Int32).toNatClampNeg + sz.toInt64)) D7)) (h10 : D10 = (if b2i rep = 0 then D8 else dx_r_ (vp_updL (dx_r D8) (1 : Int32).toNatClampNeg (dx_r D8 (1 : Int32).toNatClampNeg - 1)) D8))
    (E7 E9 E10 : MD) (g7 : E7 = (if b2i cop = 0 then E else dm_regs_ (vp_updL (dm_regs E) (6 : Int32).toNatClampNeg (dm_regs E (6 : Int32).toNatClampNeg + sz.toInt64)) E)) (g9 : E9 = dm_regs_ (vp_updL (dm_regs E7) (7 : Int32).toNatClampNeg (dm_regs E7 (7 : Int32).toNatClampNeg + sz.toInt64)) E7) (g10 : E10 = dm_regs_ (vp_updL (dm_regs E9) (1 : Int32).toNatClampNeg (dm_regs E9 (1 : Int32).toNatClampNeg - 1)) E9) :
    RS d0 e0 (if dx_stop D = 0 then (if b2i rep = 0 then D10 else (if dx_r D10 (1 : Int32).toNatClampNeg = 0 then D10 else dx_next_ (dx_ip D10) D10)) else D) (if b2i rep = 0 then E9 else (if dm_regs E10 (1 : Int32).toNatClampNeg = 0 then E10 else dm_ip_ (dm_ip E10 - (dm_length E10).toInt64) E10)) := by
  have hL := hc.2.2.2.1
  have r7 : dm_regs e (7 : Int32).toNatClampNeg = dx_r d (7 : Int32).toNatClampNeg := (hL.2.2.1 7 (by decide)).symm
  have r6 : dm_regs e (6 : Int32).toNatClampNeg = dx_r d (6 : Int32).toNatClampNeg := (hL.2.2.1 6 (by decide)).symm
  have r1 : dm_regs e (1 : Int32).toNatClampNeg = dx_r d (1 : Int32).toNatClampNeg := (hL.2.2.1 1 (by decide)).symm
  have n67 : ¬ (6 : Int32).toNatClampNeg = (7 : Int32).toNatClampNeg := by decide
  have n76 : ¬ (7 : Int32).toNatClampNeg = (6 : Int32).toNatClampNeg := by decide
  have n17 : ¬ (1 : Int32).toNatClampNeg = (7 : Int32).toNatClampNeg := by decide
  have n16 : ¬ (1 : Int32).toNatClampNeg = (6 : Int32).toNatClampNeg := by decide
  rw [r7] at hE
  rcases str_store hc.2.1 hL hs (dx_r d (7 : Int32).toNatClampNeg) v v' hv with ⟨b, f, g, k, a1, a2, a3⟩ | ⟨a1, a2⟩
  · rw [a1] at hD
    rw [a2] at hE
    subst hD; subst hE
    rw [if_pos a3.2.1]
    have back : ∀ x : Int64, dm_ip e - (dm_length e).toInt64 = dx_ip d := by
      intro _
      rw [← hL.2.2.2.1, hnx]; grind
    have goon : ∀ (F G : Nat → Int64), REq F G → F (1 : Int32).toNatClampNeg = G (1 : Int32).toNatClampNeg → RS d0 e0 (if F (1 : Int32).toNatClampNeg = 0 then dx_r_ F (dx_bytes_ b d) else dx_next_ (dx_ip d) (dx_r_ F (dx_bytes_ b d))) (if G (1 : Int32).toNatClampNeg = 0 then dm_regs_ G (mmem f g k e) else dm_ip_ (dm_ip e - (dm_length e).toInt64) (dm_regs_ G (mmem f g k e))) := by
      intro F G hFG h1
      rw [h1, back 0]
      split
      · exact Or.inl (live_r a3 hFG)
      · exact Or.inl (live_next (live_r a3 hFG) _)
    cases rep
    · cases cop
      · simp only [if_f] at *
        subst h7; subst h8; subst h10; subst g7; subst g9
        exact Or.inl (live_r a3 (req_up a3.2.2.1 (by rw [xb_r, mm_r, r7]) _))
      · simp only [if_f, if_t] at *
        subst h7; subst h8; subst h10; subst g7; subst g9
        simp only [xrr, xr_, mrr, mr_, xb_r, mm_r, updL_ne n67, updL_ne n76]
        exact Or.inl (live_r a3 (req_swap hL.2.2.1 _ _ n76 _ _ _ _ (by rw [r7]) (by rw [r6])))
    · cases cop
      · simp only [if_f, if_t] at *
        subst h7; subst h8; subst h10; subst g7; subst g9; subst g10
        simp only [xrr, xr_, mrr, mr_, xb_r, mm_r, xr_ip, xb_ip, mr_ip, mm_ip, mr_len, mm_len]
        exact goon _ _ (req_up (req_up hL.2.2.1 (by rw [r7]) _) (by rw [updL_ne n17, updL_ne n17, r1]) _) (by rw [updL_eq, updL_eq, updL_ne n17, updL_ne n17, r1])
      · simp only [if_f, if_t] at *
        subst h7; subst h8; subst h10; subst g7; subst g9; subst g10
        simp only [xrr, xr_, mrr, mr_, xb_r, mm_r, xr_ip, xb_ip, mr_ip, mm_ip, mr_len, mm_len, updL_ne n67, updL_ne n76]
        exact goon _ _ (req_up (req_swap hL.2.2.1 _ _ n76 _ _ _ _ (by rw [r7]) (by rw [r6])) (by rw [updL_ne n16, updL_ne n17, updL_ne n17, updL_ne n16, r1]) _) (by rw [updL_eq, updL_eq, updL_ne n16, updL_ne n17, updL_ne n17, updL_ne n16, r1])
  · have hd := ctx_dead hc (dx_r d (7 : Int32).toNatClampNeg) bad3
    rw [a1] at hD
    rw [a2] at hE
    subst hD; subst hE
    rw [if_neg (dead_x hd)]
    have m7 : mfix E7 = mfix (m_stopWith 3 (dx_r d (7 : Int32).toNatClampNeg) e) := by rw [g7]; exact mf_ite rfl (mf_regs _ _)
    have m9 : mfix E9 = mfix (m_stopWith 3 (dx_r d (7 : Int32).toNatClampNeg) e) := by rw [g9, mf_regs]; exact m7
    have m10 : mfix E10 = mfix (m_stopWith 3 (dx_r d (7 : Int32).toNatClampNeg) e) := by rw [g10, mf_regs]; exact m9
    exact Or.inr (dd_m hd (mf_ite m9 (mf_ite m10 ((mf_ip _ _).trans m10))))
theorem op_str {K : XK} {L : MK} {d0 d : XD} {e0 e : MD} (hc : Ctx K L d0 e0 d e) {o sz : Int32} (hs : SZ sz) (hnx : dx_next d = dx_ip d + (dm_length e).toInt64) : RS d0 e0 (x_string K o sz d) (m_strings L o sz e) := by
  have hL := hc.2.2.2.1
  have r1 : dm_regs e (1 : Int32).toNatClampNeg = dx_r d (1 : Int32).toNatClampNeg := (hL.2.2.1 1 (by decide)).symm
  have r6 : dm_regs e (6 : Int32).toNatClampNeg = dx_r d (6 : Int32).toNatClampNeg := (hL.2.2.1 6 (by decide)).symm
  have r0 : dm_regs e (0 : Int32).toNatClampNeg = dx_r d (0 : Int32).toNatClampNeg := (hL.2.2.1 0 (by decide)).symm
  unfold x_string m_strings
  simp only [bnd_app, cut_eq]
  rw [r1, r6, r0]
  generalize (if o ≤ (51 : Int32) then false else true) = rep
  generalize (if o = (50 : Int32) then true else (if o = (52 : Int32) then true else false)) = cop
  generalize (if b2i rep = 0 then false else (if dx_r d (1 : Int32).toNatClampNeg = 0 then true else false)) = stp
  cases stp
  · rw [if_neg (show ¬ false = true by decide), if_neg (show ¬ false = true by decide)]
    cases cop
    · rw [if_f, if_f]
      exact str_tail hc hs hnx rep false _ _ (cut_cut _ hs).symm _ _ rfl rfl _ _ _ rfl rfl rfl _ _ _ rfl rfl rfl
    · rw [if_t, if_t]
      rcases fetch_load hc.2.1 hL.1.1 hL.2.1 (dx_r d (6 : Int32).toNatClampNeg) sz with ⟨a1, a2⟩ | ⟨a1, a2⟩
      · rw [a1, a2]
        exact str_tail hc hs hnx rep true _ _ rfl _ _ rfl rfl _ _ _ rfl rfl rfl _ _ _ rfl rfl rfl
      · have hd := ctx_dead hc (dx_r d (6 : Int32).toNatClampNeg) bad3
        rw [a1, a2]
        simp only [if_t]
        rw [xd_store (dead_x hd), if_neg (dead_x hd), md_store (dead_m hd)]
        refine Or.inr (dd_m hd ?_)
        exact mf_ite ((mf_regs _ _).trans (mf_regs _ _)) (mf_ite ((mf_regs _ _).trans ((mf_regs _ _).trans (mf_regs _ _))) ((mf_ip _ _).trans ((mf_regs _ _).trans ((mf_regs _ _).trans (mf_regs _ _)))))
  · rw [if_pos rfl, if_pos rfl]
    exact Or.inl hL
