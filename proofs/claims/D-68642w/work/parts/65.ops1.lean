/-! ===== operands: taken and put on both sides ===== -/
def RIn (K : XK) (L : MK) : Prop := ((kx_op K = km_op L ∧ kx_size K = km_width L ∧ kx_cond K = km_condition L ∧ kx_number K = km_number L) ∧ kx_base K = km_base L ∧ kx_index K = km_index L ∧ kx_scale K = km_scale L ∧ kx_disp K = km_displacement L) ∧ (∀ i, i < 3 → kx_kinds K i = km_kinds L i) ∧ (∀ i, i < 3 → kx_regs K i = km_places L i)
theorem vp_lt {k : Int32} {n : Nat} (h : vp_in k n) : k.toNatClampNeg < n := Nat.lt_of_not_le (fun q => h (Or.inr q))
/-- what holds while a step's operands are taken: nothing is written yet -/
def Ctx (K : XK) (L : MK) (d0 : XD) (e0 : MD) (d : XD) (e : MD) : Prop := RIn K L ∧ RLay K L ∧ XReg K ∧ Live d0 e0 d e ∧ Fr d e ∧ ∀ k : Int32, vp_in k 3 → kx_kinds K k.toNatClampNeg = 2 → x_address K d = dm_operandAt e
theorem live_fo {d0 d d' : XD} {e0 e e' : MD} (h : Live d0 e0 d e) (hf : FO d e d' e') : Live d0 e0 d' e' := by
  obtain ⟨c, p, z, n, o, rfl, rfl⟩ := hf
  obtain ⟨h1, h2, h3, h4, h5⟩ := h
  exact ⟨h1, h2, h3, h4, rfl⟩
theorem ctx_fo {K : XK} {L : MK} {d0 d d' : XD} {e0 e e' : MD} (h : Ctx K L d0 e0 d e) (hf : FO d e d' e') : Ctx K L d0 e0 d' e' := by
  have hl := live_fo h.2.2.2.1 hf
  obtain ⟨c, p, z, n, o, rfl, rfl⟩ := hf
  obtain ⟨h1, h2, h3, h4, h5, h6⟩ := h
  exact ⟨h1, h2, h3, hl, h5, h6⟩
theorem fo_trans {d d1 d2 : XD} {e e1 e2 : MD} (h : FO d e d1 e1) (h2 : FO d1 e1 d2 e2) : FO d e d2 e2 := by
  obtain ⟨c, p, z, n, o, rfl, rfl⟩ := h
  obtain ⟨c, p, z, n, o, rfl, rfl⟩ := h2
  exact ⟨c, p, z, n, o, rfl, rfl⟩
theorem ctx_dead {K : XK} {L : MK} {d0 d : XD} {e0 e : MD} (h : Ctx K L d0 e0 d e) (a : Int64) {k : Int32} (hk : Bad k) : Dead d0 e0 (x_fail k a d) (m_stopWith k a e) := fail_dead h.2.2.2.1 h.2.2.2.2.1 hk
theorem bad3 : Bad 3 := Or.inr (Or.inl rfl)
theorem bad5 : Bad 5 := Or.inr (Or.inr rfl)
theorem bad2 : Bad 2 := Or.inl rfl
theorem get_take {K : XK} {L : MK} {d0 d : XD} {e0 e : MD} (hc : Ctx K L d0 e0 d e) {k sz : Int32} (hk : vp_in k 3) (hs : SZ sz) :
    (∃ v, x_cut v sz = v ∧ x_get K k sz d = (v, d) ∧ m_take L k sz e = (v, e)) ∨ (∃ a, x_get K k sz d = (0, x_fail 3 a d) ∧ m_take L k sz e = (0, m_stopWith 3 a e)) := by
  obtain ⟨hi, hl, hr, hv, hf, ha⟩ := hc
  have lt := vp_lt hk
  have ek := hi.2.1 _ lt
  have er := hi.2.2 _ lt
  have en := hi.1.1.2.2.2
  unfold x_get m_take m_kindAt m_registerAt
  simp only [bnd_app]
  rw [← ek, ← er, ← en]
  by_cases k2 : kx_kinds K k.toNatClampNeg = 2
  · rw [if_pos k2, if_neg (by rw [k2]; decide), if_pos k2, ha k hk k2]
    rcases fetch_load hl hv.1.1 hv.2.1 (dm_operandAt e) sz with ⟨a1, a2⟩ | ⟨a1, a2⟩
    · rw [a1, a2]; exact Or.inl ⟨_, read_cut hs, rfl, rfl⟩
    · rw [a1, a2]; exact Or.inr ⟨_, rfl, rfl⟩
  · rw [if_neg k2]
    by_cases k1 : kx_kinds K k.toNatClampNeg = 1
    · rw [if_pos k1, if_pos k1]
      refine Or.inl ⟨_, cut_cut _ hs, rfl, ?_⟩
      rw [hv.2.2.1 _ (vp_lt (hr k hk)), cut_eq]
    · rw [if_neg k1, if_neg k1, if_neg k2]
      exact Or.inl ⟨_, cut_cut _ hs, rfl, rfl⟩
theorem setreg {d0 d : XD} {e0 e : MD} (h : Live d0 e0 d e) {k sz : Int32} {v v' : Int64} (hs : SZ sz) (hv : x_cut v sz = x_cut v' sz) (hk : k.toNatClampNeg < 16) : Live d0 e0 (x_setRegister k sz v d) (m_setRegister k sz v' e) ∧ x_setRegister k sz v d = dx_r_ (dx_r (x_setRegister k sz v d)) d ∧ m_setRegister k sz v' e = dm_regs_ (dm_regs (m_setRegister k sz v' e)) e := by
  obtain ⟨⟨c1, c2, c3, c4, c5⟩, h2, h3, h4, h5⟩ := h
  rcases hs with h | h | h <;> subst h
  · refine ⟨⟨⟨c1, c2, c3, c4, c5⟩, h2, fun i hi => ?_, h4, h5⟩, rfl, rfl⟩
    have hv : v &&& 255 = v' &&& 255 := hv
    show vp_updL (dx_r d) k.toNatClampNeg ((dx_r d k.toNatClampNeg &&& (-256)) ||| (v &&& 255)) i = vp_updL (dm_regs e) k.toNatClampNeg ((dm_regs e k.toNatClampNeg &&& (-256)) ||| (v' &&& 255)) i
    rw [updL_at, updL_at, h3 i hi, h3 _ hk, hv]
  · refine ⟨⟨⟨c1, c2, c3, c4, c5⟩, h2, fun i hi => ?_, h4, h5⟩, rfl, rfl⟩
    have hv : v &&& 4294967295 = v' &&& 4294967295 := hv
    show vp_updL (dx_r d) k.toNatClampNeg (v &&& 4294967295) i = vp_updL (dm_regs e) k.toNatClampNeg (v' &&& 4294967295) i
    rw [updL_at, updL_at, h3 i hi, hv]
  · refine ⟨⟨⟨c1, c2, c3, c4, c5⟩, h2, fun i hi => ?_, h4, h5⟩, rfl, rfl⟩
    have hv : v = v' := hv
    show vp_updL (dx_r d) k.toNatClampNeg v i = vp_updL (dm_regs e) k.toNatClampNeg v' i
    rw [updL_at, updL_at, h3 i hi, hv]
theorem put_reg {K : XK} {L : MK} {d0 d : XD} {e0 e : MD} (hi : RIn K L) (hr : XReg K) (h : Live d0 e0 d e) {k sz : Int32} {v v' : Int64} (hk : vp_in k 3) (hs : SZ sz) (k1 : kx_kinds K k.toNatClampNeg = 1) (hv : x_cut v sz = x_cut v' sz) : Live d0 e0 (x_put K k sz v d) (m_put L k sz v' e) := by
  have lt := vp_lt hk
  have ek := hi.2.1 _ lt
  have er := hi.2.2 _ lt
  unfold x_put m_put m_kindAt m_registerAt
  simp only [bnd_app]
  rw [← ek, ← er, if_neg (by rw [k1]; decide), if_pos h.2.1, if_pos k1]
  exact (setreg h hs hv (vp_lt (hr k hk))).1
theorem put_mem {K : XK} {L : MK} {d0 d : XD} {e0 e : MD} (hc : Ctx K L d0 e0 d e) {k sz : Int32} {v v' : Int64} (hk : vp_in k 3) (hs : SZ sz) (k2 : kx_kinds K k.toNatClampNeg = 2) (hv : x_cut v sz = x_cut v' sz) :
    (∃ b f g h, x_put K k sz v d = dx_bytes_ b d ∧ m_put L k sz v' e = mmem f g h e ∧ Live d0 e0 (dx_bytes_ b d) (mmem f g h e)) ∨ (∃ a, x_put K k sz v d = x_fail 3 a d ∧ m_put L k sz v' e = m_stopWith 3 a e) := by
  obtain ⟨hi, hl, hr, hL, hf, ha⟩ := hc
  have lt := vp_lt hk
  have ek := hi.2.1 _ lt
  unfold x_put m_put m_kindAt
  simp only [bnd_app]
  rw [← ek, if_pos k2, if_neg (by rw [k2]; decide), ha k hk k2]
  rcases store_store hl hL.1.1 hL.2.1 (live_m hL) (dm_operandAt e) v v' sz (beq_cut hs hv) with ⟨b, f, g, h, a1, a2, a3⟩ | ⟨a1, a2⟩
  · refine Or.inl ⟨b, f, g, h, a1, a2, ?_⟩
    obtain ⟨⟨c1, c2, c3, c4, c5⟩, h2, h3, h4, h5⟩ := hL
    exact ⟨⟨a3, c2, c3, c4, c5⟩, h2, h3, h4, h5⟩
  · exact Or.inr ⟨_, a1, a2⟩
theorem put_put {K : XK} {L : MK} {d0 d : XD} {e0 e : MD} (hc : Ctx K L d0 e0 d e) {k sz : Int32} {v v' : Int64} (hk : vp_in k 3) (hs : SZ sz) (hk2 : kx_kinds K k.toNatClampNeg = 1 ∨ kx_kinds K k.toNatClampNeg = 2) (hv : x_cut v sz = x_cut v' sz) : RS d0 e0 (x_put K k sz v d) (m_put L k sz v' e) := by
  rcases hk2 with k1 | k2
  · exact Or.inl (put_reg hc.1 hc.2.2.1 hc.2.2.2.1 hk hs k1 hv)
  · rcases put_mem hc hk hs k2 hv with ⟨b, f, g, h, a1, a2, a3⟩ | ⟨a, a1, a2⟩
    · rw [a1, a2]; exact Or.inl a3
    · rw [a1, a2]; exact Or.inr (ctx_dead hc a bad3)
/-! behind a stop -/
theorem dd_put {K : XK} {L : MK} {d0 d : XD} {e0 e : MD} (h : Dead d0 e0 d e) (k k' sz sz' : Int32) (v v' : Int64) : Dead d0 e0 (x_put K k sz v d) (m_put L k' sz' v' e) := dead_same (by rw [xd_put (dead_x h)]) (md_put (dead_m h)) h
theorem dd_get {K : XK} {L : MK} {d0 d : XD} {e0 e : MD} (h : Dead d0 e0 d e) (k k' sz sz' : Int32) : Dead d0 e0 (x_get K k sz d).2 (m_take L k' sz' e).2 := by
  rw [xd_get (dead_x h), md_take (dead_m h)]; exact h
theorem dd_x {d0 d d' : XD} {e0 e : MD} (h : Dead d0 e0 d e) (hx : xfix d' = xfix d) : Dead d0 e0 d' e := dead_same hx rfl h
theorem dd_m {d0 d : XD} {e0 e e' : MD} (h : Dead d0 e0 d e) (hm : mfix e' = mfix e) : Dead d0 e0 d e' := dead_same rfl hm h
/-! ===== op 0 to 7: arithmetic ===== -/
def xar (o sz : Int32) (x y : Int64) (d : XD) : Int64 × XD := if o = 0 ∨ o = 2 then x_sum x y (decide (o = 2) && x_is 1 d) sz d else if o = 3 ∨ o = 5 ∨ o = 7 then x_difference x y (decide (o = 3) && x_is 1 d) sz d else x_logic o x y sz d
def mar (o sz : Int32) (x y : Int64) (e : MD) : Int64 × MD := if o = 0 ∨ o = 2 then m_add x y (decide (o = 2) && dm_carry e) sz e else if o = 3 ∨ o = 5 ∨ o = 7 then m_subtract x y (decide (o = 3) && dm_carry e) sz e else ((if o = 1 then x ||| y else if o = 6 then x ^^^ y else x &&& y), m_zsp (if o = 1 then x ||| y else if o = 6 then x ^^^ y else x &&& y) sz (dm_over_ false (dm_carry_ false e)))
theorem pair_if {α β : Type} (b : Bool) (f : Bool → α × β) : (if b = true then ((f true).1, (f true).2) else ((f false).1, (f false).2)) = f b := by cases b <;> rfl
theorem bb_0 (b : Bool) : (if b2i b = 0 then false else true) = b := by cases b <;> rfl
theorem xar_eq (K : XK) (o sz : Int32) (d : XD) : x_arithmetic K o sz d = (if o = 7 then (xar o sz (x_get K 0 sz d).1 (x_get K 1 sz (x_get K 0 sz d).2).1 (x_get K 1 sz (x_get K 0 sz d).2).2).2 else x_put K 0 sz (xar o sz (x_get K 0 sz d).1 (x_get K 1 sz (x_get K 0 sz d).2).1 (x_get K 1 sz (x_get K 0 sz d).2).2).1 (xar o sz (x_get K 0 sz d).1 (x_get K 1 sz (x_get K 0 sz d).2).1 (x_get K 1 sz (x_get K 0 sz d).2).2).2) := by
  unfold x_arithmetic
  simp only [bnd_app]
  generalize x_get K 0 sz d = g1
  generalize x_get K 1 sz g1.2 = g2
  have e : (if (if o = 0 then true else (if o = (2 : Int32) then true else false)) = true then (if (if o = (2 : Int32) then (if b2i (x_is 1 g2.2) = 0 then false else true) else false) = true then ((x_sum g1.1 g2.1 true sz g2.2).1, (x_sum g1.1 g2.1 true sz g2.2).2) else ((x_sum g1.1 g2.1 false sz g2.2).1, (x_sum g1.1 g2.1 false sz g2.2).2)) else (if (if o = (3 : Int32) then true else (if o = (5 : Int32) then true else (if o = (7 : Int32) then true else false))) = true then (if (if o = (3 : Int32) then (if b2i (x_is 1 g2.2) = 0 then false else true) else false) = true then ((x_difference g1.1 g2.1 true sz g2.2).1, (x_difference g1.1 g2.1 true sz g2.2).2) else ((x_difference g1.1 g2.1 false sz g2.2).1, (x_difference g1.1 g2.1 false sz g2.2).2)) else ((x_logic o g1.1 g2.1 sz g2.2).1, (x_logic o g1.1 g2.1 sz g2.2).2))) = xar o sz g1.1 g2.1 g2.2 := by
    unfold xar
    by_cases h0 : o = 0
    · subst h0; rfl
    · by_cases h2 : o = 2
      · subst h2; generalize x_is 1 g2.2 = b; cases b <;> rfl
      · by_cases h3 : o = 3
        · subst h3; generalize x_is 1 g2.2 = b; cases b <;> rfl
        · by_cases h5 : o = 5
          · subst h5; rfl
          · by_cases h7 : o = 7
            · subst h7; rfl
            · simp [h0, h2, h3, h5, h7]
  rw [e]
theorem mar_eq (L : MK) (o sz : Int32) (e : MD) : m_arithmetic L o sz e = (if o = 7 then (mar o sz (m_take L 0 sz e).1 (m_take L 1 sz (m_take L 0 sz e).2).1 (m_take L 1 sz (m_take L 0 sz e).2).2).2 else if o = 9 then (mar o sz (m_take L 0 sz e).1 (m_take L 1 sz (m_take L 0 sz e).2).1 (m_take L 1 sz (m_take L 0 sz e).2).2).2 else m_put L 0 sz (mar o sz (m_take L 0 sz e).1 (m_take L 1 sz (m_take L 0 sz e).2).1 (m_take L 1 sz (m_take L 0 sz e).2).2).1 (mar o sz (m_take L 0 sz e).1 (m_take L 1 sz (m_take L 0 sz e).2).1 (m_take L 1 sz (m_take L 0 sz e).2).2).2) := by
  unfold m_arithmetic
  simp only [bnd_app]
  generalize m_take L 0 sz e = g1
  generalize m_take L 1 sz g1.2 = g2
  have e : (if (if o = 0 then true else (if o = (2 : Int32) then true else false)) = true then (if (if o = (2 : Int32) then (if b2i (dm_carry g2.2) = 0 then false else true) else false) = true then ((m_add g1.1 g2.1 true sz g2.2).1, (m_add g1.1 g2.1 true sz g2.2).2) else ((m_add g1.1 g2.1 false sz g2.2).1, (m_add g1.1 g2.1 false sz g2.2).2)) else (if (if o = (3 : Int32) then true else (if o = (5 : Int32) then true else (if o = (7 : Int32) then true else false))) = true then (if (if o = (3 : Int32) then (if b2i (dm_carry g2.2) = 0 then false else true) else false) = true then ((m_subtract g1.1 g2.1 true sz g2.2).1, (m_subtract g1.1 g2.1 true sz g2.2).2) else ((m_subtract g1.1 g2.1 false sz g2.2).1, (m_subtract g1.1 g2.1 false sz g2.2).2)) else ((if o = (1 : Int32) then (g1.1 ||| g2.1) else (if o = (6 : Int32) then (g1.1 ^^^ g2.1) else (g1.1 &&& g2.1))), m_zsp (if o = (1 : Int32) then (g1.1 ||| g2.1) else (if o = (6 : Int32) then (g1.1 ^^^ g2.1) else (g1.1 &&& g2.1))) sz (dm_over_ false (dm_carry_ false g2.2))))) = mar o sz g1.1 g2.1 g2.2 := by
    unfold mar
    by_cases h0 : o = 0
    · subst h0; rfl
    · by_cases h2 : o = 2
      · subst h2; generalize dm_carry g2.2 = b; cases b <;> rfl
      · by_cases h3 : o = 3
        · subst h3; generalize dm_carry g2.2 = b; cases b <;> rfl
        · by_cases h5 : o = 5
          · subst h5; rfl
          · by_cases h7 : o = 7
            · subst h7; rfl
            · simp [h0, h2, h3, h5, h7]
  rw [e]
theorem xf_xar (o sz : Int32) (x y : Int64) (d : XD) : xfix (xar o sz x y d).2 = xfix d := by
  unfold xar
  split
  · exact xf_sum _ _ _ _ _
  · split
    · exact xf_diff _ _ _ _ _
    · exact xf_logic _ _ _ _ _
theorem mf_mar (o sz : Int32) (x y : Int64) (e : MD) : mfix (mar o sz x y e).2 = mfix e := by
  unfold mar
  split
  · exact mf_add _ _ _ _ _
  · split
    · exact mf_sub _ _ _ _ _
    · exact mf_zsp _ _ _
theorem ar_rel {d : XD} {e : MD} (hf : FL d e) {o sz : Int32} {x y : Int64} (h : SZ sz) (hx : x_cut x sz = x) (hy : x_cut y sz = y) : x_cut (xar o sz x y d).1 sz = x_cut (mar o sz x y e).1 sz ∧ FO d e (xar o sz x y d).2 (mar o sz x y e).2 := by
  unfold xar mar
  rw [is_c hf]
  split
  · have := sum_add hf (c := decide (o = 2) && dm_carry e) h hx hy
    exact ⟨by rw [← this.1, cut_cut _ h], this.2⟩
  · split
    · have := diff_sub hf (c := decide (o = 3) && dm_carry e) h hx hy
      exact ⟨by rw [← this.1, cut_cut _ h], this.2⟩
    · unfold x_logic
      simp only [bnd_app]
      refine ⟨by first | trivial | rfl, ?_⟩
      rw [mk_co hf]
      exact follow_zsp h rfl (c := false) (p := dm_parity e) (z := dm_zero e) (n := dm_negative e) (o := false) rfl rfl
theorem op_arith {K : XK} {L : MK} {d0 d : XD} {e0 e : MD} (hc : Ctx K L d0 e0 d e) {o sz : Int32} (hs : SZ sz) (h0 : kx_kinds K (0 : Int32).toNatClampNeg = 1 ∨ kx_kinds K (0 : Int32).toNatClampNeg = 2) (h9 : ¬ o = 9) : RS d0 e0 (x_arithmetic K o sz d) (m_arithmetic L o sz e) := by
  rw [xar_eq, mar_eq]
  rcases get_take hc v3_0 hs with ⟨v1, c1, a1, a2⟩ | ⟨a, a1, a2⟩
  · rw [a1, a2]
    rcases get_take hc v3_1 hs with ⟨v2, c2, b1, b2⟩ | ⟨a, b1, b2⟩
    · simp only [b1, b2]
      obtain ⟨q1, q2⟩ := ar_rel (o := o) hc.2.2.2.1.2.2.2.2 hs c1 c2
      by_cases h7 : o = 7
      · rw [if_pos h7, if_pos h7]; exact Or.inl (live_fo hc.2.2.2.1 q2)
      · rw [if_neg h7, if_neg h7, if_neg h9]
        exact put_put (ctx_fo hc q2) v3_0 hs h0 q1
    · simp only [b1, b2]
      have hd := ctx_dead hc a bad3
      have hd2 := dead_same (xf_xar o sz v1 0 (x_fail 3 a d)) (mf_mar o sz v1 0 (m_stopWith 3 a e)) hd
      by_cases h7 : o = 7
      · rw [if_pos h7, if_pos h7]; exact Or.inr hd2
      · rw [if_neg h7, if_neg h7, if_neg h9]; exact Or.inr (dd_put hd2 _ _ _ _ _ _)
  · simp only [a1, a2]
    have hd := dd_get (K := K) (L := L) (ctx_dead hc a bad3) 1 1 sz sz
    have hd2 := dead_same (xf_xar o sz 0 (x_get K 1 sz (x_fail 3 a d)).1 _) (mf_mar o sz 0 (m_take L 1 sz (m_stopWith 3 a e)).1 _) hd
    by_cases h7 : o = 7
    · rw [if_pos h7, if_pos h7]; exact Or.inr hd2
    · rw [if_neg h7, if_neg h7, if_neg h9]; exact Or.inr (dd_put hd2 _ _ _ _ _ _)
