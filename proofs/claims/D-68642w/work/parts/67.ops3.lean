/-! ===== op 17, 18, 23: products ===== -/
theorem upper_eq (x y : Int64) : x_upper x y = m_highUnsigned x y := rfl
theorem upperS_eq (x y : Int64) : x_upperSigned x y = m_highSigned x y := rfl
theorem c0 : (0 : Int32).toNatClampNeg = 0 := by decide
theorem c1 : (1 : Int32).toNatClampNeg = 1 := by decide
theorem c2 : (2 : Int32).toNatClampNeg = 2 := by decide
theorem c4 : (4 : Int32).toNatClampNeg = 4 := by decide
theorem c5 : (5 : Int32).toNatClampNeg = 5 := by decide
theorem c6 : (6 : Int32).toNatClampNeg = 6 := by decide
theorem c7 : (7 : Int32).toNatClampNeg = 7 := by decide
theorem c11 : (11 : Int32).toNatClampNeg = 11 := by decide
/-- registers and the two flags written -/
theorem live_rco {d0 d : XD} {e0 e : MD} (h : Live d0 e0 d e) {f g : Nat → Int64} (b : Bool) (hfg : REq f g) : Live d0 e0 (dx_r_ f (x_mark 2049 b d)) (dm_over_ b (dm_carry_ b (dm_regs_ g e))) := by
  obtain ⟨⟨c1, c2, c3, c4, c5⟩, h2, h3, h4, h5⟩ := h
  rw [mk_co h5]
  exact ⟨⟨c1, c2, c3, c4, c5⟩, h2, hfg, h4, rfl⟩
theorem req_up {f g : Nat → Int64} (h : REq f g) {v w : Int64} (hv : v = w) (k : Nat) : REq (vp_updL f k v) (vp_updL g k w) := by
  intro i hi
  rw [updL_at, updL_at, h i hi, hv]
theorem req_refl (f : Nat → Int64) : REq f f := fun _ _ => rfl
theorem m_over_same {e : MD} (b : Bool) (h : dm_carry e = b) : dm_over_ (dm_carry e) e = dm_over_ b e := by rw [h]
theorem carry_if {P : Prop} [Decidable P] (e : MD) : (if P then dm_carry_ false e else dm_carry_ true e) = dm_carry_ (if P then false else true) e := by split <;> rfl
theorem uN_1 {v : Int64} : x_cut v 1 = v → uN v < 256 := by
  intro h
  have := congrArg uN h
  rw [uN_cut _ s1, show pw 1 = 256 from rfl] at this
  have := Nat.mod_lt (uN v) (show 0 < 256 by decide)
  omega
theorem mul8 {x y : Int64} (hx : x_cut x 1 = x) (hy : x_cut y 1 = y) : (lushr_ (x * y) ((8 : Int32) * 1) = 0) ↔ (x * y ≤ 255) := by
  have ux := uN_1 hx
  have uy := uN_1 hy
  have hm : uN (x * y) = uN x * uN y := by
    rw [uN_mul]
    have : uN x * uN y ≤ 255 * 255 := Nat.mul_le_mul (by omega) (by omega)
    exact Nat.mod_eq_of_lt (by omega)
  have hlt : uN (x * y) < 65536 := by
    rw [hm]
    have : uN x * uN y ≤ 255 * 255 := Nat.mul_le_mul (by omega) (by omega)
    omega
  have e1 : uN (lushr_ (x * y) ((8 : Int32) * 1)) = uN (x * y) / 2 ^ 8 := uN_sk (x * y) (k := 8) (by decide)
  constructor
  · intro h
    have : uN (lushr_ (x * y) ((8 : Int32) * 1)) = 0 := by rw [h]; rfl
    rw [e1] at this
    rw [Int64.le_iff_toInt_le, uN_int, show (255 : Int64).toInt = 255 from by decide, if_pos (by omega)]
    omega
  · intro h
    apply uN_inj
    rw [e1, show uN 0 = 0 from rfl]
    rw [Int64.le_iff_toInt_le, uN_int, show (255 : Int64).toInt = 255 from by decide, if_pos (by omega)] at h
    omega
theorem cut_shr (v : Int64) : x_cut (lshr_ v 32) 4 = (lushr_ v 32) &&& 4294967295 := by
  apply tb_ext
  intro i hi
  rw [tb_cut _ s4, tb_and, tb_w, tb_lshr v 32 (by decide) (by decide) hi, tb_lushr v 32 (by decide) (by decide)]
  by_cases c : i < 32
  · rw [if_pos (by omega), decide_eq_true c, decide_eq_true (show i ≤ top 4 from by rw [show top 4 = 31 from rfl]; omega), Bool.true_and, Bool.and_true]
  · rw [decide_eq_false c, decide_eq_false (show ¬ i ≤ top 4 from by rw [show top 4 = 31 from rfl]; omega), Bool.false_and, Bool.and_false]
theorem er2049 (b : Bool) (d : XD) : dx_r (x_mark 2049 b d) = dx_r d := (xfix_parts (xf_mark _ _ _)).2.1
theorem msr4 (k : Int32) (v : Int64) (e : MD) : m_setRegister k 4 v e = dm_regs_ (vp_updL (dm_regs e) k.toNatClampNeg (v &&& 4294967295)) e := rfl
theorem mrr (f g : Nat → Int64) (e : MD) : dm_regs_ f (dm_regs_ g e) = dm_regs_ f e := rfl
theorem mr_ (f : Nat → Int64) (e : MD) : dm_regs (dm_regs_ f e) = f := rfl
theorem xrr (f g : Nat → Int64) (d : XD) : dx_r_ f (dx_r_ g d) = dx_r_ f d := rfl
theorem xr_ (f : Nat → Int64) (d : XD) : dx_r (dx_r_ f d) = f := rfl
theorem mco (b : Bool) (e : MD) : dm_over_ (dm_carry (dm_carry_ b e)) (dm_carry_ b e) = dm_over_ b (dm_carry_ b e) := rfl
set_option maxHeartbeats 400000 in
theorem prod_1 {d0 d : XD} {e0 e : MD} (h : Live d0 e0 d e) (sg : Bool) {y : Int64} (hy : x_cut y 1 = y) {L : MK} (ht : m_take L 0 1 e = (y, e)) : Live d0 e0 (x_product sg 1 y d) (m_multiply L sg 1 e) := by
  have r0 : dm_regs e (0 : Int32).toNatClampNeg = dx_r d (0 : Int32).toNatClampNeg := (h.2.2.1 0 (by decide)).symm
  have n1 : ((1 : Int32) = 8) = False := eq_false (by decide)
  have n2 : ((1 : Int32) = 1) = True := eq_true rfl
  unfold x_product m_multiply
  rw [if_pos h.2.1]
  simp only [bnd_app, ht, cut_eq, signed_eq, carry_if, n1, n2, if_false, if_true, er2049, mco, r0]
  have hx := cut_cut (dx_r d (0 : Int32).toNatClampNeg) s1
  generalize x_cut (dx_r d (0 : Int32).toNatClampNeg) 1 = x at *
  cases sg
  · simp only [if_f]
    have hb : (if x * y ≤ (255 : Int64) then false else true) = (if lushr_ (x * y) ((8 : Int32) * 1) = 0 then false else true) := by
      by_cases z : x * y ≤ (255 : Int64)
      · rw [if_pos z, if_pos ((mul8 hx hy).mpr z)]
      · rw [if_neg z, if_neg (fun w => z ((mul8 hx hy).mp w))]
    rw [hb]
    exact live_rco h _ (req_up h.2.2.1 rfl _)
  · simp only [if_t]
    exact live_rco h _ (req_up h.2.2.1 rfl _)
set_option maxHeartbeats 400000 in
theorem prod_4 {d0 d : XD} {e0 e : MD} (h : Live d0 e0 d e) (sg : Bool) {y : Int64} {L : MK} (ht : m_take L 0 4 e = (y, e)) : Live d0 e0 (x_product sg 4 y d) (m_multiply L sg 4 e) := by
  have r0 : dm_regs e (0 : Int32).toNatClampNeg = dx_r d (0 : Int32).toNatClampNeg := (h.2.2.1 0 (by decide)).symm
  have n1 : ((4 : Int32) = 8) = False := eq_false (by decide)
  have n2 : ((4 : Int32) = 1) = False := eq_false (by decide)
  have n3 : ((4 : Int32) = 4) = True := eq_true rfl
  unfold x_product m_multiply
  rw [if_pos h.2.1]
  simp only [bnd_app, ht, cut_eq, signed_eq, carry_if, n1, n2, n3, if_false, if_true, er2049, mco, r0, msr4, mrr, mr_, xrr, xr_]
  generalize x_cut (dx_r d (0 : Int32).toNatClampNeg) 4 = x
  cases sg
  · simp only [if_f]
    exact live_rco h _ (req_up (req_up h.2.2.1 rfl _) (cut_shr _) _)
  · simp only [if_t]
    exact live_rco h _ (req_up (req_up h.2.2.1 rfl _) (cut_shr _) _)
set_option maxHeartbeats 400000 in
theorem prod_8 {d0 d : XD} {e0 e : MD} (h : Live d0 e0 d e) (sg : Bool) {y : Int64} {L : MK} (ht : m_take L 0 8 e = (y, e)) : Live d0 e0 (x_product sg 8 y d) (m_multiply L sg 8 e) := by
  have r0 : dm_regs e (0 : Int32).toNatClampNeg = dx_r d (0 : Int32).toNatClampNeg := (h.2.2.1 0 (by decide)).symm
  have n1 : ((8 : Int32) = 4) = False := eq_false (by decide)
  have n2 : ((8 : Int32) = 1) = False := eq_false (by decide)
  have n3 : ((8 : Int32) = 8) = True := eq_true rfl
  have sx : ∀ z : Int64, x_signed z 8 = z := fun _ => rfl
  unfold x_product m_multiply
  rw [if_pos h.2.1]
  simp only [bnd_app, ht, cut_eq, signed_eq, carry_if, n1, n2, n3, if_false, if_true, er2049, mco, r0, mrr, mr_, xrr, xr_, sx, upper_eq, upperS_eq]
  generalize x_cut (dx_r d (0 : Int32).toNatClampNeg) 8 = x
  cases sg
  · simp only [if_f]
    exact live_rco h _ (req_up (req_up h.2.2.1 rfl _) rfl _)
  · simp only [if_t]
    exact live_rco h _ (req_up (req_up h.2.2.1 rfl _) rfl _)
theorem prod_live {d0 d : XD} {e0 e : MD} (h : Live d0 e0 d e) (sg : Bool) {sz : Int32} (hs : SZ sz) {y : Int64} (hy : x_cut y sz = y) {L : MK} (ht : m_take L 0 sz e = (y, e)) : Live d0 e0 (x_product sg sz y d) (m_multiply L sg sz e) := by
  rcases hs with q | q | q <;> subst q
  · exact prod_1 h sg hy ht
  · exact prod_4 h sg ht
  · exact prod_8 h sg ht
theorem xd_product {sg : Bool} {sz : Int32} {y : Int64} {d : XD} (h : ¬ dx_stop d = 0) : x_product sg sz y d = d := if_neg h
theorem mf_mul {L : MK} {sg : Bool} {sz : Int32} {e : MD} : mfix (m_multiply L sg sz e) = mfix (m_take L 0 sz e).2 := by
  unfold m_multiply
  simp only [bnd_app]
  generalize m_take L 0 sz e = g
  rw [mf_over]
  split
  · split <;> (split <;> rfl)
  · split
    · split <;> (split <;> (rw [mf_carry, mf_reg, mf_reg]))
    · split <;> (split <;> rfl)
theorem op_mul {K : XK} {L : MK} {d0 d : XD} {e0 e : MD} (hc : Ctx K L d0 e0 d e) {sz : Int32} (hs : SZ sz) (sg : Bool) : RS d0 e0 (x_product sg sz (x_get K 0 sz d).1 (x_get K 0 sz d).2) (m_multiply L sg sz e) := by
  rcases get_take hc v3_0 hs with ⟨v, c, a1, a2⟩ | ⟨a, a1, a2⟩
  · rw [a1]; exact Or.inl (prod_live hc.2.2.2.1 sg hs c a2)
  · rw [a1]
    have hd := ctx_dead hc a bad3
    refine Or.inr (dead_same ?_ ?_ hd)
    · rw [xd_product (dead_x hd)]
    · rw [mf_mul, a2]
/-! the product of two operands -/
theorem prod_flags {d0 d : XD} {e0 e : MD} (h : Live d0 e0 d e) (b : Bool) : FO d e (x_mark 2049 b d) (dm_over_ b (dm_carry_ b e)) := by
  rw [mk_co h.2.2.2.2]
  exact ⟨b, dm_parity e, dm_zero e, dm_negative e, b, rfl, rfl⟩
theorem not_if {P : Prop} [Decidable P] : (if b2i (if P then true else false) = 0 then true else false) = (if P then false else true) := by by_cases h : P <;> simp [h] <;> decide
theorem op_23 {K : XK} {L : MK} {d0 d : XD} {e0 e : MD} (hc : Ctx K L d0 e0 d e) {sz : Int32} (hs : sz = 4 ∨ sz = 8) (h0 : K12 K 0) (h3 : kx_kinds K (2 : Int32).toNatClampNeg = 3 ∨ kx_kinds K (2 : Int32).toNatClampNeg = 0) : RS d0 e0 (x_times K sz d) (m_product L sz e) := by
  have hs3 : SZ sz := Or.inr hs
  have ek := hc.1.2.1 2 (by decide)
  have en := hc.1.1.1.2.2.2
  have cond : ∀ x y : Int64, (if sz = (8 : Int32) then (if x_upperSigned x y = lshr_ (x * y) 63 then true else false) else (if x * y = x_signed (x * y) sz then true else false)) = (if (if sz = (4 : Int32) then (if x * y = (x * y).toInt32.toInt64 then false else true) else (if m_highSigned x y = lshr_ (x * y) 63 then false else true)) = true then false else true) := by
    intro x y
    rcases hs with q | q <;> subst q
    · rw [if_neg (by decide), if_pos rfl]
      show (if x * y = (x * y).toInt32.toInt64 then true else false) = _
      by_cases z : x * y = (x * y).toInt32.toInt64
      · rw [if_pos z, if_pos z]; rfl
      · rw [if_neg z, if_neg z]; rfl
    · rw [if_pos rfl, if_neg (show ¬ (8 : Int32) = 4 by decide), upperS_eq]
      by_cases z : m_highSigned x y = lshr_ (x * y) 63
      · rw [if_pos z, if_pos z]; rfl
      · rw [if_neg z, if_neg z]; rfl
  have neg2 : ∀ B : Bool, (if b2i (if B = true then false else true) = 0 then true else false) = B := by intro B; cases B <;> rfl
  have fin : ∀ x y : Int64, RS d0 e0 (x_put K 0 sz (x * y) (x_mark 2049 (if b2i (if sz = (8 : Int32) then (if x_upperSigned x y = lshr_ (x * y) 63 then true else false) else (if x * y = x_signed (x * y) sz then true else false)) = 0 then true else false) d)) (m_put L 0 sz (m_cut (x * y) sz) (dm_over_ (dm_carry (dm_carry_ (if sz = (4 : Int32) then (if x * y = (x * y).toInt32.toInt64 then false else true) else (if m_highSigned x y = lshr_ (x * y) 63 then false else true)) e)) (dm_carry_ (if sz = (4 : Int32) then (if x * y = (x * y).toInt32.toInt64 then false else true) else (if m_highSigned x y = lshr_ (x * y) 63 then false else true)) e))) := by
    intro x y
    rw [cond, neg2]
    exact put_put (ctx_fo hc (prod_flags hc.2.2.2.1 _)) v3_0 hs3 h0 (by rw [cut_eq, cut_cut _ hs3])
  have dfin : ∀ (x y : Int64) (b b' : Bool) (d1 : XD) (e1 : MD), Dead d0 e0 d1 e1 → Dead d0 e0 (x_put K 0 sz x (x_mark 2049 b d1)) (m_put L 0 sz y (dm_over_ b' (dm_carry_ b' e1))) := by
    intro x y b b' d1 e1 hd
    exact dd_put (dead_same (e' := dm_over_ b' (dm_carry_ b' e1)) (xf_mark 2049 b d1) ((mf_over _ _).trans (mf_carry _ _)) hd) _ _ _ _ _ _
  unfold x_times m_product m_kindAt
  simp only [bnd_app]
  rw [← en]
  rw [show km_kinds L (2 : Int32).toNatClampNeg = kx_kinds K (2 : Int32).toNatClampNeg from ek.symm]
  rcases h3 with k3 | k0
  · rw [k3]
    rw [if_pos rfl, if_neg (show ¬ (3 : Int32) = 0 by decide)]
    simp only [if_t, signed_eq]
    rcases get_take hc v3_1 hs3 with ⟨v, c, a1, a2⟩ | ⟨a, a1, a2⟩
    · have a1' : x_get K (b2i true) sz d = (v, d) := a1
      have a2' : m_take L (b2i true) sz e = (v, e) := a2
      simp only [a1', a2']
      exact fin _ _
    · have a1' : x_get K (b2i true) sz d = (0, x_fail 3 a d) := a1
      have a2' : m_take L (b2i true) sz e = (0, m_stopWith 3 a e) := a2
      simp only [a1', a2']
      exact Or.inr (dfin _ _ _ _ _ _ (ctx_dead hc a bad3))
  · rw [k0]
    rw [if_neg (show ¬ (0 : Int32) = 3 by decide), if_pos rfl]
    simp only [if_f, signed_eq]
    rcases get_take hc v3_0 hs3 with ⟨v, c, a1, a2⟩ | ⟨a, a1, a2⟩
    · have a1' : x_get K (b2i false) sz d = (v, d) := a1
      have a2' : m_take L (b2i false) sz e = (v, e) := a2
      simp only [a1', a2']
      rcases get_take hc v3_1 hs3 with ⟨w, c', b1, b2⟩ | ⟨a, b1, b2⟩
      · simp only [b1, b2]
        exact fin _ _
      · simp only [b1, b2]
        exact Or.inr (dfin _ _ _ _ _ _ (ctx_dead hc a bad3))
    · have a1' : x_get K (b2i false) sz d = (0, x_fail 3 a d) := a1
      have a2' : m_take L (b2i false) sz e = (0, m_stopWith 3 a e) := a2
      simp only [a1', a2']
      exact Or.inr (dfin _ _ _ _ _ _ (dd_get (K := K) (L := L) (ctx_dead hc a bad3) 1 1 sz sz))
