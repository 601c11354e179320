/-! ===== op 19, 20: quotients ===== -/
theorem lN_uN (x : Int64) : lN (uN x) = x := by
  apply uN_inj
  show (BitVec.ofNat 64 (uN x)).toNat = uN x
  rw [BitVec.toNat_ofNat]
  exact Nat.mod_eq_of_lt (uN_lt x)
theorem uN_lN {n : Nat} (h : n < 18446744073709551616) : uN (lN n) = n := by
  show (BitVec.ofNat 64 n).toNat = n
  rw [BitVec.toNat_ofNat]
  exact Nat.mod_eq_of_lt h
theorem uN_div {n y : Int64} (hn : uN n < 9223372036854775808) (h1 : 0 < uN y) (h2 : uN y < 9223372036854775808) : uN (n / y) = uN n / uN y := by
  have e := pk_lDiv (a := uN n) (b := uN y) hn h1 h2
  rw [lN_uN, lN_uN] at e
  rw [e]
  have := uN_lt n
  exact uN_lN (Nat.lt_of_le_of_lt (Nat.div_le_self _ _) this)
theorem uN_lushr (x : Int64) {y : Int32} (k : Nat) (hk : k < 64) (hy : y = nI k) : uN (lushr_ x y) = uN x / 2 ^ k := by
  subst hy; exact uN_sk x hk
theorem uN_lshl1 (x : Int64) : uN (lshl_ x 1) = (2 * uN x) % 18446744073709551616 := uN_shl x
theorem tb63 (x : Int64) : tb x 63 = decide (9223372036854775808 ≤ uN x) := by
  by_cases c : tb x 63 = true
  · rw [c, decide_eq_true ((neg_uN x).mp ((neg_tb x).mpr c))]
  · rw [Bool.eq_false_iff.mpr c, decide_eq_false (fun q => c ((neg_tb x).mp ((neg_uN x).mpr q)))]
theorem nat_half {N Y : Nat} (hY : 0 < Y) : 2 * (N / 2 / Y) * Y ≤ N ∧ N - 2 * (N / 2 / Y) * Y < 2 * Y ∧ N / Y = 2 * (N / 2 / Y) + (if Y ≤ N - 2 * (N / 2 / Y) * Y then 1 else 0) := by
  have h1 := Nat.div_mul_le_self (N / 2) Y
  have h2 := Nat.lt_div_mul_add (a := N / 2) hY
  have e : 2 * (N / 2 / Y) * Y = 2 * (N / 2 / Y * Y) := Nat.mul_assoc _ _ _
  have e1 : (2 * (N / 2 / Y) + 1) * Y = 2 * (N / 2 / Y * Y) + Y := by rw [Nat.add_mul, e, Nat.one_mul]
  have e2 : (2 * (N / 2 / Y) + 1 + 1) * Y = 2 * (N / 2 / Y * Y) + Y + Y := by rw [Nat.add_mul, e1, Nat.one_mul]
  rw [e]
  refine ⟨by omega, by omega, ?_⟩
  split
  · exact Nat.div_eq_of_lt_le (by rw [e1]; omega) (by rw [e2]; omega)
  · exact Nat.div_eq_of_lt_le (by rw [Nat.add_zero, e]; omega) (by rw [Nat.add_zero, e1]; omega)
theorem uN_nsub {n q y : Int64} (h : uN q * uN y ≤ uN n) : uN (n - q * y) = uN n - uN q * uN y := by
  have := uN_lt n
  rw [uN_sub, uN_mul, Nat.mod_eq_of_lt (show uN q * uN y < 18446744073709551616 by omega)]
  omega
theorem below_mod {n y : Int64} (hn : uN n < 9223372036854775808) (h1 : 0 < uN y) (h2 : uN y < 9223372036854775808) : m_below (n - n / y * y) y = true := by
  rw [below_iff]
  have e := uN_div hn h1 h2
  have l1 := Nat.div_mul_le_self (uN n) (uN y)
  have l2 := Nat.lt_div_mul_add (a := uN n) h1
  rw [uN_nsub (by rw [e]; exact l1), e]
  omega
theorem udiv_x {n y : Int64} (h1 : 0 < uN y) (h2 : uN y < 4294967296) : j_divideUnsigned n y = (if uN y ≤ uN (n - lshl_ (lushr_ n 1 / y) 1 * y) then lshl_ (lushr_ n 1 / y) 1 + 1 else lshl_ (lushr_ n 1 / y) 1) ∧ uN (j_divideUnsigned n y) = uN n / uN y ∧ uN (lshl_ (lushr_ n 1 / y) 1) * uN y ≤ uN n := by
  have hn := uN_lt n
  have e1 : uN (lushr_ n 1) = uN n / 2 := uN_lushr n 1 (by decide) (by decide)
  have e2 : uN (lushr_ n 1 / y) = uN n / 2 / uN y := by rw [uN_div (by rw [e1]; omega) h1 (by omega), e1]
  have l0 : uN n / 2 / uN y ≤ uN n / 2 := Nat.div_le_self _ _
  have e3 : uN (lshl_ (lushr_ n 1 / y) 1) = 2 * (uN n / 2 / uN y) := by rw [uN_lshl1, e2]; exact Nat.mod_eq_of_lt (by omega)
  obtain ⟨k1, k2, k3⟩ := nat_half (N := uN n) h1
  rw [← e3] at k1 k2 k3
  have e4 := uN_nsub (n := n) (q := lshl_ (lushr_ n 1 / y) 1) (y := y) k1
  rw [← e4] at k2 k3
  generalize hq : lshl_ (lushr_ n 1 / y) 1 = q at *
  have ny : ¬ y < (0 : Int64) := fun z => by have := (neg_uN y).mp z; omega
  have ej : j_divideUnsigned n y = q + lushr_ ((n - q * y) ||| (((n - q * y) - y) ^^^ (-1))) 63 := by
    unfold j_divideUnsigned
    rw [if_neg ny]
    simp only [bnd_app]
    rw [hq]
  have eb : lushr_ ((n - q * y) ||| (((n - q * y) - y) ^^^ (-1))) 63 = (if uN y ≤ uN (n - q * y) then (1 : Int64) else 0) := by
    generalize n - q * y = r at *
    have t1 : tb r 63 = false := by rw [tb63]; exact decide_eq_false (by omega)
    have t2 : tb (r ||| ((r - y) ^^^ (-1))) 63 = decide (uN y ≤ uN r) := by
      rw [tb_or, t1, Bool.false_or, tb_not (by decide), tb63, uN_sub]
      by_cases z : uN y ≤ uN r
      · rw [decide_eq_true z, decide_eq_false (by omega)]; rfl
      · rw [decide_eq_false z, decide_eq_true (by omega)]; rfl
    rw [tb63] at t2
    apply uN_inj
    rw [uN_lushr _ 63 (by decide) (by decide)]
    have lt := uN_lt (r ||| ((r - y) ^^^ (-1)))
    by_cases z : uN y ≤ uN r
    · rw [decide_eq_true z] at t2
      have := of_decide_eq_true t2
      rw [if_pos z, show uN 1 = 1 from rfl]; omega
    · rw [decide_eq_false z] at t2
      have := of_decide_eq_false t2
      rw [if_neg z, show uN 0 = 0 from rfl]; omega
  refine ⟨?_, ?_, k1⟩
  · rw [ej, eb]
    split
    · rfl
    · apply uN_inj; rw [uN_add, show uN 0 = 0 from rfl, Nat.add_zero]; exact Nat.mod_eq_of_lt (uN_lt q)
  · rw [ej, eb, uN_add, k3]
    have : uN n / uN y ≤ uN n := Nat.div_le_self _ _
    split
    · rename_i z
      rw [if_pos z] at k3
      rw [show uN 1 = 1 from rfl]; exact Nat.mod_eq_of_lt (by omega)
    · rename_i z
      rw [if_neg z] at k3
      rw [show uN 0 = 0 from rfl]; exact Nat.mod_eq_of_lt (by omega)
/-- without a sign: M's quotient and rest, by X's -/
theorem udiv4 {n y : Int64} (h1 : 0 < uN y) (h2 : uN y < 4294967296) :
    (if b2i (m_below (n - (if (if n < (0 : Int64) then false else true) = true then n / y else lshl_ (lushr_ n 1 / y) 1) * y) y) = 0 then ((n - (if (if n < (0 : Int64) then false else true) = true then n / y else lshl_ (lushr_ n 1 / y) 1) * y) - y, (if (if n < (0 : Int64) then false else true) = true then n / y else lshl_ (lushr_ n 1 / y) 1) + 1) else (n - (if (if n < (0 : Int64) then false else true) = true then n / y else lshl_ (lushr_ n 1 / y) 1) * y, (if (if n < (0 : Int64) then false else true) = true then n / y else lshl_ (lushr_ n 1 / y) 1))) = (n - j_divideUnsigned n y * y, j_divideUnsigned n y) := by
  obtain ⟨u1, u2, u3⟩ := udiv_x (n := n) h1 h2
  by_cases c : n < (0 : Int64)
  · rw [if_pos c, if_neg (show ¬ false = true by decide)]
    generalize lshl_ (lushr_ n 1 / y) 1 = q at *
    have hb := below_iff (n - q * y) y
    by_cases z : uN y ≤ uN (n - q * y)
    · rw [if_pos z] at u1
      rw [show m_below (n - q * y) y = false from Bool.eq_false_iff.mpr (fun w => by have := hb.mp w; omega), if_f, u1]
      have : n - q * y - y = n - (q + 1) * y := by grind
      rw [this]
    · rw [if_neg z] at u1
      rw [show m_below (n - q * y) y = true from hb.mpr (by omega), if_t, u1]
  · have hn : uN n < 9223372036854775808 := by
      have : ¬ 9223372036854775808 ≤ uN n := fun z => c ((neg_uN n).mpr z); omega
    rw [if_neg c, if_pos (show true = true from rfl), below_mod hn h1 (by omega), if_t]
    have : n / y = j_divideUnsigned n y := uN_inj (by rw [u2, uN_div hn h1 (by omega)])
    rw [this]
theorem nz_uN {y : Int64} (h : ¬ y = 0) : 0 < uN y := Nat.pos_of_ne_zero (fun q => h (uN_inj q))
theorem uN_4 {v : Int64} (h : x_cut v 4 = v) : uN v < 4294967296 := by
  have := congrArg uN h
  rw [uN_cut _ s4, show pw 4 = 4294967296 from rfl] at this
  have := Nat.mod_lt (uN v) (show 0 < 4294967296 by decide)
  omega
theorem live_r {d0 d : XD} {e0 e : MD} (h : Live d0 e0 d e) {f g : Nat → Int64} (hfg : REq f g) : Live d0 e0 (dx_r_ f d) (dm_regs_ g e) := by
  obtain ⟨⟨c1, c2, c3, c4, c5⟩, h2, h3, h4, h5⟩ := h
  exact ⟨⟨c1, c2, c3, c4, c5⟩, h2, hfg, h4, h5⟩
/-- what is done with quotient and rest, the same on both sides -/
theorem divd {d0 d : XD} {e0 e : MD} (h : Live d0 e0 d e) (hf : Fr d e) {sz : Int32} (hs : sz = 1 ∨ sz = 4) (fits : Bool) (q left : Int64) : RS d0 e0 (if b2i fits = 0 then x_fail 5 0 d else x_divided sz q left d) (if b2i fits = 0 then m_stopWith 5 0 e else (if sz = 1 then dm_regs_ (vp_updL (dm_regs e) (0 : Int32).toNatClampNeg (((dm_regs e (0 : Int32).toNatClampNeg &&& (-65536)) ||| lshl_ (left &&& 255) 8) ||| (q &&& 255))) e else m_setRegister 2 4 left (m_setRegister 0 4 q e))) := by
  cases fits
  · rw [if_f, if_f]; exact Or.inr (fail_dead h hf bad5)
  · rw [if_t, if_t]
    rcases hs with z | z <;> subst z
    · rw [if_pos rfl]
      have e1 : x_divided 1 q left d = dx_r_ (vp_updL (dx_r d) (0 : Int32).toNatClampNeg (((dx_r d (0 : Int32).toNatClampNeg &&& (-65536)) ||| lshl_ (left &&& 255) 8) ||| (q &&& 255))) d := rfl
      rw [e1]
      exact Or.inl (live_r h (req_up h.2.2.1 (by rw [c0, h.2.2.1 0 (by decide)]) _))
    · rw [if_neg (by decide)]
      have e1 : x_divided 4 q left d = x_setRegister 2 4 left (x_setRegister 0 4 q d) := rfl
      rw [e1]
      exact Or.inl (setreg (setreg h s4 rfl (by decide)).1 s4 rfl (by decide)).1
theorem small_div {d0 d : XD} {e0 e : MD} (h : Live d0 e0 d e) (hf : Fr d e) (sg : Bool) {sz : Int32} (hs : sz = 1 ∨ sz = 4) {y : Int64} (hy : x_cut y sz = y) (hz : ¬ y = 0) : RS d0 e0 (x_quotient sg sz y d) (m_divideSmall sg sz y e) := by
  have r0 := h.2.2.1 0 (by decide)
  have r2 := h.2.2.1 2 (by decide)
  have n8 : ¬ sz = 8 := by rcases hs with z | z <;> subst z <;> decide
  unfold x_quotient m_divideSmall
  rw [if_pos h.2.1, if_neg hz, if_neg n8]
  simp only [bnd_app, signed_eq, cut_eq]
  rw [show dm_regs e (0 : Int32).toNatClampNeg = dx_r d (0 : Int32).toNatClampNeg from r0.symm, show dm_regs e (2 : Int32).toNatClampNeg = dx_r d (2 : Int32).toNatClampNeg from r2.symm]
  have hn : ∀ z : Int64, (if sz = (1 : Int32) then (if b2i sg = 0 then z else z.toInt32.toInt16.toInt32.toInt64) else z) = (if b2i sg = 0 then z else (if sz = (1 : Int32) then z.toInt32.toInt16.toInt32.toInt64 else z)) := by
    intro z; cases sg <;> by_cases q : sz = 1 <;> simp [q, if_f, if_t]
  rw [hn]
  generalize hN : (if sz = (1 : Int32) then (dx_r d (0 : Int32).toNatClampNeg &&& 65535) else (lshl_ (dx_r d (2 : Int32).toNatClampNeg) 32 ||| (dx_r d (0 : Int32).toNatClampNeg &&& 4294967295))) = N
  rw [show dx_r d (0 : Int32).toNatClampNeg = dm_regs e (0 : Int32).toNatClampNeg from r0]
  cases sg
  · simp only [if_f]
    rcases hs with z | z <;> subst z
    · -- a byte: the dividend isn't negative
      have hNn : ¬ N < (0 : Int64) := by
        intro q
        have q2 := (neg_tb N).mp q
        rw [← hN, if_pos rfl, tb_and, tb_65535] at q2
        simp at q2
      have uy := uN_1 hy
      have hlt : uN N < 9223372036854775808 := by have : ¬ 9223372036854775808 ≤ uN N := fun w => hNn ((neg_uN N).mpr w); omega
      rw [if_pos rfl, if_pos rfl, if_neg hNn, if_pos rfl, below_mod hlt (nz_uN hz) (by omega), if_t]
      dsimp only
      rw [show (if N / y = x_cut (N / y) 1 then true else false) = (if x_cut (N / y) 1 = N / y then true else false) from by
        by_cases w : x_cut (N / y) 1 = N / y
        · rw [if_pos w, if_pos w.symm]
        · rw [if_neg w, if_neg (fun v => w v.symm)]]
      exact divd h hf (Or.inl rfl) _ _ _
    · rw [if_neg (show ¬ (4 : Int32) = 1 by decide), if_neg (show ¬ false = true by decide), udiv4 (nz_uN hz) (uN_4 hy)]
      dsimp only
      generalize j_divideUnsigned N y = q
      rw [show (if q = x_cut q 4 then true else false) = (if x_cut q 4 = q then true else false) from by
        by_cases w : x_cut q 4 = q
        · rw [if_pos w, if_pos w.symm]
        · rw [if_neg w, if_neg (fun v => w v.symm)]]
      exact divd h hf (Or.inr rfl) _ _ _
  · simp only [if_t, if_true]
    exact divd h hf hs _ _ _
/-! the wide one, bit by bit -/
theorem cu_bl (v y : Int64) : (if j_compareUnsigned v y < 0 then false else true) = (if b2i (m_below v y) = 0 then true else false) := by
  by_cases z : uN v < uN y
  · rw [if_pos ((cu_lt_iff v y).mpr z), (below_iff v y).mpr z]; rfl
  · rw [if_neg (fun w => z ((cu_lt_iff v y).mp w)), Bool.eq_false_iff.mpr (fun w => z ((below_iff v y).mp w))]; rfl
theorem cu_bg (v y : Int64) : (if 0 < j_compareUnsigned v y then false else true) = (if b2i (m_below y v) = 0 then true else false) := by
  by_cases z : uN y < uN v
  · rw [if_pos ((cu_gt_iff v y).mpr z), (below_iff y v).mpr z]; rfl
  · rw [if_neg (fun w => z ((cu_gt_iff v y).mp w)), Bool.eq_false_iff.mpr (fun w => z ((below_iff y v).mp w))]; rfl
theorem divd8 {d0 d : XD} {e0 e : MD} (h : Live d0 e0 d e) (q left : Int64) : Live d0 e0 (x_divided 8 q left d) (dm_regs_ (vp_updL (dm_regs (dm_regs_ (vp_updL (dm_regs e) (0 : Int32).toNatClampNeg q) e)) (2 : Int32).toNatClampNeg left) (dm_regs_ (vp_updL (dm_regs e) (0 : Int32).toNatClampNeg q) e)) := by
  have e1 : x_divided 8 q left d = dx_r_ (vp_updL (vp_updL (dx_r d) (0 : Int32).toNatClampNeg q) (2 : Int32).toNatClampNeg left) (dx_r_ (vp_updL (dx_r d) (0 : Int32).toNatClampNeg q) d) := rfl
  rw [e1]
  exact live_r (live_r h (req_up h.2.2.1 rfl _)) (req_up (req_up h.2.2.1 rfl _) rfl _)
set_option maxHeartbeats 1000000 in
theorem wide_loop {d0 d : XD} {e0 e : MD} (h : Live d0 e0 d e) (hf : Fr d e) (sg p1 p2 : Bool) (lo y z : Int64) (hsg : sg = false → p1 = false ∧ p2 = false) : ∀ (n : Nat) (hi q : Int64) (k : Int32), RS d0 e0 (x_wide_L118 sg p1 p2 lo y n hi q k d) (m_divide_L186 sg p1 (p1 ^^ p2) (lo, z) y n q hi k e) := by
  intro n
  induction n with
  | zero => intro hi q k; exact Or.inl h
  | succ n ih =>
    intro hi q k
    rw [x_wide_L118_s, m_divide_L186_s]
    by_cases kc : k < 0
    · rw [if_pos kc, if_pos kc]
      simp only [bnd_app]
      rw [cu_bg]
      have ep : (if b2i p1 = b2i p2 then false else true) = (p1 ^^ p2) := by cases p1 <;> cases p2 <;> rfl
      rw [ep]
      generalize (p1 ^^ p2) = pp at *
      have fin : RS d0 e0 (if b2i p1 = 0 then x_divided 8 (if b2i pp = 0 then q else -q) hi d else x_divided 8 (if b2i pp = 0 then q else -q) (-hi) d) (if b2i p1 = 0 then dm_regs_ (vp_updL (dm_regs (dm_regs_ (vp_updL (dm_regs e) (0 : Int32).toNatClampNeg (if b2i pp = 0 then q else -q)) e)) (2 : Int32).toNatClampNeg hi) (dm_regs_ (vp_updL (dm_regs e) (0 : Int32).toNatClampNeg (if b2i pp = 0 then q else -q)) e) else dm_regs_ (vp_updL (dm_regs (dm_regs_ (vp_updL (dm_regs e) (0 : Int32).toNatClampNeg (if b2i pp = 0 then q else -q)) e)) (2 : Int32).toNatClampNeg (-hi)) (dm_regs_ (vp_updL (dm_regs e) (0 : Int32).toNatClampNeg (if b2i pp = 0 then q else -q)) e)) := by
        cases p1
        · rw [if_f, if_f]; exact Or.inl (divd8 h _ _)
        · rw [if_t, if_t]; exact Or.inl (divd8 h _ _)
      have bad : RS d0 e0 (x_fail 5 0 d) (m_stopWith 5 0 e) := Or.inr (fail_dead h hf bad5)
      cases sg
      · rw [if_f, if_f, if_neg (show ¬ b2i true = 0 by decide)]
        exact fin
      · rw [if_t, if_t]
        cases pp
        · rw [if_f, if_f]
          by_cases c : (0 : Int64) ≤ q
          · rw [if_pos c, if_neg (Int64.not_lt.mpr c), if_neg (show ¬ b2i true = 0 by decide)]
            exact fin
          · rw [if_neg c, if_pos (Int64.not_le.mp c), if_pos (show b2i false = 0 from rfl)]
            exact bad
        · rw [if_t, if_t]
          by_cases c : b2i (m_below (-9223372036854775808) q) = 0
          · rw [if_pos c, if_pos c, if_neg (show ¬ b2i true = 0 by decide)]
            exact fin
          · rw [if_neg c, if_neg c, if_pos (show b2i false = 0 from rfl)]
            exact bad
    · rw [if_neg kc, if_neg kc]
      simp only [bnd_app]
      rw [cu_bl]
      generalize hB : (if b2i (if (0 : Int64) ≤ hi then false else true) = 0 then (if b2i (m_below (lshl_ hi 1 ||| (lushr_ lo k &&& 1)) y) = 0 then true else false) else true) = B
      cases B
      · simp only [if_f]; exact ih _ _ _
      · simp only [if_t]; exact ih _ _ _
theorem neg_z (x : Int64) : (-x = 0) ↔ x = 0 := by
  constructor
  · intro h
    have : x = -(-x) := by grind
    rw [this, h]; rfl
  · intro h; rw [h]; rfl
theorem wide_div {L : MK} {d0 d : XD} {e0 e : MD} (h : Live d0 e0 d e) (hf : Fr d e) (sg : Bool) {y : Int64} (hz : ¬ y = 0) (ht : m_take L 0 8 e = (y, e)) : RS d0 e0 (x_quotient sg 8 y d) (m_divide L sg 8 e) := by
  have r0 := h.2.2.1 0 (by decide)
  have r2 := h.2.2.1 2 (by decide)
  unfold x_quotient m_divide
  rw [if_pos h.2.1, if_neg hz, if_pos rfl]
  simp only [bnd_app, ht]
  rw [if_pos (live_m h), if_neg hz, if_pos (live_m h), if_pos (show (8 : Int32) ≤ 8 by decide)]
  rw [show dm_regs e (0 : Int32).toNatClampNeg = dx_r d (0 : Int32).toNatClampNeg from r0.symm, show dm_regs e (2 : Int32).toNatClampNeg = dx_r d (2 : Int32).toNatClampNeg from r2.symm]
  unfold x_wide
  simp only [bnd_app]
  generalize dx_r d (0 : Int32).toNatClampNeg = lo
  generalize dx_r d (2 : Int32).toNatClampNeg = hg
  have bad : RS d0 e0 (x_fail 5 0 d) (m_stopWith 5 0 e) := Or.inr (fail_dead h hf bad5)
  have go : ∀ (p1 p2 : Bool) (H l Y z : Int64), (sg = false → p1 = false ∧ p2 = false) → RS d0 e0 (if j_compareUnsigned H Y < 0 then x_wide_L118 sg p1 p2 l Y (mDn (63 : Int32) + 1) H 0 63 d else x_fail 5 0 d) (if b2i (m_below H Y) = 0 then m_stopWith 5 0 e else m_divide_L186 sg p1 (p1 ^^ p2) (l, z) Y (mDn (63 : Int32) + 1) 0 H 63 e) := by
    intro p1 p2 H l Y z hsg
    by_cases c : uN H < uN Y
    · rw [if_pos ((cu_lt_iff H Y).mpr c), (below_iff H Y).mpr c, if_t]
      exact wide_loop h hf sg p1 p2 l Y z hsg _ _ _ _
    · rw [if_neg (fun w => c ((cu_lt_iff H Y).mp w)), Bool.eq_false_iff.mpr (fun w => c ((below_iff H Y).mp w)), if_f]
      exact bad
  cases sg
  · simp only [if_f]
    exact go false false hg lo y hg (fun _ => ⟨rfl, rfl⟩)
  · simp only [if_t]
    by_cases ch : (0 : Int64) ≤ hg
    · simp only [if_pos ch, if_f]
      by_cases cy : (0 : Int64) ≤ y
      · simp only [if_pos cy, if_f]
        exact go false false hg lo y hg (fun q => by cases q)
      · simp only [if_neg cy, if_t, if_f]
        exact go false true hg lo (-y) hg (fun q => by cases q)
    · simp only [if_neg ch, if_t]
      by_cases cl : lo = 0
      · simp only [if_pos cl, if_pos ((neg_z lo).mpr cl)]
        by_cases cy : (0 : Int64) ≤ y
        · simp only [if_pos cy, if_f]
          exact go true false _ (-lo) y _ (fun q => by cases q)
        · simp only [if_neg cy, if_t]
          exact go true true _ (-lo) (-y) _ (fun q => by cases q)
      · simp only [if_neg cl, if_neg (fun w => cl ((neg_z lo).mp w))]
        by_cases cy : (0 : Int64) ≤ y
        · simp only [if_pos cy, if_f]
          exact go true false _ (-lo) y _ (fun q => by cases q)
        · simp only [if_neg cy, if_t]
          exact go true true _ (-lo) (-y) _ (fun q => by cases q)
theorem xd_quot {sg : Bool} {sz : Int32} {y : Int64} {d : XD} (h : ¬ dx_stop d = 0) : x_quotient sg sz y d = d := if_neg h
theorem op_div {K : XK} {L : MK} {d0 d : XD} {e0 e : MD} (hc : Ctx K L d0 e0 d e) {sz : Int32} (hs : SZ sz) (sg : Bool) : RS d0 e0 (x_quotient sg sz (x_get K 0 sz d).1 (x_get K 0 sz d).2) (m_divide L sg sz e) := by
  have hL := hc.2.2.2.1
  have hf := hc.2.2.2.2.1
  rcases get_take hc v3_0 hs with ⟨v, c, a1, a2⟩ | ⟨a, a1, a2⟩
  · rw [a1]
    by_cases z : v = 0
    · unfold x_quotient m_divide
      simp only [bnd_app, a2]
      rw [if_pos hL.2.1, if_pos z, if_pos (live_m hL), if_pos z]
      have hd := fail_dead (v := 0) hL hf bad5
      rw [if_neg (dead_m hd)]
      exact Or.inr hd
    · rcases hs with q | q | q
      · subst q
        have em : m_divide L sg 1 e = m_divideSmall sg 1 v e := by
          unfold m_divide
          simp only [bnd_app, a2]
          rw [if_pos (live_m hL), if_neg z, if_pos (live_m hL), if_neg (by decide)]
        rw [em]; exact small_div hL hf sg (Or.inl rfl) c z
      · subst q
        have em : m_divide L sg 4 e = m_divideSmall sg 4 v e := by
          unfold m_divide
          simp only [bnd_app, a2]
          rw [if_pos (live_m hL), if_neg z, if_pos (live_m hL), if_neg (by decide)]
        rw [em]; exact small_div hL hf sg (Or.inr rfl) c z
      · subst q
        exact wide_div hL hf sg z a2
  · rw [a1]
    have hd := ctx_dead hc a bad3
    refine Or.inr (dead_same ?_ ?_ hd)
    · rw [xd_quot (dead_x hd)]
    · unfold m_divide
      simp only [bnd_app, a2]
      rw [if_neg (dead_m hd), if_neg (dead_m hd)]
