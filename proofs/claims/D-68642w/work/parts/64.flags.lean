/-! ===== flags ===== -/
theorem fm_c : ∀ b c p z n o : Bool, (if b2i b = 0 then flw c p z n o &&& ((1 : Int32) ^^^ (-1)) else flw c p z n o ||| 1) = flw b p z n o := by decide +kernel
theorem fm_p : ∀ b c p z n o : Bool, (if b2i b = 0 then flw c p z n o &&& ((4 : Int32) ^^^ (-1)) else flw c p z n o ||| 4) = flw c b z n o := by decide +kernel
theorem fm_z : ∀ b c p z n o : Bool, (if b2i b = 0 then flw c p z n o &&& ((64 : Int32) ^^^ (-1)) else flw c p z n o ||| 64) = flw c p b n o := by decide +kernel
theorem fm_n : ∀ b c p z n o : Bool, (if b2i b = 0 then flw c p z n o &&& ((128 : Int32) ^^^ (-1)) else flw c p z n o ||| 128) = flw c p z b o := by decide +kernel
theorem fm_o : ∀ b c p z n o : Bool, (if b2i b = 0 then flw c p z n o &&& ((2048 : Int32) ^^^ (-1)) else flw c p z n o ||| 2048) = flw c p z n b := by decide +kernel
theorem fm_co : ∀ b c p z n o : Bool, (if b2i b = 0 then flw c p z n o &&& ((2049 : Int32) ^^^ (-1)) else flw c p z n o ||| 2049) = flw b p z n b := by decide +kernel
theorem fi_c : ∀ c p z n o : Bool, (if flw c p z n o &&& (1 : Int32) = 0 then false else true) = c := by decide +kernel
theorem fi_p : ∀ c p z n o : Bool, (if flw c p z n o &&& (4 : Int32) = 0 then false else true) = p := by decide +kernel
theorem fi_z : ∀ c p z n o : Bool, (if flw c p z n o &&& (64 : Int32) = 0 then false else true) = z := by decide +kernel
theorem fi_n : ∀ c p z n o : Bool, (if flw c p z n o &&& (128 : Int32) = 0 then false else true) = n := by decide +kernel
theorem fi_o : ∀ c p z n o : Bool, (if flw c p z n o &&& (2048 : Int32) = 0 then false else true) = o := by decide +kernel
theorem mark_eq (m : Int32) (b : Bool) (d : XD) : x_mark m b d = dx_flags_ (if b2i b = 0 then dx_flags d &&& (m ^^^ (-1)) else dx_flags d ||| m) d := by
  unfold x_mark
  by_cases h : b2i b = 0
  · rw [if_pos h, if_pos h]; rfl
  · rw [if_neg h, if_neg h]; rfl
/-- M with other flags -/
def mflg (c p z n o : Bool) (e : MD) : MD := dm_carry_ c (dm_parity_ p (dm_zero_ z (dm_negative_ n (dm_over_ o e))))
theorem mflg_self (e : MD) : mflg (dm_carry e) (dm_parity e) (dm_zero e) (dm_negative e) (dm_over e) e = e := rfl
theorem mk_c {d : XD} {c p z n o : Bool} (h : dx_flags d = flw c p z n o) (b : Bool) : x_mark 1 b d = dx_flags_ (flw b p z n o) d := by rw [mark_eq, h, fm_c]
theorem mk_p {d : XD} {c p z n o : Bool} (h : dx_flags d = flw c p z n o) (b : Bool) : x_mark 4 b d = dx_flags_ (flw c b z n o) d := by rw [mark_eq, h, fm_p]
theorem mk_z {d : XD} {c p z n o : Bool} (h : dx_flags d = flw c p z n o) (b : Bool) : x_mark 64 b d = dx_flags_ (flw c p b n o) d := by rw [mark_eq, h, fm_z]
theorem mk_n {d : XD} {c p z n o : Bool} (h : dx_flags d = flw c p z n o) (b : Bool) : x_mark 128 b d = dx_flags_ (flw c p z b o) d := by rw [mark_eq, h, fm_n]
theorem mk_o {d : XD} {c p z n o : Bool} (h : dx_flags d = flw c p z n o) (b : Bool) : x_mark 2048 b d = dx_flags_ (flw c p z n b) d := by rw [mark_eq, h, fm_o]
theorem mo_f (c p z n o b : Bool) (d : XD) : x_mark 2048 b (dx_flags_ (flw c p z n o) d) = dx_flags_ (flw c p z n b) d := (mk_o (d := dx_flags_ (flw c p z n o) d) (c := c) (p := p) (z := z) (n := n) (o := o) rfl b).trans rfl
theorem mk_co {d : XD} {c p z n o : Bool} (h : dx_flags d = flw c p z n o) (b : Bool) : x_mark 2049 b d = dx_flags_ (flw b p z n b) d := by rw [mark_eq, h, fm_co]
theorem is_c {d : XD} {e : MD} (h : FL d e) : x_is 1 d = dm_carry e := by unfold x_is; rw [h, fi_c]
theorem is_p {d : XD} {e : MD} (h : FL d e) : x_is 4 d = dm_parity e := by unfold x_is; rw [h, fi_p]
theorem is_z {d : XD} {e : MD} (h : FL d e) : x_is 64 d = dm_zero e := by unfold x_is; rw [h, fi_z]
theorem is_n {d : XD} {e : MD} (h : FL d e) : x_is 128 d = dm_negative e := by unfold x_is; rw [h, fi_n]
theorem is_o {d : XD} {e : MD} (h : FL d e) : x_is 2048 d = dm_over e := by unfold x_is; rw [h, fi_o]
/-! parity: xor of the low byte's bits, or their number -/
def fold8 (b : Int32) : Int32 :=
  let b := b ^^^ (b >>> ((4 : Int32) &&& 31))
  let b := b ^^^ (b >>> ((2 : Int32) &&& 31))
  b ^^^ (b >>> ((1 : Int32) &&& 31))
def xpar (v : Int64) : Bool := if fold8 (v.toInt32 &&& 255) &&& (1 : Int32) = 0 then true else false
def bsum (v : Int64) : Int32 := 0 + (lshr_ v 0 &&& 1).toInt32 + (lshr_ v (0 + 1) &&& 1).toInt32 + (lshr_ v (0 + 1 + 1) &&& 1).toInt32 + (lshr_ v (0 + 1 + 1 + 1) &&& 1).toInt32 + (lshr_ v (0 + 1 + 1 + 1 + 1) &&& 1).toInt32 + (lshr_ v (0 + 1 + 1 + 1 + 1 + 1) &&& 1).toInt32 + (lshr_ v (0 + 1 + 1 + 1 + 1 + 1 + 1) &&& 1).toInt32 + (lshr_ v (0 + 1 + 1 + 1 + 1 + 1 + 1 + 1) &&& 1).toInt32
def mpar (v : Int64) : Bool := if bsum v - bsum v / (2 : Int32) * (2 : Int32) = 0 then true else false
theorem and1_val (x : Int64) : (x &&& 1).toInt32 = if tb x 0 = true then (1 : Int32) else 0 := by
  by_cases h : tb x 0 = true
  · rw [if_pos h, (tb_one x).mpr h]; decide
  · rw [if_neg h]
    have : x &&& 1 = 0 := by
      apply tb_ext
      intro i hi
      rw [tb_and, tb_1, tb_0]
      by_cases c : i < 1
      · have : i = 0 := by omega
        subst this
        rw [Bool.eq_false_iff.mpr h, Bool.false_and]
      · rw [decide_eq_false c, Bool.and_false]
    rw [this]; decide
theorem bit_val (v : Int64) {y : Int32} (k : Nat) (hk : k < 8) (hy : y = nI k) : (lshr_ v y &&& 1).toInt32 = nI (uN v % 256 / 2 ^ k % 2) := by
  rw [and1_val, tb_lshr v k (by omega) hy (by decide), if_pos (show k + 0 < 64 by omega)]
  have e : tb v (k + 0) = decide (uN v / 2 ^ k % 2 = 1) := by
    show (v.toBitVec.toNat).testBit (k + 0) = _
    rw [Nat.testBit_eq_decide_div_mod_eq]; rfl
  have e2 : uN v % 256 / 2 ^ k % 2 = uN v / 2 ^ k % 2 := by
    have h8 : k = 0 ∨ k = 1 ∨ k = 2 ∨ k = 3 ∨ k = 4 ∨ k = 5 ∨ k = 6 ∨ k = 7 := by omega
    rcases h8 with h | h | h | h | h | h | h | h <;> subst h <;> omega
  rw [e, e2]
  have h2 : uN v / 2 ^ k % 2 = 0 ∨ uN v / 2 ^ k % 2 = 1 := by omega
  rcases h2 with h | h <;> rw [h] <;> decide
theorem par_all : ∀ m, m < 256 → (let s := 0 + nI (m / 2 ^ 0 % 2) + nI (m / 2 ^ 1 % 2) + nI (m / 2 ^ 2 % 2) + nI (m / 2 ^ 3 % 2) + nI (m / 2 ^ 4 % 2) + nI (m / 2 ^ 5 % 2) + nI (m / 2 ^ 6 % 2) + nI (m / 2 ^ 7 % 2); (if s - s / (2 : Int32) * (2 : Int32) = 0 then true else false)) = (if fold8 (nI m) &&& (1 : Int32) = 0 then true else false) := by decide +kernel
theorem low8 (v : Int64) : v.toInt32 &&& 255 = nI (uN v % 256) := by
  rw [pk_and v.toInt32 (m := 255) 8 (by decide)]
  have e : v.toInt32.toBitVec.toNat = uN v % 4294967296 := by
    show (v.toBitVec.signExtend 32).toNat = _
    rw [BitVec.signExtend_eq_setWidth_of_le _ (by decide), BitVec.toNat_setWidth]; rfl
  rw [e]
  congr 1
  omega
theorem par_eq {v v' : Int64} (h : uN v % 256 = uN v' % 256) : mpar v' = xpar v := by
  unfold mpar xpar
  rw [low8, h]
  have e : bsum v' = 0 + nI (uN v' % 256 / 2 ^ 0 % 2) + nI (uN v' % 256 / 2 ^ 1 % 2) + nI (uN v' % 256 / 2 ^ 2 % 2) + nI (uN v' % 256 / 2 ^ 3 % 2) + nI (uN v' % 256 / 2 ^ 4 % 2) + nI (uN v' % 256 / 2 ^ 5 % 2) + nI (uN v' % 256 / 2 ^ 6 % 2) + nI (uN v' % 256 / 2 ^ 7 % 2) := by
    unfold bsum
    rw [bit_val v' 0 (by decide) (by decide), bit_val v' 1 (by decide) (by decide), bit_val v' 2 (by decide) (by decide), bit_val v' 3 (by decide) (by decide), bit_val v' 4 (by decide) (by decide), bit_val v' 5 (by decide) (by decide), bit_val v' 6 (by decide) (by decide), bit_val v' 7 (by decide) (by decide)]
  rw [e]
  exact par_all _ (Nat.mod_lt _ (by decide))
theorem cut_mod {v v' : Int64} {sz : Int32} (h : SZ sz) (e : x_cut v sz = x_cut v' sz) : uN v % 256 = uN v' % 256 := by
  have := congrArg uN e
  rw [uN_cut _ h, uN_cut _ h] at this
  rcases pw_cases h with q | q | q <;> rw [q.2] at this <;> omega
theorem zspL_eq (v : Int64) (e : MD) : m_zsp_L44 v (mI (0 : Int32) 8 + 1) 0 0 e = dm_parity_ (mpar v) e := by
  rw [show mI (0 : Int32) 8 + 1 = 9 from rfl]
  rw [m_zsp_L44_s, if_neg (by decide)]; simp only [bnd_app]
  rw [m_zsp_L44_s, if_neg (by decide)]; simp only [bnd_app]
  rw [m_zsp_L44_s, if_neg (by decide)]; simp only [bnd_app]
  rw [m_zsp_L44_s, if_neg (by decide)]; simp only [bnd_app]
  rw [m_zsp_L44_s, if_neg (by decide)]; simp only [bnd_app]
  rw [m_zsp_L44_s, if_neg (by decide)]; simp only [bnd_app]
  rw [m_zsp_L44_s, if_neg (by decide)]; simp only [bnd_app]
  rw [m_zsp_L44_s, if_neg (by decide)]; simp only [bnd_app]
  rw [m_zsp_L44_s, if_pos (by decide)]
  show (if bsum v - bsum v / (2 : Int32) * (2 : Int32) = 0 then _ else _) = _
  unfold mpar
  split <;> rfl
theorem zsp_eq (v : Int64) (sz : Int32) (e : MD) : m_zsp v sz e = mflg (dm_carry e) (mpar v) (if x_cut v sz = 0 then true else false) (if m_upper v sz = 1 then true else false) (dm_over e) e := by
  unfold m_zsp; simp only [bnd_app]; rw [zspL_eq]; rfl
theorem follow_eq {d : XD} {c p z n o : Bool} (h : dx_flags d = flw c p z n o) (v : Int64) (sz : Int32) : x_follow v sz d = dx_flags_ (flw c (xpar v) (if x_cut v sz = 0 then true else false) (x_isNegative v sz) o) d := by
  unfold x_follow; simp only [bnd_app]
  rw [mk_z h]
  rw [mk_n (d := dx_flags_ (flw c p (if x_cut v sz = 0 then true else false) n o) d) (c := c) (p := p) (z := if x_cut v sz = 0 then true else false) (n := n) (o := o) rfl]
  have e : ∀ b : Bool, x_mark 4 b (dx_flags_ (flw c p (if x_cut v sz = 0 then true else false) (x_isNegative v sz) o) (dx_flags_ (flw c p (if x_cut v sz = 0 then true else false) n o) d)) = dx_flags_ (flw c b (if x_cut v sz = 0 then true else false) (x_isNegative v sz) o) d := fun b => by
    rw [mk_p (c := c) (p := p) (z := if x_cut v sz = 0 then true else false) (n := x_isNegative v sz) (o := o) rfl]; rfl
  rw [e, e]
  unfold xpar fold8
  dsimp only
  split <;> rfl
/-- flags and nothing else -/
def FO (d : XD) (e : MD) (d' : XD) (e' : MD) : Prop := ∃ c p z n o, d' = dx_flags_ (flw c p z n o) d ∧ e' = mflg c p z n o e
theorem neg_up (v v' : Int64) {sz : Int32} (h : SZ sz) (hv : x_cut v sz = x_cut v' sz) : (if m_upper v' sz = 1 then true else false) = x_isNegative v sz := by
  rw [isNeg_tb v h, tb_cut_le h hv (Nat.le_refl _)]
  by_cases c : tb v' (top sz) = true
  · rw [if_pos ((m_upper_tb v' h).mpr c), c]
  · rw [if_neg (fun q => c ((m_upper_tb v' h).mp q))]; exact (Bool.eq_false_iff.mpr c).symm
theorem follow_zsp {d d1 : XD} {e e1 : MD} {v v' : Int64} {sz : Int32} {c p z n o : Bool} (h : SZ sz) (hv : x_cut v sz = x_cut v' sz) (hd : d1 = dx_flags_ (flw c p z n o) d) (he : e1 = mflg c p z n o e) : FO d e (x_follow v sz d1) (m_zsp v' sz e1) := by
  subst hd; subst he
  rw [follow_eq (c := c) (p := p) (z := z) (n := n) (o := o) rfl, zsp_eq, neg_up v v' h hv, par_eq (cut_mod h hv), ← hv]
  exact ⟨_, _, _, _, _, rfl, rfl⟩
/-! carry and borrow -/
def c01 (c : Bool) : Int64 := if b2i c = 0 then (0 : Int64) else (1 : Int64)
theorem c01_bv (c : Bool) : (c01 c).toBitVec = BitVec.setWidth 64 (BitVec.ofBool c) := by cases c <;> decide
theorem maj (a b k : Bool) : ((a && b) || ((a || b) && !(a ^^ (b ^^ k)))) = Bool.atLeastTwo a b k := by cases a <;> cases b <;> cases k <;> rfl
theorem carry_x {x y : Int64} {c : Bool} {sz : Int32} (h : SZ sz) (hx : x_cut x sz = x) (hy : x_cut y sz = y) : x_bit ((x &&& y) ||| ((x ||| y) &&& ((x + y + c01 c) ^^^ (-1)))) (((8 : Int32) * sz) - 1) = decide (pw sz ≤ uN x + uN y + c.toNat) := by
  have tl := top_lt sz
  rw [x_bit_tb _ (top sz) tl (top_nI h), tb_or, tb_and, tb_and, tb_or, tb_not tl]
  have e : tb (x + y + c01 c) (top sz) = (tb x (top sz) ^^ (tb y (top sz) ^^ BitVec.carry (top sz) x.toBitVec y.toBitVec c)) := by
    show (x.toBitVec + y.toBitVec + (c01 c).toBitVec).getLsbD (top sz) = _
    rw [c01_bv, BitVec.getLsbD_add_add_bool tl]; rfl
  rw [e, maj]
  have e2 := BitVec.carry_succ (top sz) x.toBitVec y.toBitVec c
  show Bool.atLeastTwo (x.toBitVec.getLsbD (top sz)) (y.toBitVec.getLsbD (top sz)) _ = _
  rw [← e2]
  unfold BitVec.carry
  rw [← pw_top h]
  have ux := congrArg uN hx
  have uy := congrArg uN hy
  rw [uN_cut _ h] at ux uy
  show decide (uN x % pw sz + uN y % pw sz + c.toNat ≥ pw sz) = _
  rw [ux, uy]
theorem add_mod {x y : Int64} (c : Bool) {sz : Int32} (h : SZ sz) : uN (x_cut (x + y + c01 c) sz) = (uN x + uN y + c.toNat) % pw sz := by
  rw [uN_cut _ h, uN_add, uN_add]
  have : uN (c01 c) = c.toNat := by cases c <;> decide
  rw [this]
  rcases pw_cases h with q | q | q <;> rw [q.2] <;> omega
theorem carry_m {x y : Int64} {c : Bool} {sz : Int32} (h : SZ sz) (hx : x_cut x sz = x) (hy : x_cut y sz = y) : (if b2i (m_below (x_cut (x + y + c01 c) sz) x) = 0 then (if b2i c = 0 then false else (if x_cut (x + y + c01 c) sz = x then true else false)) else true) = decide (pw sz ≤ uN x + uN y + c.toNat) := by
  have ux := congrArg uN hx
  have uy := congrArg uN hy
  rw [uN_cut _ h] at ux uy
  have hm := add_mod (x := x) (y := y) c h
  have hb := below_iff (x_cut (x + y + c01 c) sz) x
  have he : x_cut (x + y + c01 c) sz = x ↔ uN (x_cut (x + y + c01 c) sz) = uN x := ⟨fun q => by rw [q], uN_inj⟩
  generalize x_cut (x + y + c01 c) sz = r at *
  have hp : 0 < pw sz := by rcases pw_cases h with q | q | q <;> rw [q.2] <;> decide
  have lx : uN x < pw sz := by rw [← ux]; exact Nat.mod_lt _ hp
  have ly : uN y < pw sz := by rw [← uy]; exact Nat.mod_lt _ hp
  have hr : uN r = if uN x + uN y + c.toNat < pw sz then uN x + uN y + c.toNat else uN x + uN y + c.toNat - pw sz := by
    have cl : c.toNat ≤ 1 := by cases c <;> decide
    rw [hm]
    split
    · exact Nat.mod_eq_of_lt (by assumption)
    · rw [Nat.mod_eq_sub_mod (by omega), Nat.mod_eq_of_lt (by omega)]
  have t0 : false.toNat = 0 := rfl
  have t1 : true.toNat = 1 := rfl
  by_cases g : pw sz ≤ uN x + uN y + c.toNat
  · rw [decide_eq_true g]
    rw [if_neg (by omega)] at hr
    by_cases b : m_below r x = true
    · rw [b, if_t]
    · have nb : ¬ uN r < uN x := fun q => b (hb.mpr q)
      rw [Bool.eq_false_iff.mpr b, if_f]
      cases c
      · rw [t0] at hr g; exact absurd (show uN r < uN x by omega) nb
      · rw [t1] at hr g
        rw [if_t, if_pos (he.mpr (by omega))]
  · rw [decide_eq_false g]
    rw [if_pos (by omega)] at hr
    have nb : ¬ m_below r x = true := fun q => by have := hb.mp q; omega
    rw [Bool.eq_false_iff.mpr nb, if_f]
    cases c
    · rw [if_f]
    · rw [t1] at hr g
      rw [if_t, if_neg (fun q => by have := he.mp q; omega)]
theorem over_eq {x y v : Int64} {sz : Int32} (h : SZ sz) : (if m_upper ((x ^^^ x_cut v sz) &&& (y ^^^ x_cut v sz)) sz = 1 then true else false) = x_bit ((x ^^^ v) &&& (y ^^^ v)) (((8 : Int32) * sz) - 1) := by
  have tl := top_lt sz
  rw [x_bit_tb _ (top sz) tl (top_nI h)]
  have e : tb ((x ^^^ x_cut v sz) &&& (y ^^^ x_cut v sz)) (top sz) = tb ((x ^^^ v) &&& (y ^^^ v)) (top sz) := by
    simp only [tb_and, tb_xor, tb_cut v h, decide_eq_true (Nat.le_refl (top sz)), Bool.true_and]
  rw [← e]
  by_cases c : tb ((x ^^^ x_cut v sz) &&& (y ^^^ x_cut v sz)) (top sz) = true
  · rw [if_pos ((m_upper_tb _ h).mpr c), c]
  · rw [if_neg (fun q => c ((m_upper_tb _ h).mp q))]; exact (Bool.eq_false_iff.mpr c).symm
theorem over_eq2 {x y v : Int64} {sz : Int32} (h : SZ sz) : (if m_upper ((x ^^^ y) &&& (x ^^^ x_cut v sz)) sz = 1 then true else false) = x_bit ((x ^^^ y) &&& (x ^^^ v)) (((8 : Int32) * sz) - 1) := by
  have tl := top_lt sz
  rw [x_bit_tb _ (top sz) tl (top_nI h)]
  have e : tb ((x ^^^ y) &&& (x ^^^ x_cut v sz)) (top sz) = tb ((x ^^^ y) &&& (x ^^^ v)) (top sz) := by
    simp only [tb_and, tb_xor, tb_cut v h, decide_eq_true (Nat.le_refl (top sz)), Bool.true_and]
  rw [← e]
  by_cases c : tb ((x ^^^ y) &&& (x ^^^ x_cut v sz)) (top sz) = true
  · rw [if_pos ((m_upper_tb _ h).mpr c), c]
  · rw [if_neg (fun q => c ((m_upper_tb _ h).mp q))]; exact (Bool.eq_false_iff.mpr c).symm
theorem sum_add {d : XD} {e : MD} (hf : FL d e) {x y : Int64} {c : Bool} {sz : Int32} (h : SZ sz) (hx : x_cut x sz = x) (hy : x_cut y sz = y) : x_cut (x_sum x y c sz d).1 sz = (m_add x y c sz e).1 ∧ FO d e (x_sum x y c sz d).2 (m_add x y c sz e).2 := by
  refine ⟨rfl, ?_⟩
  unfold x_sum m_add
  simp only [bnd_app, cut_eq]
  rw [show (if b2i c = 0 then (0 : Int64) else (1 : Int64)) = c01 c from rfl]
  rw [carry_m h hx hy, carry_x h hx hy, over_eq h, mk_c hf]
  rw [mo_f]
  exact follow_zsp h (cut_cut _ h).symm (c := decide (pw sz ≤ uN x + uN y + c.toNat)) (p := dm_parity e) (z := dm_zero e) (n := dm_negative e) rfl rfl
theorem majb (a b k : Bool) : ((!a && b) || ((!a || b) && (a ^^ (!b ^^ k)))) = !Bool.atLeastTwo a (!b) k := by cases a <;> cases b <;> cases k <;> rfl
theorem sub_bv (x y : Int64) (c : Bool) : (x - y - c01 c).toBitVec = x.toBitVec + ~~~y.toBitVec + BitVec.setWidth 64 (BitVec.ofBool (!c)) := by
  show x.toBitVec - y.toBitVec - (c01 c).toBitVec = _
  rw [c01_bv]
  apply BitVec.eq_of_toNat_eq
  have lx := x.toBitVec.isLt
  have ly := y.toBitVec.isLt
  cases c
  · simp only [BitVec.toNat_sub, BitVec.toNat_add, BitVec.toNat_not, BitVec.toNat_setWidth, BitVec.toNat_ofBool, Bool.toNat_false, Bool.toNat_true, Bool.not_false]
    omega
  · simp only [BitVec.toNat_sub, BitVec.toNat_add, BitVec.toNat_not, BitVec.toNat_setWidth, BitVec.toNat_ofBool, Bool.toNat_false, Bool.toNat_true, Bool.not_true]
    omega
theorem borrow_x {x y : Int64} {c : Bool} {sz : Int32} (h : SZ sz) (hx : x_cut x sz = x) (hy : x_cut y sz = y) : x_bit (((x ^^^ (-1)) &&& y) ||| (((x ^^^ (-1)) ||| y) &&& (x - y - c01 c))) (((8 : Int32) * sz) - 1) = decide (uN x < uN y + c.toNat) := by
  have tl := top_lt sz
  rw [x_bit_tb _ (top sz) tl (top_nI h), tb_or, tb_and, tb_and, tb_or, tb_not tl]
  have ny : (~~~y.toBitVec).getLsbD (top sz) = !tb y (top sz) := by
    rw [BitVec.getLsbD_not, decide_eq_true tl, Bool.true_and]; rfl
  have e : tb (x - y - c01 c) (top sz) = (tb x (top sz) ^^ (!tb y (top sz) ^^ BitVec.carry (top sz) x.toBitVec (~~~y.toBitVec) (!c))) := by
    show (x - y - c01 c).toBitVec.getLsbD (top sz) = _
    rw [sub_bv, BitVec.getLsbD_add_add_bool tl, ny]; rfl
  rw [e, majb]
  have e2 := BitVec.carry_succ (top sz) x.toBitVec (~~~y.toBitVec) (!c)
  rw [ny] at e2
  show (!Bool.atLeastTwo (x.toBitVec.getLsbD (top sz)) (!tb y (top sz)) _) = _
  rw [← e2]
  unfold BitVec.carry
  rw [← pw_top h, BitVec.toNat_not]
  have ux := congrArg uN hx
  have uy := congrArg uN hy
  rw [uN_cut _ h] at ux uy
  show (!decide (uN x % pw sz + (2 ^ 64 - 1 - uN y) % pw sz + (!c).toNat ≥ pw sz)) = _
  have ly := uN_lt y
  have hp : 0 < pw sz := by rcases pw_cases h with q | q | q <;> rw [q.2] <;> decide
  have ly2 : uN y < pw sz := by rw [← uy]; exact Nat.mod_lt _ hp
  have e3 : (2 ^ 64 - 1 - uN y) % pw sz = pw sz - 1 - uN y := by
    rcases pw_cases h with q | q | q <;> rw [q.2] at ly2 ⊢ <;> omega
  rw [ux, e3]
  have cc : (!c).toNat + c.toNat = 1 := by cases c <;> rfl
  by_cases g : uN x < uN y + c.toNat
  · rw [decide_eq_true g, decide_eq_false (by omega)]; rfl
  · rw [decide_eq_false g, decide_eq_true (by omega)]; rfl
theorem borrow_m {x y : Int64} {c : Bool} : (if b2i (m_below x y) = 0 then (if b2i c = 0 then false else (if x = y then true else false)) else true) = decide (uN x < uN y + c.toNat) := by
  have hb := below_iff x y
  have he : x = y ↔ uN x = uN y := ⟨fun q => by rw [q], uN_inj⟩
  by_cases b : m_below x y = true
  · rw [b]
    have := hb.mp b
    rw [decide_eq_true (by omega)]; rfl
  · rw [Bool.eq_false_iff.mpr b, if_f]
    have nb : ¬ uN x < uN y := fun q => b (hb.mpr q)
    cases c
    · rw [decide_eq_false (by show ¬ uN x < uN y + 0; omega)]; rfl
    · rw [if_neg (by decide)]
      by_cases q : x = y
      · rw [if_pos q, decide_eq_true (by show uN x < uN y + 1; rw [q]; omega)]
      · have : ¬ uN x = uN y := fun z => q (he.mpr z)
        rw [if_neg q, decide_eq_false (by show ¬ uN x < uN y + 1; omega)]
theorem diff_sub {d : XD} {e : MD} (hf : FL d e) {x y : Int64} {c : Bool} {sz : Int32} (h : SZ sz) (hx : x_cut x sz = x) (hy : x_cut y sz = y) : x_cut (x_difference x y c sz d).1 sz = (m_subtract x y c sz e).1 ∧ FO d e (x_difference x y c sz d).2 (m_subtract x y c sz e).2 := by
  refine ⟨rfl, ?_⟩
  unfold x_difference m_subtract
  simp only [bnd_app, cut_eq]
  rw [show (if b2i c = 0 then (0 : Int64) else (1 : Int64)) = c01 c from rfl]
  rw [borrow_m, borrow_x h hx hy, over_eq2 h, mk_c hf]
  rw [mo_f]
  exact follow_zsp h (cut_cut _ h).symm (c := decide (uN x < uN y + c.toNat)) (p := dm_parity e) (z := dm_zero e) (n := dm_negative e) rfl rfl
/-! conditions -/
theorem and1_i (x : Int32) : x &&& 1 = 0 ∨ x &&& 1 = 1 := by
  rw [pk_and x (m := 1) 1 (by decide)]
  have : x.toBitVec.toNat % 2 ^ 1 = 0 ∨ x.toBitVec.toNat % 2 ^ 1 = 1 := by omega
  rcases this with h | h <;> rw [h]
  · exact Or.inl (by decide)
  · exact Or.inr (by decide)
theorem holds_met {d : XD} {e : MD} (h : FL d e) (cd : Int32) : x_holds cd d = m_isMet cd e := by
  unfold x_holds m_isMet
  simp only [bnd_app, is_c h, is_p h, is_z h, is_n h, is_o h]
  generalize cd >>> ((1 : Int32) &&& 31) = k
  generalize dm_carry e = c
  generalize dm_parity e = p
  generalize dm_zero e = z
  generalize dm_negative e = n
  generalize dm_over e = o
  have fin : ∀ A : Bool, (if b2i A = b2i (if cd &&& (1 : Int32) = (1 : Int32) then true else false) then false else true) = (if b2i A = b2i (if cd &&& (1 : Int32) = 0 then true else false) then true else false) := by
    intro A
    rcases and1_i cd with q | q <;> rw [q] <;> cases A <;> decide
  rw [fin]
  have same : ∀ A B : Bool, A = B → (if b2i A = b2i (if cd &&& (1 : Int32) = 0 then true else false) then true else false) = (if b2i B = b2i (if cd &&& (1 : Int32) = 0 then true else false) then true else false) := fun A B q => by rw [q]
  apply same
  by_cases k0 : k = 0
  · rw [if_pos k0, if_pos k0]
  · rw [if_neg k0, if_neg k0]
    by_cases k1 : k = 1
    · rw [if_pos k1, if_pos k1]
    · rw [if_neg k1, if_neg k1]
      by_cases k2 : k = 2
      · rw [if_pos k2, if_pos k2]
      · rw [if_neg k2, if_neg k2]
        by_cases k3 : k = 3
        · rw [if_pos k3, if_pos k3]; cases c <;> cases z <;> decide
        · rw [if_neg k3, if_neg k3]
          by_cases k4 : k = 4
          · rw [if_pos k4, if_pos k4]
          · rw [if_neg k4, if_neg k4]
            by_cases k5 : k = 5
            · rw [if_pos k5, if_pos k5]
            · rw [if_neg k5, if_neg k5]
              by_cases k6 : k = 6
              · rw [if_pos k6, if_pos k6]
              · rw [if_neg k6, if_neg k6]; cases z <;> cases n <;> cases o <;> decide
theorem flags_word : ∀ c p z n o : Bool, (2 : Int64) + (flw c p z n o).toInt64 = (if b2i o = 0 then ((((((2 : Int64) + (if b2i c = 0 then (0 : Int64) else (1 : Int64))) + (if b2i p = 0 then (0 : Int64) else (4 : Int64))) + (if b2i z = 0 then (0 : Int64) else (64 : Int64))) + (if b2i n = 0 then (0 : Int64) else (128 : Int64))) + (0 : Int64)) else ((((((2 : Int64) + (if b2i c = 0 then (0 : Int64) else (1 : Int64))) + (if b2i p = 0 then (0 : Int64) else (4 : Int64))) + (if b2i z = 0 then (0 : Int64) else (64 : Int64))) + (if b2i n = 0 then (0 : Int64) else (128 : Int64))) + (2048 : Int64))) := by decide +kernel
theorem flags_eq {d : XD} {e : MD} (h : FL d e) : (2 : Int64) + (dx_flags d).toInt64 = m_flags e := by
  unfold m_flags; simp only [bnd_app]; rw [h]; exact flags_word _ _ _ _ _
theorem flags_word2 : ∀ c p z n o : Bool, ((2 : Int32) + (flw c p z n o)).toInt64 = (2 : Int64) + (flw c p z n o).toInt64 := by decide +kernel
theorem flags_eq2 {d : XD} {e : MD} (h : FL d e) : ((2 : Int32) + dx_flags d).toInt64 = m_flags e := by
  rw [← flags_eq h, h]; exact flags_word2 _ _ _ _ _
theorem set_word : ∀ c p z n o : Bool, ((if ((2 : Int64) + (flw c p z n o).toInt64) &&& (1 : Int64) = (0 : Int64) then false else true) = c ∧ (if ((2 : Int64) + (flw c p z n o).toInt64) &&& (4 : Int64) = (0 : Int64) then false else true) = p ∧ (if ((2 : Int64) + (flw c p z n o).toInt64) &&& (64 : Int64) = (0 : Int64) then false else true) = z) ∧ (if ((2 : Int64) + (flw c p z n o).toInt64) &&& (128 : Int64) = (0 : Int64) then false else true) = n ∧ (if ((2 : Int64) + (flw c p z n o).toInt64) &&& (2048 : Int64) = (0 : Int64) then false else true) = o := by decide +kernel
theorem setFlags_eq {c p z n o : Bool} (f : Int64) (hf : f = (2 : Int64) + (flw c p z n o).toInt64) (e : MD) : m_setFlags f e = mflg c p z n o e := by
  obtain ⟨⟨h1, h2, h3⟩, h4, h5⟩ := set_word c p z n o
  rw [← hf] at h1 h2 h3 h4 h5
  unfold m_setFlags
  simp only [bnd_app]
  rw [h1, h2, h3, h4]
  by_cases q : f &&& (2048 : Int64) = (0 : Int64)
  · rw [if_pos q] at h5 ⊢; rw [← h5]; rfl
  · rw [if_neg q] at h5 ⊢; rw [← h5]; rfl
