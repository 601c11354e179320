/-! ===== Int64 as an unsigned number: uN x ===== -/
def uN (x : Int64) : Nat := x.toUInt64.toNat
theorem uN_lt (x : Int64) : uN x < 18446744073709551616 := x.toUInt64.toNat_lt
theorem uN_inj {x y : Int64} (h : uN x = uN y) : x = y := congrArg UInt64.toInt64 (UInt64.toNat_inj.mp h)
theorem uN_add (x y : Int64) : uN (x + y) = (uN x + uN y) % 18446744073709551616 := by
  show (x.toUInt64 + y.toUInt64).toNat = _
  exact UInt64.toNat_add _ _
theorem uN_mul (x y : Int64) : uN (x * y) = (uN x * uN y) % 18446744073709551616 := by
  show (x.toUInt64 * y.toUInt64).toNat = _
  exact UInt64.toNat_mul _ _
theorem uN_shl (x : Int64) : uN (x <<< ((1 : Int32).toInt64 &&& 63)) = (2 * uN x) % 18446744073709551616 := by
  have h : (((1 : Int32).toInt64 &&& 63).toBitVec.smod 64).toNat = 1 := by decide
  show (x.toBitVec <<< (((1 : Int32).toInt64 &&& 63).toBitVec.smod 64).toNat).toNat = _
  rw [h, BitVec.toNat_shiftLeft, Nat.shiftLeft_eq, Nat.mul_comm]
  rfl
theorem uN_shr (x : Int64) (s : UInt64) : uN (x.toUInt64 >>> s).toInt64 = uN x / 2 ^ (s.toNat % 64) := by
  show (x.toUInt64 >>> s).toNat = _
  rw [UInt64.toNat_shiftRight, Nat.shiftRight_eq_div_pow]
  rfl
theorem uN_s32 (x : Int64) : uN (x.toUInt64 >>> ((32 : Int32).toInt64.toUInt64 &&& Int64.toUInt64 63)).toInt64 = uN x / 4294967296 := by
  have h : ((32 : Int32).toInt64.toUInt64 &&& Int64.toUInt64 63).toNat % 64 = 32 := by decide
  rw [uN_shr, h]
theorem uN_s63 (x : Int64) : uN (x.toUInt64 >>> ((63 : Int32).toInt64.toUInt64 &&& Int64.toUInt64 63)).toInt64 = uN x / 9223372036854775808 := by
  have h : ((63 : Int32).toInt64.toUInt64 &&& Int64.toUInt64 63).toNat % 64 = 63 := by decide
  rw [uN_shr, h]
theorem uN_lo (x : Int64) : uN (x &&& 4294967295) = uN x % 4294967296 := by
  show (x.toUInt64 &&& Int64.toUInt64 4294967295).toNat = _
  rw [UInt64.toNat_and]
  exact Nat.and_two_pow_sub_one_eq_mod _ 32
theorem uN_bit (x : Int64) : (x &&& 1) = 0 ↔ uN x % 2 = 0 := by
  have h : uN (x &&& 1) = uN x % 2 := by
    show (x.toUInt64 &&& Int64.toUInt64 1).toNat = _
    rw [UInt64.toNat_and]
    exact Nat.and_two_pow_sub_one_eq_mod _ 1
  rw [← h]
  exact ⟨fun z => by rw [z]; rfl, fun z => uN_inj (z.trans rfl)⟩
theorem uN_or {x y : Int64} (hy : uN y < 2) : uN ((x <<< ((1 : Int32).toInt64 &&& 63)) ||| y) = (2 * uN x) % 18446744073709551616 + uN y := by
  have h1 : uN ((x <<< ((1 : Int32).toInt64 &&& 63)) ||| y) = uN (x <<< ((1 : Int32).toInt64 &&& 63)) ||| uN y := UInt64.toNat_or _ _
  have h2 : (2 * uN x) % 18446744073709551616 = 2 ^ 1 * (uN x % 9223372036854775808) := by omega
  rw [h1, uN_shl, h2]
  exact (Nat.two_pow_add_eq_or_of_lt (i := 1) hy _).symm
theorem nat_xor {a : Nat} (h : a < 18446744073709551616) : a ^^^ 2 ^ 63 = (a + 9223372036854775808) % 18446744073709551616 := by
  have h1 : (a ^^^ 2 ^ 63) % 2 ^ 63 = a % 2 ^ 63 := by rw [Nat.xor_mod_two_pow, Nat.mod_self, Nat.xor_zero]
  have h2 : (a ^^^ 2 ^ 63) / 2 ^ 63 = (a / 2 ^ 63) ^^^ 1 := by rw [Nat.xor_div_two_pow, Nat.div_self (Nat.two_pow_pos 63)]
  have h3 : a / 2 ^ 63 = 0 ∨ a / 2 ^ 63 = 1 := by omega
  generalize a ^^^ 2 ^ 63 = t at h1 h2
  rcases h3 with h3 | h3
  · rw [h3] at h2
    have h2 : t / 2 ^ 63 = 1 := h2
    omega
  · rw [h3] at h2
    have h2 : t / 2 ^ 63 = 0 := h2
    omega
theorem uN_xor (x : Int64) : uN (x ^^^ (-9223372036854775808)) = (uN x + 9223372036854775808) % 18446744073709551616 := by
  rw [← nat_xor (uN_lt x)]
  exact UInt64.toNat_xor _ _
theorem uN_int (x : Int64) : x.toInt = if 2 * uN x < 18446744073709551616 then (uN x : Int) else (uN x : Int) - 18446744073709551616 := BitVec.toInt_eq_toNat_cond _
theorem uN_le (x y : Int64) : (x ^^^ (-9223372036854775808)) ≤ (y ^^^ (-9223372036854775808)) ↔ uN x ≤ uN y := by
  have hx := uN_lt x
  have hy := uN_lt y
  rw [Int64.le_iff_toInt_le, uN_int, uN_int, uN_xor, uN_xor]
  omega
theorem uN_sk (x : Int64) {k : Nat} (hk : k < 64) : uN (x.toUInt64 >>> ((nI k).toInt64.toUInt64 &&& Int64.toUInt64 63)).toInt64 = uN x / 2 ^ k := by
  have h : ((nI k).toInt64.toUInt64 &&& Int64.toUInt64 63).toNat % 64 = k := by
    rw [nI_l (by omega), UInt64.toNat_and]
    have e : (lN k).toUInt64.toNat = k % 2 ^ 64 := rfl
    have e2 : (Int64.toUInt64 63).toNat = 2 ^ 6 - 1 := by decide
    rw [e, e2, Nat.and_two_pow_sub_one_eq_mod]
    omega
  rw [uN_shr, h]
/-! ===== bits of an Int64 ===== -/
def tb (x : Int64) (i : Nat) : Bool := x.toBitVec.getLsbD i
theorem tb_ext {x y : Int64} (h : ∀ i, i < 64 → tb x i = tb y i) : x = y := Int64.toBitVec_inj.mp (BitVec.eq_of_getLsbD_eq h)
theorem tb_big {x : Int64} {i : Nat} (h : 64 ≤ i) : tb x i = false := BitVec.getLsbD_of_ge _ _ h
theorem tb_and (x y : Int64) (i : Nat) : tb (x &&& y) i = (tb x i && tb y i) := BitVec.getLsbD_and
theorem tb_or (x y : Int64) (i : Nat) : tb (x ||| y) i = (tb x i || tb y i) := BitVec.getLsbD_or
theorem tb_xor (x y : Int64) (i : Nat) : tb (x ^^^ y) i = (tb x i ^^ tb y i) := BitVec.getLsbD_xor
theorem tb_m1 : ∀ i, i < 64 → tb (-1) i = true := by decide +kernel
theorem tb_not {x : Int64} {i : Nat} (h : i < 64) : tb (x ^^^ (-1)) i = !tb x i := by rw [tb_xor, tb_m1 i h, Bool.xor_true]
theorem tb_0 (i : Nat) : tb 0 i = false := by
  show (0#64).getLsbD i = false
  simp
theorem tb_lo {m : Int64} (k : Nat) (hm : m.toBitVec.toNat = 2 ^ k - 1) (i : Nat) : tb m i = decide (i < k) := by
  show m.toBitVec.toNat.testBit i = _
  rw [hm, Nat.testBit_two_pow_sub_one]
theorem tb_1 (i : Nat) : tb 1 i = decide (i < 1) := tb_lo 1 (by decide) i
theorem tb_255 (i : Nat) : tb 255 i = decide (i < 8) := tb_lo 8 (by decide) i
theorem tb_65535 (i : Nat) : tb 65535 i = decide (i < 16) := tb_lo 16 (by decide) i
theorem tb_w (i : Nat) : tb 4294967295 i = decide (i < 32) := tb_lo 32 (by decide) i
theorem tb_m256 : ∀ i, i < 64 → tb (-256) i = decide (8 ≤ i) := by decide +kernel
theorem tb_m65536 : ∀ i, i < 64 → tb (-65536) i = decide (16 ≤ i) := by decide +kernel
theorem sm_c : ∀ k, k < 64 → (((nI k).toInt64 &&& 63).toBitVec.smod 64).toNat = k := by decide +kernel
theorem um_c : ∀ k, k < 64 → ((nI k).toInt64.toUInt64 &&& Int64.toUInt64 63).toNat % 64 = k := by decide +kernel
theorem tb_lushr (x : Int64) {y : Int32} (k : Nat) (hk : k < 64) (hy : y = nI k) (i : Nat) : tb (lushr_ x y) i = tb x (k + i) := by
  subst hy
  show (x.toUInt64 >>> ((nI k).toInt64.toUInt64 &&& Int64.toUInt64 63)).toBitVec.getLsbD i = _
  have e : (x.toUInt64 >>> ((nI k).toInt64.toUInt64 &&& Int64.toUInt64 63)).toBitVec = x.toBitVec >>> k := by
    apply BitVec.eq_of_toNat_eq
    show (x.toUInt64 >>> _).toNat = _
    rw [UInt64.toNat_shiftRight, um_c k hk, BitVec.toNat_ushiftRight]
    rfl
  rw [e, BitVec.getLsbD_ushiftRight]; rfl
theorem tb_lshr (x : Int64) {y : Int32} (k : Nat) (hk : k < 64) (hy : y = nI k) {i : Nat} (hi : i < 64) : tb (lshr_ x y) i = if k + i < 64 then tb x (k + i) else tb x 63 := by
  subst hy
  show (x.toBitVec.sshiftRight (((nI k).toInt64 &&& 63).toBitVec.smod 64).toNat).getLsbD i = _
  rw [sm_c k hk, BitVec.getLsbD_sshiftRight]
  have h : decide (64 ≤ i) = false := decide_eq_false (by omega)
  rw [h, Bool.not_false, Bool.true_and, BitVec.msb_eq_getLsbD_last]
  rfl
theorem tb_lshl (x : Int64) {y : Int32} (k : Nat) (hk : k < 64) (hy : y = nI k) {i : Nat} (hi : i < 64) : tb (lshl_ x y) i = (decide (k ≤ i) && tb x (i - k)) := by
  subst hy
  show (x.toBitVec <<< (((nI k).toInt64 &&& 63).toBitVec.smod 64).toNat).getLsbD i = _
  rw [sm_c k hk, BitVec.getLsbD_shiftLeft]
  have h : decide (i < 64) = true := decide_eq_true hi
  rw [h, Bool.true_and]
  by_cases c : i < k
  · rw [decide_eq_true c, decide_eq_false (by omega)]; rfl
  · rw [decide_eq_false c, decide_eq_true (by omega)]; rfl
theorem tb_one (x : Int64) : (x &&& 1) = 1 ↔ tb x 0 = true := by
  constructor
  · intro h
    have := congrArg (fun z => tb z 0) h
    simp only [tb_and, tb_1] at this
    simpa using this
  · intro h
    apply tb_ext
    intro i hi
    rw [tb_and, tb_1]
    by_cases c : i < 1
    · have : i = 0 := by omega
      subst this
      rw [h]; rfl
    · rw [decide_eq_false c, Bool.and_false]
theorem x_bit_tb (z : Int64) {y : Int32} (k : Nat) (hk : k < 64) (hy : y = nI k) : x_bit z y = tb z k := by
  unfold x_bit
  have h : tb (lshr_ z y) 0 = tb z k := by rw [tb_lshr z k hk hy (by decide), if_pos (by omega)]; rfl
  by_cases c : tb z k = true
  · rw [if_pos ((tb_one _).mpr (h.trans c)), c]
  · rw [if_neg (fun q => c (h.symm.trans ((tb_one _).mp q)))]
    exact (Bool.eq_false_iff.mpr c).symm
/-- the uppermost bit of a size: 7, 31 or 63 -/
def SZ (sz : Int32) : Prop := sz = 1 ∨ sz = 4 ∨ sz = 8
def top (sz : Int32) : Nat := if sz = 1 then 7 else if sz = 4 then 31 else 63
theorem top_lt (sz : Int32) : top sz < 64 := by
  unfold top; split
  · decide
  · split <;> decide
theorem top_nI {sz : Int32} (h : SZ sz) : ((8 : Int32) * sz) - 1 = nI (top sz) := by
  rcases h with h | h | h <;> subst h <;> decide
theorem m_upper_tb (z : Int64) {sz : Int32} (h : SZ sz) : m_upper z sz = 1 ↔ tb z (top sz) = true := by
  unfold m_upper
  rw [tb_one, tb_lushr z (top sz) (top_lt sz) (top_nI h)]; rfl
theorem cut_eq (v : Int64) (sz : Int32) : m_cut v sz = x_cut v sz := rfl
theorem signed_eq (v : Int64) (sz : Int32) : m_signed v sz = x_signed v sz := rfl
theorem tb_cut (v : Int64) {sz : Int32} (h : SZ sz) (i : Nat) : tb (x_cut v sz) i = (decide (i ≤ top sz) && tb v i) := by
  rcases h with h | h | h <;> subst h
  · show tb (v &&& 255) i = _
    rw [tb_and, tb_255, Bool.and_comm]
    rw [show decide (i < 8) = decide (i ≤ top 1) from decide_eq_decide.mpr (by rw [show top 1 = 7 from rfl]; omega)]
  · show tb (v &&& 4294967295) i = _
    rw [tb_and, tb_w, Bool.and_comm]
    rw [show decide (i < 32) = decide (i ≤ top 4) from decide_eq_decide.mpr (by rw [show top 4 = 31 from rfl]; omega)]
  · show tb v i = _
    by_cases c : i ≤ 63
    · rw [show decide (i ≤ top 8) = true from decide_eq_true c, Bool.true_and]
    · rw [tb_big (by omega), Bool.and_false]
theorem tb_signed (v : Int64) {sz : Int32} (h : SZ sz) {i : Nat} (hi : i < 64) : tb (x_signed v sz) i = if i ≤ top sz then tb v i else tb v (top sz) := by
  rcases h with h | h | h <;> subst h
  · show ((((v.toBitVec.signExtend 32).signExtend 8).signExtend 32).signExtend 64).getLsbD i = if i ≤ 7 then v.toBitVec.getLsbD i else v.toBitVec.getLsbD 7
    simp only [BitVec.getLsbD_signExtend, BitVec.msb_eq_getLsbD_last]
    by_cases c : i ≤ 7
    · simp [c, hi, show i < 32 by omega, show i < 8 by omega]
    · by_cases c2 : i < 32
      · simp [c, hi, c2, show ¬ i < 8 by omega]
      · simp [c, hi, c2]
  · show ((v.toBitVec.signExtend 32).signExtend 64).getLsbD i = if i ≤ 31 then v.toBitVec.getLsbD i else v.toBitVec.getLsbD 31
    simp only [BitVec.getLsbD_signExtend, BitVec.msb_eq_getLsbD_last]
    by_cases c : i ≤ 31
    · simp [c, hi, show i < 32 by omega]
    · simp [c, hi, show ¬ i < 32 by omega]
  · show tb v i = _
    rw [if_pos (show i ≤ top 8 from by rw [show top 8 = 63 from rfl]; omega)]
theorem neg_tb (v : Int64) : v < 0 ↔ tb v 63 = true := by
  rw [Int64.lt_iff_toInt_lt, show (0 : Int64).toInt = 0 from by decide]
  show v.toBitVec.toInt < 0 ↔ _
  rw [BitVec.toInt_neg_iff]
  have e : tb v 63 = v.toBitVec.msb := (BitVec.msb_eq_getLsbD_last _).symm
  rw [e, BitVec.msb_eq_decide, decide_eq_true_eq]
  omega
theorem isNeg_tb (v : Int64) {sz : Int32} (h : SZ sz) : x_isNegative v sz = tb v (top sz) := by
  unfold x_isNegative
  have e : tb (x_signed v sz) 63 = tb v (top sz) := by
    rw [tb_signed v h (by decide)]
    have := top_lt sz
    by_cases c : 63 ≤ top sz
    · rw [if_pos c, show top sz = 63 by omega]
    · rw [if_neg c]
  by_cases c : tb v (top sz) = true
  · rw [if_neg (Int64.not_le.mpr ((neg_tb _).mpr (e.trans c))), c]
  · rw [if_pos (Int64.not_lt.mp (fun q => c (e.symm.trans ((neg_tb _).mp q))))]
    exact (Bool.eq_false_iff.mpr c).symm
theorem cut_cut (v : Int64) {sz : Int32} (h : SZ sz) : x_cut (x_cut v sz) sz = x_cut v sz := by
  apply tb_ext; intro i _
  rw [tb_cut _ h, tb_cut _ h, ← Bool.and_assoc, Bool.and_self]
theorem tb_cut_le {v w : Int64} {sz : Int32} (h : SZ sz) (e : x_cut v sz = x_cut w sz) {i : Nat} (hi : i ≤ top sz) : tb v i = tb w i := by
  have := congrArg (fun z => tb z i) e
  simp only [tb_cut _ h, decide_eq_true hi, Bool.true_and] at this
  exact this
theorem signed_cut {v w : Int64} {sz : Int32} (h : SZ sz) (e : x_cut v sz = x_cut w sz) : x_signed v sz = x_signed w sz := by
  apply tb_ext; intro i hi
  rw [tb_signed v h hi, tb_signed w h hi]
  by_cases c : i ≤ top sz
  · rw [if_pos c, if_pos c, tb_cut_le h e c]
  · rw [if_neg c, if_neg c, tb_cut_le h e (Nat.le_refl _)]
theorem cut_signed (v : Int64) {sz : Int32} (h : SZ sz) : x_cut (x_signed v sz) sz = x_cut v sz := by
  apply tb_ext; intro i hi
  rw [tb_cut _ h, tb_cut _ h, tb_signed v h hi]
  by_cases c : i ≤ top sz
  · rw [if_pos c]
  · rw [decide_eq_false c, Bool.false_and, Bool.false_and]
theorem signed_nz {y : Int64} {sz : Int32} (h : SZ sz) (hc : x_cut y sz = y) (hy : ¬ y = 0) : ¬ x_signed y sz = 0 := by
  intro q
  apply hy
  rw [← hc, ← cut_signed y h, q]
  rcases h with h | h | h <;> subst h <;> rfl
/-! unsigned values -/
theorem uN_tb (x : Int64) : uN x = x.toBitVec.toNat := rfl
theorem uN_lo8 (x : Int64) : uN (x &&& 255) = uN x % 256 := by
  show (x.toUInt64 &&& Int64.toUInt64 255).toNat = _
  rw [UInt64.toNat_and]
  exact Nat.and_two_pow_sub_one_eq_mod _ 8
def pw (sz : Int32) : Nat := if sz = 1 then 256 else if sz = 4 then 4294967296 else 18446744073709551616
theorem pw_cases {sz : Int32} (h : SZ sz) : (sz = 1 ∧ pw sz = 256) ∨ (sz = 4 ∧ pw sz = 4294967296) ∨ (sz = 8 ∧ pw sz = 18446744073709551616) := by
  rcases h with h | h | h <;> subst h
  · exact Or.inl ⟨rfl, rfl⟩
  · exact Or.inr (Or.inl ⟨rfl, rfl⟩)
  · exact Or.inr (Or.inr ⟨rfl, rfl⟩)
theorem pw_top {sz : Int32} (h : SZ sz) : pw sz = 2 ^ (top sz + 1) := by
  rcases h with h | h | h <;> subst h <;> decide
theorem uN_cut (v : Int64) {sz : Int32} (h : SZ sz) : uN (x_cut v sz) = uN v % pw sz := by
  rcases h with h | h | h <;> subst h
  · exact uN_lo8 v
  · exact uN_lo v
  · exact (Nat.mod_eq_of_lt (uN_lt v)).symm
theorem uN_sub (x y : Int64) : uN (x - y) = (18446744073709551616 - uN y + uN x) % 18446744073709551616 := BitVec.toNat_sub _ _
theorem below_iff (a b : Int64) : m_below a b = true ↔ uN a < uN b := by
  unfold m_below
  by_cases c : (b ^^^ (-9223372036854775808)) ≤ (a ^^^ (-9223372036854775808))
  · rw [if_pos c]
    have := (uN_le b a).mp c
    exact ⟨fun h => (by cases h), fun h => (by omega)⟩
  · rw [if_neg c]
    have : ¬ uN b ≤ uN a := fun q => c ((uN_le b a).mpr q)
    exact ⟨fun _ => (by omega), fun _ => rfl⟩
theorem add_min (x : Int64) : x + (-9223372036854775808) = x ^^^ (-9223372036854775808) := by
  apply uN_inj
  rw [uN_add, uN_xor]
  rw [show uN (-9223372036854775808) = 9223372036854775808 from by decide]
theorem cu_lt_iff (x y : Int64) : j_compareUnsigned x y < 0 ↔ uN x < uN y := by
  rw [cu_lt, add_min, add_min]
  have := uN_le y x
  constructor
  · intro h
    have : ¬ uN y ≤ uN x := fun q => (Int64.not_le.mpr h) ((uN_le y x).mpr q)
    omega
  · intro h
    exact Int64.not_le.mp (fun q => absurd ((uN_le y x).mp q) (by omega))
theorem cu_gt_iff (x y : Int64) : 0 < j_compareUnsigned x y ↔ uN y < uN x := by
  rw [cu_gt, add_min, add_min]
  constructor
  · intro h
    have : ¬ uN x ≤ uN y := fun q => (Int64.not_le.mpr h) ((uN_le x y).mpr q)
    omega
  · intro h
    exact Int64.not_le.mp (fun q => absurd ((uN_le x y).mp q) (by omega))
theorem neg_uN (x : Int64) : x < 0 ↔ 9223372036854775808 ≤ uN x := by
  rw [Int64.lt_iff_toInt_lt, show (0 : Int64).toInt = 0 from by decide, uN_int]
  have := uN_lt x
  split <;> omega
