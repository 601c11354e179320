theorem qt_nz {s : Bool} {y z p : Int64} (e : p = if b2i s = 0 then y else z) (h1 : ¬ y = 0 → ¬ z = 0) (h : ¬ y = 0) : ¬ p = 0 := by
  subst e
  by_cases c : b2i s = 0
  · rw [if_pos c]; exact h
  · rw [if_neg c]; exact h1 h
def XIO (d : XD) : Prop := (0 ≤ dx_inN d ∧ (dx_inN d).toInt ≤ 65536) ∧ 0 ≤ dx_outN d ∧ (dx_outN d).toInt ≤ 65536
def XSg (K : XK) (sz : Int32) : Prop := ∀ d : XD, ¬ (x_get K 0 sz d).1 = 0 → ¬ x_signed (x_get K 0 sz d).1 sz = 0
theorem xsg_of {K : XK} {sz : Int32} (h : XSg K sz) {d : XD} {g : Int64 × XD} (e : g = x_get K 0 sz d) : ¬ g.1 = 0 → ¬ x_signed g.1 sz = 0 := by
  subst e; exact h d
def XOk (K : XK) : Prop := XGd K ∧ (kx_op K = 11 → XAdr K) ∧ (¬ 24 ≤ kx_op K → XSg K (kx_size K))
theorem cu_lt {x y : Int64} : j_compareUnsigned x y < 0 ↔ (x + (-9223372036854775808 : Int64)) < (y + (-9223372036854775808 : Int64)) := by
  unfold j_compareUnsigned j_compare
  by_cases c : y + (-9223372036854775808 : Int64) ≤ x + (-9223372036854775808 : Int64)
  · rw [if_pos c]
    by_cases c2 : x + (-9223372036854775808 : Int64) = y + (-9223372036854775808 : Int64)
    · rw [if_pos c2]
      exact ⟨fun h => absurd h (by decide), fun h => absurd c (Int64.not_le.mpr h)⟩
    · rw [if_neg c2]
      exact ⟨fun h => absurd h (by decide), fun h => absurd c (Int64.not_le.mpr h)⟩
  · rw [if_neg c]
    exact ⟨fun _ => Int64.not_le.mp c, fun _ => by decide⟩
theorem cu_gt {x y : Int64} : 0 < j_compareUnsigned x y ↔ (y + (-9223372036854775808 : Int64)) < (x + (-9223372036854775808 : Int64)) := by
  unfold j_compareUnsigned j_compare
  by_cases c : y + (-9223372036854775808 : Int64) ≤ x + (-9223372036854775808 : Int64)
  · rw [if_pos c]
    by_cases c2 : x + (-9223372036854775808 : Int64) = y + (-9223372036854775808 : Int64)
    · rw [if_pos c2]
      exact ⟨fun h => absurd h (by decide), fun h => by rw [c2] at h; exact absurd h (Int64.lt_irrefl)⟩
    · rw [if_neg c2]
      refine ⟨fun _ => ?_, fun _ => by decide⟩
      rw [Int64.lt_iff_toInt_lt]
      rw [Int64.le_iff_toInt_le] at c
      have : (x + (-9223372036854775808 : Int64)).toInt ≠ (y + (-9223372036854775808 : Int64)).toInt := fun q => c2 (Int64.toInt_inj.mp q)
      omega
  · rw [if_neg c]
    refine ⟨fun h => absurd h (by decide), fun h => absurd (Int64.le_of_lt h) c⟩
theorem cu_lo {x : Int64} (h : 0 ≤ x.toInt) : (x + (-9223372036854775808 : Int64)).toInt = x.toInt - 9223372036854775808 := by
  have := Int64.toInt_lt x
  have e : (-9223372036854775808 : Int64).toInt = -9223372036854775808 := by decide
  rw [i64_add_small (by omega) (by omega), e]; omega
theorem cu_hi {x : Int64} (h : x.toInt < 0) : (x + (-9223372036854775808 : Int64)).toInt = x.toInt + 9223372036854775808 := by
  have := Int64.le_toInt x
  have e : (-9223372036854775808 : Int64).toInt = -9223372036854775808 := by decide
  rw [Int64.toInt_add, e]
  rw [show x.toInt + -9223372036854775808 = (x.toInt + 9223372036854775808) + (-1) * ((2 ^ 64 : Nat) : Int) from by omega]
  rw [Int.add_mul_bmod_self_right]
  exact Int.bmod_eq_of_le (by omega) (by omega)
/-- against a number that isn't negative, without signs: less means between 0 and it -/
theorem cu_lt_nn {x y : Int64} (hy : 0 ≤ y.toInt) : j_compareUnsigned x y < 0 ↔ 0 ≤ x.toInt ∧ x.toInt < y.toInt := by
  rw [cu_lt, Int64.lt_iff_toInt_lt, cu_lo hy]
  rcases Int.lt_or_le x.toInt 0 with h | h
  · rw [cu_hi h]; have := Int64.le_toInt x; have := Int64.toInt_lt y; omega
  · rw [cu_lo h]; omega
theorem cu_gt_nn {x y : Int64} (hy : 0 ≤ y.toInt) : 0 < j_compareUnsigned x y ↔ x.toInt < 0 ∨ y.toInt < x.toInt := by
  rw [cu_gt, Int64.lt_iff_toInt_lt, cu_lo hy]
  rcases Int.lt_or_le x.toInt 0 with h | h
  · rw [cu_hi h]; have := Int64.le_toInt x; have := Int64.toInt_lt y; omega
  · rw [cu_lo h]; omega
