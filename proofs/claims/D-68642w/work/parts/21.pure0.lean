/-! counters -/
theorem i_succ {k N : Int32} (c : k.toInt < N.toInt) : (k + 1).toInt = k.toInt + 1 := by
  have h2 := Int32.toInt_lt N
  have h3 := Int32.le_toInt k
  rw [Int32.toInt_add, show (1 : Int32).toInt = 1 from by decide]
  exact Int.bmod_eq_of_le (by omega) (by omega)
theorem l_succ {k N : Int64} (c : k.toInt < N.toInt) : (k + 1).toInt = k.toInt + 1 := by
  have h2 := Int64.toInt_lt N
  have h3 := Int64.le_toInt k
  rw [Int64.toInt_add, show (1 : Int64).toInt = 1 from by decide]
  exact Int.bmod_eq_of_le (by omega) (by omega)
def mI (k N : Int32) : Nat := (N.toInt - k.toInt).toNat
def mL (k N : Int64) : Nat := (N.toInt - k.toInt).toNat
def mDn (k : Int32) : Nat := (k.toInt + 1).toNat
theorem i_ge {k N : Int32} (c : ¬ N ≤ k) : k.toInt < N.toInt := by
  rw [Int32.le_iff_toInt_le] at c; omega
theorem l_ge {k N : Int64} (c : ¬ N ≤ k) : k.toInt < N.toInt := by
  rw [Int64.le_iff_toInt_le] at c; omega
theorem mI_dec {k N k' : Int32} {n : Nat} (c : ¬ N ≤ k) (hm : mI k N < n + 1) (e : k' = k + 1) : mI k' N < n := by
  have c := i_ge c
  have h := i_succ c
  unfold mI at *
  rw [e, h]; omega
theorem mL_dec {k N k' : Int64} {n : Nat} (c : ¬ N ≤ k) (hm : mL k N < n + 1) (e : k' = k + 1) : mL k' N < n := by
  have c := l_ge c
  have h := l_succ c
  unfold mL at *
  rw [e, h]; omega
theorem i_pred {k : Int32} (c : ¬ k < 0) : (k + (-1)).toInt = k.toInt - 1 := by
  rw [Int32.lt_iff_toInt_lt, show (0 : Int32).toInt = 0 from by decide] at c
  have h2 := Int32.toInt_lt k
  rw [Int32.toInt_add, show (-1 : Int32).toInt = -1 from by decide]
  rw [Int.bmod_eq_of_le (by omega) (by omega)]; omega
theorem mDn_dec {k k' : Int32} {n : Nat} (c : ¬ k < 0) (hm : mDn k < n + 1) (e : k' = k + (-1)) : mDn k' < n := by
  have h := i_pred c
  rw [Int32.lt_iff_toInt_lt, show (0 : Int32).toInt = 0 from by decide] at c
  unfold mDn at *
  rw [e, h]; omega
theorem i_nn {k N k' : Int32} (h0 : 0 ≤ k) (c : ¬ N ≤ k) (e : k' = k + 1) : 0 ≤ k' := by
  have c := i_ge c
  have h := i_succ c
  rw [Int32.le_iff_toInt_le, show (0 : Int32).toInt = 0 from by decide] at *
  rw [e, h]; omega
theorem l_nn {k N k' : Int64} (h0 : 0 ≤ k) (c : ¬ N ≤ k) (e : k' = k + 1) : 0 ≤ k' := by
  have c := l_ge c
  have h := l_succ c
  rw [Int64.le_iff_toInt_le, show (0 : Int64).toInt = 0 from by decide] at *
  rw [e, h]; omega
theorem i_in {k N : Int32} {n : Nat} (h0 : 0 ≤ k) (c : ¬ N ≤ k) (hN : N.toInt ≤ n) : vp_in k n := by
  have c := i_ge c
  rw [Int32.le_iff_toInt_le, show (0 : Int32).toInt = 0 from by decide] at h0
  exact vp_in_iff.mpr ⟨h0, by omega⟩
theorem i_in2 {k : Int32} {n : Nat} (h0 : ¬ k < 0) (c : k.toInt < n) : vp_in k n := by
  rw [Int32.lt_iff_toInt_lt, show (0 : Int32).toInt = 0 from by decide] at h0
  exact vp_in_iff.mpr ⟨by omega, c⟩
theorem b2i_t {b : Bool} (h : ¬ b2i b = 0) : b = true := by cases b <;> first | rfl | exact absurd rfl h
theorem b2i_f {b : Bool} (h : b2i b = 0) : b = false := by cases b <;> first | rfl | exact absurd h (by decide)
/-! the layout: where a byte is lies in the memory's array -/
def XLay (K : XK) : Prop := (4194304 ≤ (kx_rodataBegin K).toInt ∧ (kx_rodataEnd K).toInt ≤ 4456448 ∧ (kx_textEnd K).toInt ≤ 4456448 ∧ 4194304 ≤ (kx_dataBegin K).toInt ∧ (kx_dataEnd K).toInt ≤ 4456448) ∧ 4194304 ≤ (kx_heap K).toInt ∧ (kx_heap K).toInt ≤ 4456448 ∧ (kx_heap K).toInt ≤ (kx_broken K).toInt ∧ (kx_broken K).toInt ≤ (kx_heap K).toInt + 65536
theorem x_in_t {a lo hi : Int64} (h : ¬ b2i (x_in a lo hi) = 0) : lo.toInt ≤ a.toInt ∧ a.toInt < hi.toInt := by
  have h := b2i_t h
  unfold x_in at h
  split at h
  · cases h
  · split at h
    · cases h
    · rename_i h1 h2
      rw [Int64.lt_iff_toInt_lt] at h1
      rw [Int64.le_iff_toInt_le] at h2
      omega
theorem i64_sub_small {a b : Int64} (h1 : -9223372036854775808 ≤ a.toInt - b.toInt) (h2 : a.toInt - b.toInt < 9223372036854775808) : (a - b).toInt = a.toInt - b.toInt := by
  rw [Int64.toInt_sub]; exact Int.bmod_eq_of_le (by omega) (by omega)
theorem i64_add_small {a b : Int64} (h1 : -9223372036854775808 ≤ a.toInt + b.toInt) (h2 : a.toInt + b.toInt < 9223372036854775808) : (a + b).toInt = a.toInt + b.toInt := by
  rw [Int64.toInt_add]; exact Int.bmod_eq_of_le (by omega) (by omega)
theorem i32_add_small {a b : Int32} (h1 : -2147483648 ≤ a.toInt + b.toInt) (h2 : a.toInt + b.toInt < 2147483648) : (a + b).toInt = a.toInt + b.toInt := by
  rw [Int32.toInt_add]; exact Int.bmod_eq_of_le (by omega) (by omega)
theorem i32_sub_small {a b : Int32} (h1 : -2147483648 ≤ a.toInt - b.toInt) (h2 : a.toInt - b.toInt < 2147483648) : (a - b).toInt = a.toInt - b.toInt := by
  rw [Int32.toInt_sub]; exact Int.bmod_eq_of_le (by omega) (by omega)
theorem l2i_small {a : Int64} (h1 : -2147483648 ≤ a.toInt) (h2 : a.toInt < 2147483648) : a.toInt32.toInt = a.toInt := by
  rw [Int64.toInt_toInt32]; exact Int.bmod_eq_of_le (by omega) (by omega)
theorem i2l_toInt (a : Int32) : a.toInt64.toInt = a.toInt := Int32.toInt_toInt64 a
theorem x_where_in {K : XK} {a : Int64} {w : Bool} (hl : XLay K) (h : 0 ≤ x_where K a w) : vp_in (x_where K a w) 393216 := by
  obtain ⟨⟨r1, r2, r3, r4, r5⟩, r6, r7, r8, r9⟩ := hl
  rw [Int32.le_iff_toInt_le, show (0 : Int32).toInt = 0 from by decide] at h
  refine vp_in_iff.mpr ⟨h, ?_⟩
  clear h
  unfold x_where
  dsimp only [bnd]
  by_cases c1 : b2i (x_in a 2147414016 2147479552) = 0
  · rw [if_pos c1]
    by_cases c2 : b2i (x_in a (kx_heap K) (kx_broken K)) = 0
    · rw [if_pos c2]
      have key2 : ∀ B : Bool, (B = true → 4194304 ≤ a.toInt ∧ a.toInt < 4456448) → (if b2i B = 0 then (-1 : Int32) else (a - 4194304).toInt32).toInt < ((393216 : Nat) : Int) := by
        intro B hB
        by_cases h : b2i B = 0
        · rw [if_pos h]; decide
        · rw [if_neg h]
          have key := hB (b2i_t h)
          have e1 : (a - 4194304).toInt = a.toInt - 4194304 := i64_sub_small (by rw [show (4194304 : Int64).toInt = 4194304 from by decide]; omega) (by rw [show (4194304 : Int64).toInt = 4194304 from by decide]; omega)
          rw [l2i_small (by omega) (by omega)]; omega
      refine key2 _ (fun h => ?_)
      by_cases d1 : b2i (x_in a (kx_dataBegin K).toInt64 (kx_dataEnd K).toInt64) = 0
      · rw [if_pos d1] at h
        by_cases d2 : b2i w = 0
        · rw [if_pos d2] at h
          by_cases d3 : b2i (x_in a 4194304 (kx_textEnd K).toInt64) = 0
          · rw [if_pos d3] at h
            by_cases d4 : b2i (x_in a (kx_rodataBegin K).toInt64 (kx_rodataEnd K).toInt64) = 0
            · rw [if_pos d4] at h; cases h
            · have := x_in_t d4
              rw [i2l_toInt, i2l_toInt] at this; omega
          · have := x_in_t d3
            rw [i2l_toInt, show (4194304 : Int64).toInt = 4194304 from by decide] at this; omega
        · rw [if_neg d2] at h; cases h
      · have := x_in_t d1
        rw [i2l_toInt, i2l_toInt] at this; omega
    · rw [if_neg c2]
      have := x_in_t c2
      have e1 : (a - kx_heap K).toInt = a.toInt - (kx_heap K).toInt := i64_sub_small (by omega) (by omega)
      have e2 : (a - kx_heap K).toInt32.toInt = a.toInt - (kx_heap K).toInt := by rw [l2i_small (by omega) (by omega)]; omega
      have e3 : (262144 : Int32).toInt = 262144 := by decide
      rw [i32_add_small (by omega) (by omega)]; omega
  · rw [if_neg c1]
    have := x_in_t c1
    rw [show (2147414016 : Int64).toInt = 2147414016 from by decide, show (2147479552 : Int64).toInt = 2147479552 from by decide] at this
    have e0 : (2147479552 : Int64).toInt = 2147479552 := by decide
    have e4 : (65536 : Int64).toInt = 65536 := by decide
    have e1 : (a - 2147479552).toInt = a.toInt - 2147479552 := by rw [i64_sub_small (by omega) (by omega), e0]
    have e5 : (a - 2147479552 + 65536).toInt = a.toInt - 2147414016 := by rw [i64_add_small (by omega) (by omega), e1, e4]; omega
    have e2 : (a - 2147479552 + 65536).toInt32.toInt = a.toInt - 2147414016 := by rw [l2i_small (by omega) (by omega)]; omega
    have e3 : (327680 : Int32).toInt = 327680 := by decide
    rw [i32_add_small (by omega) (by omega)]; omega
