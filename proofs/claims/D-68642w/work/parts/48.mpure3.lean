theorem m_sp_gs (p v : Int32) (d : MD) : dm_givenSize (m_setPlace p v d) = dm_givenSize d := by
  unfold m_setPlace
  split
  · split <;> rfl
  · rfl
theorem m_mayL_all {K : MK} {a cnt : Int64} {w : Bool} : ∀ (n : Nat) (k : Int64), mL k cnt < n → m_may_L19 K a cnt w n k = true → ∀ j : Int64, k ≤ j → ¬ cnt ≤ j → 0 ≤ m_find K (a + j) w := by
  intro n
  induction n with
  | zero => intro k h; exact absurd h (Nat.not_lt_zero _)
  | succ n ih =>
    intro k hm h
    rw [m_may_L19_s] at h
    by_cases c : cnt ≤ k
    · exact fun j h1 h2 => absurd (Int64.le_trans c h1) h2
    · rw [if_neg c] at h
      simp only [bnd] at h
      by_cases cw : 0 ≤ m_find K (a + k) w
      · rw [if_pos cw] at h
        have ih2 := ih _ (mL_dec c hm rfl) h
        intro j h1 h2
        by_cases e : j = k
        · rw [e]; exact cw
        · refine ih2 j ?_ h2
          have c' := l_ge c
          have hs := l_succ c'
          rw [Int64.le_iff_toInt_le] at *
          have : j.toInt ≠ k.toInt := fun q => e (Int64.toInt_inj.mp q)
          omega
      · rw [if_neg cw] at h; cases h
theorem m_may_all {K : MK} {a cnt : Int64} {w : Bool} (c : ¬ b2i (m_may K a cnt w) = 0) : ∀ j : Int64, 0 ≤ j → ¬ cnt ≤ j → 0 ≤ m_find K (a + j) w := by
  have h := b2i_t c
  unfold m_may at h
  split at h
  · cases h
  · split at h
    · exact m_mayL_all _ _ (Nat.lt_succ_self _) h
    · cases h
theorem m_may_i {K : MK} {a : Int64} {n k : Int32} {w b : Bool} (e : b = m_may K a n.toInt64 w) (c : ¬ b2i b = 0) (h0 : 0 ≤ k) (h1 : ¬ n ≤ k) : 0 ≤ m_find K (a + k.toInt64) w := by
  subst e
  refine m_may_all c _ ?_ ?_
  · rw [Int64.le_iff_toInt_le, i2l_toInt]; rw [Int32.le_iff_toInt_le] at h0; exact h0
  · rw [Int64.le_iff_toInt_le, i2l_toInt, i2l_toInt]; rw [Int32.le_iff_toInt_le] at h1; exact h1
theorem m_may_k {K : MK} {a n : Int64} {k : Int32} {w : Bool} (c : ¬ b2i (m_may K a n w) = 0) (h0 : 0 ≤ k) (h1 : ¬ n ≤ k.toInt64) : 0 ≤ m_find K (a + k.toInt64) w := by
  refine m_may_all c _ ?_ h1
  rw [Int64.le_iff_toInt_le, i2l_toInt]; rw [Int32.le_iff_toInt_le] at h0; exact h0
theorem mri_n {p N : Int32} {x : Int64} (hN : 0 ≤ N ∧ N.toInt ≤ 65536) (e : p = if x < (0 : Int64) then N else (if x ≤ N.toInt64 then x.toInt32 else N)) : 0 ≤ p ∧ p.toInt ≤ N.toInt := by
  rw [e]
  have h0 : 0 ≤ N.toInt := by have := hN.1; rw [Int32.le_iff_toInt_le] at this; exact this
  have h2 := hN.2
  by_cases c : x < (0 : Int64)
  · rw [if_pos c]; exact ⟨hN.1, Int.le_refl _⟩
  · rw [if_neg c]
    by_cases c2 : x ≤ N.toInt64
    · rw [if_pos c2]
      rw [Int64.lt_iff_toInt_lt, show (0 : Int64).toInt = 0 from by decide] at c
      rw [Int64.le_iff_toInt_le, i2l_toInt] at c2
      have e2 : x.toInt32.toInt = x.toInt := l2i_small (by omega) (by omega)
      rw [Int32.le_iff_toInt_le, e2, show (0 : Int32).toInt = 0 from by decide]
      omega
    · rw [if_neg c2]; exact ⟨hN.1, Int.le_refl _⟩
theorem fl_nn {h : Int64} {v : Int32} (c1 : ¬ h < 0) (c2 : ¬ (65536 : Int64) < h) (e : v = h.toInt32) : 0 ≤ v := by
  rw [Int64.lt_iff_toInt_lt] at c1 c2
  rw [show (0 : Int64).toInt = 0 from by decide] at c1
  rw [show (65536 : Int64).toInt = 65536 from by decide] at c2
  rw [e, Int32.le_iff_toInt_le, l2i_small (by omega) (by omega), show (0 : Int32).toInt = 0 from by decide]; omega
def mS (k : Int32) (x : Int64) : Nat := (x.toInt - k.toInt).toNat
theorem mS_s {k k' : Int32} {x : Int64} (hx : x.toInt ≤ 65536) (c : ¬ x ≤ k.toInt64) (e : k' = k + 1) : k'.toInt = k.toInt + 1 := by
  rw [Int64.le_iff_toInt_le, i2l_toInt] at c
  have := Int32.le_toInt k
  have e1 : (1 : Int32).toInt = 1 := by decide
  rw [e, i32_add_small (by omega) (by omega), e1]
theorem mS_dec {k k' : Int32} {x : Int64} {n : Nat} (hx : x.toInt ≤ 65536) (c : ¬ x ≤ k.toInt64) (hm : mS k x < n + 1) (e : k' = k + 1) : mS k' x < n := by
  have h := mS_s hx c e
  rw [Int64.le_iff_toInt_le, i2l_toInt] at c
  unfold mS at *
  omega
theorem mS_nn {k k' : Int32} {x : Int64} (hx : x.toInt ≤ 65536) (h0 : 0 ≤ k) (c : ¬ x ≤ k.toInt64) (e : k' = k + 1) : 0 ≤ k' := by
  have h := mS_s hx c e
  rw [Int32.le_iff_toInt_le, show (0 : Int32).toInt = 0 from by decide] at *
  omega
theorem mso {N : Int32} {x : Int64} {r g m : Bool} (hN : 0 ≤ N ∧ N.toInt ≤ 65536) (e1 : r = if x < (0 : Int64) then false else (if ((65536 : Int64) - N.toInt64) < x then false else true)) (e2 : g = if b2i r = 0 then false else (if b2i m = 0 then false else true)) (c : ¬ b2i g = 0) : (0 ≤ x.toInt ∧ x.toInt ≤ 65536 - N.toInt) ∧ x.toInt ≤ 65536 ∧ ¬ b2i m = 0 := by
  have h0 : 0 ≤ N.toInt := by have := hN.1; rw [Int32.le_iff_toInt_le] at this; exact this
  have h2 := hN.2
  have hg := b2i_t c
  by_cases c1 : b2i r = 0
  · rw [if_pos c1] at e2; rw [e2] at hg; cases hg
  · rw [if_neg c1] at e2
    by_cases c2 : b2i m = 0
    · rw [if_pos c2] at e2; rw [e2] at hg; cases hg
    · have hr := b2i_t c1
      by_cases c3 : x < (0 : Int64)
      · rw [if_pos c3] at e1; rw [e1] at hr; cases hr
      · rw [if_neg c3] at e1
        by_cases c4 : ((65536 : Int64) - N.toInt64) < x
        · rw [if_pos c4] at e1; rw [e1] at hr; cases hr
        · have e4 : (65536 : Int64).toInt = 65536 := by decide
          rw [Int64.lt_iff_toInt_lt, show (0 : Int64).toInt = 0 from by decide] at c3
          rw [Int64.lt_iff_toInt_lt, i64_sub_small (by rw [i2l_toInt]; omega) (by rw [i2l_toInt]; omega), i2l_toInt, e4] at c4
          exact ⟨⟨by omega, by omega⟩, by omega, c2⟩
theorem ms_in {N N0 k : Int32} {x : Int64} (hN : 0 ≤ N0 ∧ N0.toInt ≤ 65536) (hx : 0 ≤ x.toInt ∧ x.toInt ≤ 65536 - N0.toInt) (h0 : 0 ≤ k) (c : ¬ x ≤ k.toInt64) (h : N.toInt = N0.toInt + k.toInt) : vp_in N 65536 := by
  have h1 : 0 ≤ N0.toInt := by have := hN.1; rw [Int32.le_iff_toInt_le] at this; exact this
  rw [Int64.le_iff_toInt_le, i2l_toInt] at c
  rw [Int32.le_iff_toInt_le, show (0 : Int32).toInt = 0 from by decide] at h0
  exact vp_in_iff.mpr ⟨by omega, by omega⟩
theorem ms_st {N N' N0 k k' : Int32} {x : Int64} (hN : 0 ≤ N0 ∧ N0.toInt ≤ 65536) (hx : 0 ≤ x.toInt ∧ x.toInt ≤ 65536 - N0.toInt) (h0 : 0 ≤ k) (c : ¬ x ≤ k.toInt64) (h : N.toInt = N0.toInt + k.toInt) (eN : N' = N + 1) (e : k' = k + 1) : N'.toInt = N0.toInt + k'.toInt := by
  have h1 : 0 ≤ N0.toInt := by have := hN.1; rw [Int32.le_iff_toInt_le] at this; exact this
  have hs := mS_s (by omega) c e
  rw [Int64.le_iff_toInt_le, i2l_toInt] at c
  rw [Int32.le_iff_toInt_le, show (0 : Int32).toInt = 0 from by decide] at h0
  have e1 : (1 : Int32).toInt = 1 := by decide
  rw [eN, i32_add_small (by omega) (by omega), e1, hs]; omega
