theorem x_allL_all {K : XK} {a cnt : Int64} {w : Bool} : ∀ (n : Nat) (acc : Bool) (k : Int64), mL k cnt < n → x_all_L6 K a cnt w n acc k = true → acc = true ∧ ∀ j : Int64, k ≤ j → ¬ cnt ≤ j → 0 ≤ x_where K (a + j) w := by
  intro n
  induction n with
  | zero => intro acc k h; exact absurd h (Nat.not_lt_zero _)
  | succ n ih =>
    intro acc k hm h
    rw [x_all_L6_s] at h
    by_cases c : cnt ≤ k
    · rw [if_pos c] at h
      exact ⟨h, fun j h1 h2 => absurd (Int64.le_trans c h1) h2⟩
    · rw [if_neg c] at h
      simp only [bnd] at h
      by_cases ca : b2i acc = 0
      · rw [if_pos ca] at h
        rw [b2i_f ca] at h; cases h
      · rw [if_neg ca] at h
        have ih2 := ih _ _ (mL_dec c hm rfl) h
        by_cases cw : x_where K (a + k) w < 0
        · rw [if_pos cw] at ih2
          exact absurd ih2.1 (by decide)
        · rw [if_neg cw] at ih2
          refine ⟨b2i_t ca, fun j h1 h2 => ?_⟩
          by_cases e : j = k
          · rw [e]; exact Int32.not_lt.mp cw
          · refine ih2.2 j ?_ h2
            have c' := l_ge c
            have hs := l_succ c'
            rw [Int64.le_iff_toInt_le] at *
            have : j.toInt ≠ k.toInt := fun q => e (Int64.toInt_inj.mp q)
            omega
theorem x_all_all {K : XK} {a cnt : Int64} {w : Bool} (c : ¬ b2i (x_all K a cnt w) = 0) : ∀ j : Int64, 0 ≤ j → ¬ cnt ≤ j → 0 ≤ x_where K (a + j) w := (x_allL_all _ _ _ (Nat.lt_succ_self _) (b2i_t c)).2
theorem x_all_i {K : XK} {a : Int64} {n k : Int32} {w : Bool} (c : ¬ b2i (x_all K a n.toInt64 w) = 0) (h0 : 0 ≤ k) (h1 : ¬ n ≤ k) : 0 ≤ x_where K (a + k.toInt64) w := by
  refine x_all_all c _ ?_ ?_
  · rw [Int64.le_iff_toInt_le, i2l_toInt]; rw [Int32.le_iff_toInt_le] at h0; exact h0
  · rw [Int64.le_iff_toInt_le, i2l_toInt, i2l_toInt]; rw [Int32.le_iff_toInt_le] at h1; exact h1
/-- the number that is read: not negative, at most what is there -/
theorem ri_n {p N : Int32} {x : Int64} (hN : 0 ≤ N ∧ N.toInt ≤ 65536) (e : p = if 0 ≤ j_compareUnsigned x N.toInt64 then N else x.toInt32) : 0 ≤ p ∧ p.toInt ≤ N.toInt := by
  rw [e]
  have h0 : 0 ≤ N.toInt := by have := hN.1; rw [Int32.le_iff_toInt_le] at this; exact this
  by_cases c : 0 ≤ j_compareUnsigned x N.toInt64
  · rw [if_pos c]; exact ⟨hN.1, Int.le_refl _⟩
  · rw [if_neg c]
    have h := (cu_lt_nn (by rw [i2l_toInt]; exact h0)).mp (Int32.not_le.mp c)
    rw [i2l_toInt] at h
    have h2 := hN.2
    have e2 : x.toInt32.toInt = x.toInt := l2i_small (by omega) (by omega)
    rw [Int32.le_iff_toInt_le, e2]
    exact ⟨h.1, by omega⟩
theorem ri_65 {p N : Int32} (hN : 0 ≤ N ∧ N.toInt ≤ 65536) (h : 0 ≤ p ∧ p.toInt ≤ N.toInt) : p.toInt ≤ 65536 := by have := h.2; have := hN.2; omega
theorem wo_n {n : Int64} {N : Int32} (hN : 0 ≤ N ∧ N.toInt ≤ 65536) (c : ¬ 0 < j_compareUnsigned n ((65536 : Int32) - N).toInt64) : 0 ≤ n.toInt ∧ n.toInt ≤ 65536 - N.toInt := by
  have h0 : 0 ≤ N.toInt := by have := hN.1; rw [Int32.le_iff_toInt_le] at this; exact this
  have h1 := hN.2
  have e3 : (65536 : Int32).toInt = 65536 := by decide
  have e : ((65536 : Int32) - N).toInt = 65536 - N.toInt := by rw [i32_sub_small (by omega) (by omega), e3]
  rw [cu_gt_nn (by rw [i2l_toInt, e]; omega), i2l_toInt, e] at c
  omega
theorem wo_in {N N0 : Int32} {k n : Int64} (hN : 0 ≤ N0 ∧ N0.toInt ≤ 65536) (h : N.toInt = N0.toInt + k.toInt) (hk : 0 ≤ k) (c : ¬ n ≤ k) (hn : 0 ≤ n.toInt ∧ n.toInt ≤ 65536 - N0.toInt) : vp_in N 65536 := by
  have h0 : 0 ≤ N0.toInt := by have := hN.1; rw [Int32.le_iff_toInt_le] at this; exact this
  have h1 := hN.2
  rw [Int64.le_iff_toInt_le] at hk c
  rw [show (0 : Int64).toInt = 0 from by decide] at hk
  exact vp_in_iff.mpr ⟨by omega, by omega⟩
theorem wo_st {d g : XD} {b N0 : Int32} {k k' n : Int64} (e : g = x_add_out b d) (hN : 0 ≤ N0 ∧ N0.toInt ≤ 65536) (h : (dx_outN d).toInt = N0.toInt + k.toInt) (hk : 0 ≤ k) (c : ¬ n ≤ k) (hn : 0 ≤ n.toInt ∧ n.toInt ≤ 65536 - N0.toInt) (ek : k' = k + 1) : (dx_outN g).toInt = N0.toInt + k'.toInt := by
  have h0 : 0 ≤ N0.toInt := by have := hN.1; rw [Int32.le_iff_toInt_le] at this; exact this
  have h1 := hN.2
  have c' := l_ge c
  have hs := l_succ c'
  rw [Int64.le_iff_toInt_le] at hk
  rw [show (0 : Int64).toInt = 0 from by decide] at hk
  subst e
  have e1 : dx_outN (x_add_out b d) = dx_outN d + 1 := rfl
  have e3 : (1 : Int32).toInt = 1 := by decide
  rw [e1, ek, hs, i32_add_small (by omega) (by omega), h, e3]; omega
theorem wo_r {d g : XD} {b : Int32} (e : g = x_add_out b d) : dx_r g = dx_r d := by subst e; rfl
