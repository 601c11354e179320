theorem x_hasL_all {K : XK} {a : Int64} {sz : Int32} {w : Bool} : ∀ (n : Nat) (acc : Bool) (k : Int32), x_has_L6 K a sz w n acc k = true → acc = true ∧ ∀ j : Int32, k ≤ j → ¬ sz ≤ j → 0 ≤ x_where K (a + j.toInt64) w := by
  intro n
  induction n with
  | zero => intro acc k h; cases h
  | succ n ih =>
    intro acc k h
    rw [x_has_L6_s] at h
    by_cases c : sz ≤ k
    · rw [if_pos c] at h
      exact ⟨h, fun j h1 h2 => absurd (Int32.le_trans c h1) h2⟩
    · rw [if_neg c] at h
      simp only [bnd] at h
      by_cases ca : b2i acc = 0
      · rw [if_pos ca] at h
        simp only [Bool.false_eq_true, if_false] at h
        exact absurd (ih _ _ h).1 (by decide)
      · rw [if_neg ca] at h
        by_cases cw : x_where K (a + k.toInt64) w < 0
        · rw [if_pos cw] at h
          simp only [Bool.false_eq_true, if_false] at h
          exact absurd (ih _ _ h).1 (by decide)
        · rw [if_neg cw] at h
          simp only [if_true] at h
          refine ⟨b2i_t ca, fun j h1 h2 => ?_⟩
          by_cases e : j = k
          · rw [e]; exact Int32.not_lt.mp cw
          · refine (ih _ _ h).2 j ?_ h2
            have c' := i_ge c
            have hs := i_succ c'
            rw [Int32.le_iff_toInt_le] at *
            have : j.toInt ≠ k.toInt := fun q => e (Int32.toInt_inj.mp q)
            omega
theorem x_has_all {K : XK} {a : Int64} {sz : Int32} {w : Bool} (c : ¬ b2i (x_has K a sz w) = 0) : ∀ j : Int32, 0 ≤ j → ¬ sz ≤ j → 0 ≤ x_where K (a + j.toInt64) w := (x_hasL_all _ _ _ (b2i_t c)).2
def XReg (K : XK) : Prop := ∀ k : Int32, vp_in k 3 → vp_in (kx_regs K k.toNatClampNeg) 16
def XAdr (K : XK) : Prop := (kx_base K < 0 ∨ kx_base K = 16 ∨ vp_in (kx_base K) 16) ∧ (kx_index K < 0 ∨ vp_in (kx_index K) 16)
def XGd (K : XK) : Prop := XLay K ∧ XReg K ∧ ∀ k : Int32, vp_in k 3 → kx_kinds K k.toNatClampNeg = 2 → XAdr K
theorem xadr_b {K : XK} (h : XAdr K) (c1 : ¬ kx_base K < 0) (c2 : ¬ kx_base K = 16) : vp_in (kx_base K) 16 := by
  rcases h.1 with h | h | h
  · exact absurd h c1
  · exact absurd h c2
  · exact h
theorem xadr_i {K : XK} (h : XAdr K) (c1 : 0 ≤ kx_index K) : vp_in (kx_index K) 16 := by
  rcases h.2 with h | h
  · exact absurd h (Int32.not_lt.mpr c1)
  · exact h
theorem b2i_in3 (b : Bool) : vp_in (b2i b) 3 := by cases b <;> (show ¬ (_ ∨ _)) <;> decide
theorem x_where_in2 {K : XK} {a : Int64} {w : Bool} {v : Int32} (e : v = x_where K a w) (hl : XLay K) (h : 0 ≤ v) : vp_in v 393216 := by
  subst e; exact x_where_in hl h
theorem x_brk_in {K : XK} {a : Int64} (hl : XLay K) (h0 : kx_heap K ≤ a) (c : ¬ kx_broken K ≤ a) : vp_in ((262144 : Int32) + (a - kx_heap K).toInt32) 393216 := by
  obtain ⟨-, r6, r7, r8, r9⟩ := hl
  have c := l_ge c
  rw [Int64.le_iff_toInt_le] at h0
  have e1 : (a - kx_heap K).toInt = a.toInt - (kx_heap K).toInt := i64_sub_small (by omega) (by omega)
  have e2 : (a - kx_heap K).toInt32.toInt = a.toInt - (kx_heap K).toInt := by rw [l2i_small (by omega) (by omega)]; omega
  have e3 : (262144 : Int32).toInt = 262144 := by decide
  exact vp_in_iff.mpr ⟨by rw [i32_add_small (by omega) (by omega)]; omega, by rw [i32_add_small (by omega) (by omega)]; omega⟩
theorem l_le_s {b a N a' : Int64} (h0 : b ≤ a) (c : ¬ N ≤ a) (e : a' = a + 1) : b ≤ a' := by
  have c := l_ge c
  have h := l_succ c
  rw [Int64.le_iff_toInt_le] at *
  rw [e, h]; omega
theorem i_le_s {b a N a' : Int32} (h0 : b ≤ a) (c : ¬ N ≤ a) (e : a' = a + 1) : b ≤ a' := by
  have c := i_ge c
  have h := i_succ c
  rw [Int32.le_iff_toInt_le] at *
  rw [e, h]; omega
theorem i_nn0 {k : Int32} (h : ¬ k < 0) : (k.toNatClampNeg : Int) = k.toInt := by
  rw [Int32.lt_iff_toInt_lt, show (0 : Int32).toInt = 0 from by decide] at h
  have e : k.toNatClampNeg = k.toInt.toNat := rfl
  rw [e]; omega
theorem ac_4 {k : Int32} {n : Nat} (h : ¬ k < 0 ∧ k.toInt ≤ n) : (0 : Int32).toNatClampNeg + k.toNatClampNeg ≤ n := by
  have := i_nn0 h.1
  have e : (0 : Int32).toNatClampNeg = 0 := by decide
  have h2 := h.2
  omega
theorem ac_5 {k : Int32} (h : ¬ k < 0 ∧ k.toInt ≤ 262144) : (0 : Int32).toNatClampNeg + k.toNatClampNeg ≤ 393216 := by
  have := i_nn0 h.1
  have e : (0 : Int32).toNatClampNeg = 0 := by decide
  have h2 := h.2
  omega
theorem ac_6 {k : Int32} {i : Nat} (h : ¬ k < 0 ∧ k.toInt ≤ 262144) (hi : i < k.toNatClampNeg) : (0 : Int32).toNatClampNeg + i < 262144 := by
  have := i_nn0 h.1
  have e : (0 : Int32).toNatClampNeg = 0 := by decide
  have h2 := h.2
  omega
theorem dr_1 {cnt k N : Int32} (hc : 0 ≤ cnt) (h0 : cnt ≤ k) (c : ¬ N ≤ k) (h1 : N.toInt ≤ 65536) : vp_in k 65536 := i_in (Int32.le_trans hc h0) c h1
theorem dr_2 {cnt k N : Int32} (hc : 0 ≤ cnt) (h0 : cnt ≤ k) (c : ¬ N ≤ k) (h1 : N.toInt ≤ 65536) : vp_in (k - cnt) 65536 := by
  have c := i_ge c
  rw [Int32.le_iff_toInt_le] at *
  rw [show (0 : Int32).toInt = 0 from by decide] at hc
  have e : (k - cnt).toInt = k.toInt - cnt.toInt := i32_sub_small (by omega) (by omega)
  exact vp_in_iff.mpr ⟨by omega, by omega⟩
