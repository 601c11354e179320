def MLay (K : MK) : Prop := 0 ≤ (km_fin K).toInt ∧ (km_fin K).toInt ≤ 262144 ∧ 0 ≤ (km_heapSize K).toInt ∧ (km_heapSize K).toInt ≤ 65536
def MReg (K : MK) : Prop := ∀ k : Int32, vp_in k 3 → vp_in (km_places K k.toNatClampNeg) 16
def MAdr (K : MK) : Prop := km_index K < 0 ∨ vp_in (km_index K) 16
def MGd (K : MK) : Prop := MLay K ∧ MReg K ∧ ∀ k : Int32, vp_in k 3 → km_kinds K k.toNatClampNeg = 2 → MAdr K
theorem madr_i {K : MK} (h : MAdr K) (c : ¬ km_index K < 0) : vp_in (km_index K) 16 := by
  rcases h with h | h
  · exact absurd h c
  · exact h
theorem m_and_in (p : Int32) : vp_in (p &&& (65535 : Int32)) 65536 := pk_andIn p 16 (by decide) (by decide)
/-- a number of 16 bits under a higher bit: or is plus -/
theorem or16 {x : Int32} (k : Nat) (hk : k < 16384) (h0 : 0 ≤ x.toInt) (h1 : x.toInt < 65536) : (Int32.ofNat (65536 * k) ||| x).toInt = 65536 * k + x.toInt := by
  have hx : x.toBitVec.toNat < 65536 ∧ (x.toBitVec.toNat : Int) = x.toInt := by
    have e : x.toInt = x.toBitVec.toInt := rfl
    rw [e] at h0 h1 ⊢
    rw [BitVec.toInt_eq_toNat_cond] at h0 h1 ⊢
    have := x.toBitVec.isLt
    split at h0 <;> split at h1 <;> simp_all <;> omega
  have e1 : (Int32.ofNat (65536 * k) ||| x).toInt = (BitVec.ofNat 32 (65536 * k) ||| x.toBitVec).toInt := rfl
  have e2 : (BitVec.ofNat 32 (65536 * k) ||| x.toBitVec).toNat = 65536 * k + x.toBitVec.toNat := by
    rw [BitVec.toNat_or, BitVec.toNat_ofNat, Nat.mod_eq_of_lt (by omega)]
    exact (Nat.two_pow_add_eq_or_of_lt (i := 16) hx.1 k).symm
  rw [e1, BitVec.toInt_eq_toNat_of_lt (by rw [e2]; omega), e2]
  have := hx.2
  omega
theorem rng_b {v N : Int64} (h : (if v < (0 : Int64) then false else (if N ≤ v then false else true)) = true) : 0 ≤ v.toInt ∧ v.toInt < N.toInt := by
  by_cases c1 : v < (0 : Int64)
  · rw [if_pos c1] at h; cases h
  · rw [if_neg c1] at h
    by_cases c2 : N ≤ v
    · rw [if_pos c2] at h; cases h
    · rw [Int64.lt_iff_toInt_lt, show (0 : Int64).toInt = 0 from by decide] at c1
      rw [Int64.le_iff_toInt_le] at c2
      omega
theorem or20 {v : Int64} (h0 : 0 ≤ v.toInt) (h1 : v.toInt < 65536) : ((1048576 : Int32) ||| v.toInt32).toInt = 1048576 + v.toInt := by
  have e := l2i_small (a := v) (by omega) (by omega)
  have := or16 (x := v.toInt32) 16 (by decide) (by omega) (by omega)
  rw [e] at this
  exact this
theorem or21 {v : Int64} (h0 : 0 ≤ v.toInt) (h1 : v.toInt < 65536) : ((2097152 : Int32) ||| v.toInt32).toInt = 2097152 + v.toInt := by
  have e := l2i_small (a := v) (by omega) (by omega)
  have := or16 (x := v.toInt32) 32 (by decide) (by omega) (by omega)
  rw [e] at this
  exact this
theorem m_find_cases {K : MK} {a : Int64} {w : Bool} (hl : MLay K) : m_find K a w = -1 ∨ vp_in (m_find K a w) 262144 ∨ (1048576 : Int32) ≤ m_find K a w := by
  obtain ⟨r1, r2, r3, r4⟩ := hl
  unfold m_find
  simp only [bnd]
  by_cases b2 : (if a - 4194304 < (0 : Int64) then false else (if (km_fin K).toInt64 ≤ a - 4194304 then false else true)) = true
  · rw [if_pos b2]
    have h := rng_b b2
    rw [i2l_toInt] at h
    have key : ∀ B : Bool, (if B = true then (a - 4194304).toInt32 else (-1 : Int32)) = -1 ∨ vp_in (if B = true then (a - 4194304).toInt32 else (-1 : Int32)) 262144 ∨ (1048576 : Int32) ≤ (if B = true then (a - 4194304).toInt32 else (-1 : Int32)) := by
      intro B
      cases B
      · exact Or.inl rfl
      · refine Or.inr (Or.inl (vp_in_iff.mpr ?_))
        rw [if_pos rfl, l2i_small (by omega) (by omega)]
        exact ⟨h.1, by omega⟩
    exact key _
  · rw [if_neg b2]
    by_cases b6 : (if a - m_heapBegin K < (0 : Int64) then false else (if (km_heapSize K).toInt64 ≤ a - m_heapBegin K then false else true)) = true
    · rw [if_pos b6]
      have h := rng_b b6
      rw [i2l_toInt] at h
      refine Or.inr (Or.inr ?_)
      rw [Int32.le_iff_toInt_le, or20 h.1 (by omega), show (1048576 : Int32).toInt = 1048576 from by decide]
      omega
    · rw [if_neg b6]
      by_cases c1 : a - 2147414016 < (0 : Int64)
      · rw [if_pos c1]; exact Or.inl rfl
      · rw [if_neg c1]
        by_cases c2 : (65536 : Int64) ≤ a - 2147414016
        · rw [if_pos c2]; exact Or.inl rfl
        · rw [if_neg c2]
          rw [Int64.lt_iff_toInt_lt, show (0 : Int64).toInt = 0 from by decide] at c1
          rw [Int64.le_iff_toInt_le, show (65536 : Int64).toInt = 65536 from by decide] at c2
          refine Or.inr (Or.inr ?_)
          rw [Int32.le_iff_toInt_le, or21 (by omega) (by omega), show (1048576 : Int32).toInt = 1048576 from by decide]
          omega
theorem m_find_in {K : MK} {a : Int64} {w : Bool} (hl : MLay K) (h : 0 ≤ m_find K a w) : ¬ (1048576 : Int32) ≤ m_find K a w → vp_in (m_find K a w) 262144 := by
  intro hq
  rcases m_find_cases (a := a) (w := w) hl with c | c | c
  · rw [c] at h; exact absurd h (by decide)
  · exact c
  · exact absurd c hq
theorem m_find_in2 {K : MK} {a : Int64} {w : Bool} {v : Int32} (e : v = m_find K a w) (hl : MLay K) (h : 0 ≤ v) : ¬ (1048576 : Int32) ≤ v → vp_in v 262144 := by
  subst e; exact m_find_in hl h
