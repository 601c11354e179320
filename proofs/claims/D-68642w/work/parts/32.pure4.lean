theorem bg_sz {im te rb re db de : Int32} (c1 : ¬ te < 0) (c2 : ¬ rb < te) (c3 : ¬ re < rb) (c4 : ¬ db < re) (c5 : ¬ de < db) (c6 : ¬ im < de) (c7 : im ≤ 262144) : ¬ im < 0 ∧ im.toInt ≤ 262144 := by
  rw [Int32.lt_iff_toInt_lt] at *
  rw [Int32.le_iff_toInt_le, show (262144 : Int32).toInt = 262144 from by decide] at c7
  rw [show (0 : Int32).toInt = 0 from by decide] at *
  omega
theorem fl_in {a : Int64} (c1 : ¬ a < 0) (c2 : ¬ (262144 : Int64) ≤ a) : vp_in a.toInt32 262144 := by
  rw [Int64.lt_iff_toInt_lt, show (0 : Int64).toInt = 0 from by decide] at c1
  rw [Int64.le_iff_toInt_le, show (262144 : Int64).toInt = 262144 from by decide] at c2
  have e := l2i_small (a := a) (by omega) (by omega)
  exact vp_in_iff.mpr ⟨by omega, by omega⟩
theorem in3_of {k : Int32} (c1 : ¬ k < 0) (c2 : ¬ (2 : Int32) < k) : vp_in k 3 := by
  rw [Int32.lt_iff_toInt_lt] at *
  rw [show (0 : Int32).toInt = 0 from by decide] at c1
  rw [show (2 : Int32).toInt = 2 from by decide] at c2
  exact vp_in_iff.mpr ⟨by omega, by omega⟩
theorem rg_in {k : Int32} (c1 : ¬ k < 0) (c2 : ¬ (16 : Int32) ≤ k) : vp_in k 16 := i_in (Int32.not_lt.mp c1) c2 (by decide)
theorem st_in {k : Int32} (c1 : ¬ k < 0) (c2 : k ≤ (16 : Int32)) (c3 : ¬ k = (16 : Int32)) : vp_in k 16 := by
  rw [Int32.lt_iff_toInt_lt, show (0 : Int32).toInt = 0 from by decide] at c1
  rw [Int32.le_iff_toInt_le, show (16 : Int32).toInt = 16 from by decide] at c2
  have : k.toInt ≠ 16 := fun q => c3 (Int32.toInt_inj.mp (by rw [q]; decide))
  exact vp_in_iff.mpr ⟨by omega, by omega⟩
def InpI (N k : Int32) : Prop := 0 ≤ N.toInt ∧ N.toInt + k.toInt + 1 ≤ 65536 ∧ -1 ≤ k.toInt
theorem inp_0 {N cnt v : Int32} (hN : 0 ≤ N ∧ N.toInt ≤ 65536) (c1 : ¬ cnt < 1) (c2 : ¬ (8 : Int32) < cnt) (c3 : N + cnt ≤ 65536) (e : v = cnt - 1) : InpI N v := by
  obtain ⟨h0, h1⟩ := hN
  rw [Int32.le_iff_toInt_le, show (0 : Int32).toInt = 0 from by decide] at h0
  rw [Int32.lt_iff_toInt_lt] at c1 c2
  rw [show (1 : Int32).toInt = 1 from by decide] at c1
  rw [show (8 : Int32).toInt = 8 from by decide] at c2
  have e1 : (1 : Int32).toInt = 1 := by decide
  rw [Int32.le_iff_toInt_le, i32_add_small (by omega) (by omega), show (65536 : Int32).toInt = 65536 from by decide] at c3
  have e2 : v.toInt = cnt.toInt - 1 := by rw [e, i32_sub_small (by omega) (by omega), e1]
  exact ⟨by omega, by omega, by omega⟩
theorem inp_in {N k : Int32} (h : InpI N k) (c : ¬ k < 0) : vp_in N 65536 := by
  obtain ⟨h0, h1, h2⟩ := h
  rw [Int32.lt_iff_toInt_lt, show (0 : Int32).toInt = 0 from by decide] at c
  exact vp_in_iff.mpr ⟨by omega, by omega⟩
theorem inp_s {N N' k k' : Int32} (h : InpI N k) (c : ¬ k < 0) (e : k' = k + (-1)) (eN : N' = N + 1) : InpI N' k' := by
  have hp := i_pred c
  obtain ⟨h0, h1, h2⟩ := h
  rw [Int32.lt_iff_toInt_lt, show (0 : Int32).toInt = 0 from by decide] at c
  have e1 : (1 : Int32).toInt = 1 := by decide
  have e2 : N'.toInt = N.toInt + 1 := by rw [eN, i32_add_small (by omega) (by omega), e1]
  have e3 : k'.toInt = k.toInt - 1 := by rw [e, hp]
  exact ⟨by omega, by omega, by omega⟩
