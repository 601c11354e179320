def MSg (K : MK) (sz : Int32) : Prop := ∀ d : MD, ¬ (m_take K 0 sz d).1 = 0 → ¬ m_signed (m_take K 0 sz d).1 sz = 0
theorem qt_nz2 {s : Bool} {y z p : Int64} (e : p = if b2i s = 0 then y else z) (h : ¬ y = 0 ∧ ¬ z = 0) : ¬ p = 0 := by
  subst e
  by_cases c : b2i s = 0
  · rw [if_pos c]; exact h.1
  · rw [if_neg c]; exact h.2
theorem dv_nz2 {K : MK} {sz : Int32} (hsg : MSg K sz) {d p : MD} {g : Int64 × MD} (eg : g = m_take K 0 sz d) (ep : p = if dm_halt g.2 = 0 then (if g.1 = (0 : Int64) then (bnd (m_stopWith (5 : Int32) (0 : Int64) g.2) fun g3 => g3) else g.2) else g.2) (c : dm_halt p = 0) : ¬ g.1 = 0 ∧ ¬ m_signed g.1 sz = 0 := by
  have h : ¬ g.1 = 0 := by
    intro q
    by_cases c1 : dm_halt g.2 = 0
    · rw [if_pos c1, if_pos q] at ep
      exact mfd_c (P := False) ep (by decide) c
    · rw [if_neg c1] at ep
      rw [ep] at c; exact c1 c
  subst eg
  exact ⟨h, hsg d h⟩
def MOk (K : MK) : Prop := MGd K ∧ (km_op K = 11 → MAdr K) ∧ (¬ 21 ≤ km_op K → MSg K (km_width K))
def MIO (d : MD) : Prop := (0 ≤ dm_givenSize d ∧ (dm_givenSize d).toInt ≤ 65536) ∧ 0 ≤ dm_shownSize d ∧ (dm_shownSize d).toInt ≤ 65536
theorem v3_0 : vp_in (0 : Int32) 3 := show ¬ ((0 : Int32) < 0 ∨ 3 ≤ (0 : Int32).toNatClampNeg) by decide
theorem v3_1 : vp_in (1 : Int32) 3 := show ¬ ((1 : Int32) < 0 ∨ 3 ≤ (1 : Int32).toNatClampNeg) by decide
theorem v3_2 : vp_in (2 : Int32) 3 := show ¬ ((2 : Int32) < 0 ∨ 3 ≤ (2 : Int32).toNatClampNeg) by decide
