/-- what the first pass of store says of the places: if nothing has stopped, the first n may be written -/
def MFd (K : MK) (a : Int64) (n : Int32) (d : MD) : Prop := dm_halt d = 0 → ∀ j : Int32, 0 ≤ j → ¬ n ≤ j → 0 ≤ m_find K (a + j.toInt64) true
theorem mfd_0 (K : MK) (a : Int64) (d : MD) : MFd K a 0 d := fun _ j h1 h2 => absurd h1 h2
theorem mfd_le {K : MK} {a : Int64} {n k : Int32} {d : MD} (h : MFd K a k d) (c : n ≤ k) : MFd K a n d := fun h0 j h1 h2 => h h0 j h1 (fun q => h2 (Int32.le_trans c q))
theorem mfd_s {K : MK} {a : Int64} {n k k' : Int32} {d : MD} (h0 : 0 ≤ k) (c : ¬ n ≤ k) (e : k' = k + 1) (h : MFd K a k d) (hk : dm_halt d = 0 → 0 ≤ m_find K (a + k.toInt64) true) : MFd K a k' d := by
  intro z j h1 h2
  by_cases q : j = k
  · rw [q]; exact hk z
  · refine h z j h1 (fun r => h2 ?_)
    have c' := i_ge c
    have hs := i_succ c'
    rw [Int32.le_iff_toInt_le] at *
    have : j.toInt ≠ k.toInt := fun y => q (Int32.toInt_inj.mp y)
    rw [e, hs]; omega
theorem mfd_st {K : MK} {a b : Int64} {k w : Int32} {d g : MD} (e : g = m_stopWith w b d) (h : MFd K a k d) (hw : ¬ w = 0) : MFd K a k g := by
  subst e
  intro z
  unfold m_stopWith at z
  by_cases c : dm_halt d = 0
  · rw [if_pos c] at z; exact absurd z hw
  · rw [if_neg c] at z; exact absurd z c
theorem mfd_c {b : Int64} {w : Int32} {d g : MD} {P : Prop} (e : g = m_stopWith w b d) (hw : ¬ w = 0) : dm_halt g = 0 → P := by
  subst e
  intro z
  unfold m_stopWith at z
  by_cases c : dm_halt d = 0
  · rw [if_pos c] at z; exact absurd z hw
  · rw [if_neg c] at z; exact absurd z c
theorem m_sp_halt (p v : Int32) (d : MD) : dm_halt (m_setPlace p v d) = dm_halt d := by
  unfold m_setPlace
  split
  · split <;> rfl
  · rfl
theorem mfd_sp {K : MK} {a : Int64} {n p v : Int32} {d g : MD} (e : g = m_setPlace p v d) (h : MFd K a n d) : MFd K a n g := by
  subst e
  intro z
  rw [m_sp_halt] at z
  exact h z
