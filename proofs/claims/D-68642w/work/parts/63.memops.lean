/-! ===== a byte, a word: read and written on both sides ===== -/
theorem and65535 {q : Int32} (h : 0 ≤ q.toInt) : (q &&& 65535).toNatClampNeg = q.toInt.toNat % 65536 := by
  rw [pk_and q (m := 65535) 16 (by decide), nI_clamp (by omega)]
  have := i_toNat h
  rw [show q.toInt.toNat = q.toBitVec.toNat by omega]
theorem byte_place {d : XD} {e : MD} {p q : Int32} (hm : RM d e) (h : PL p q) : m_byteAtPlace q e = (dx_bytes d p.toNatClampNeg) &&& 255 := by
  have n0 := PL_nn h
  have np := i_nn0 (Int32.not_lt.mpr n0.1)
  have nq := i_nn0 (Int32.not_lt.mpr n0.2.1)
  have e20 : (1048576 : Int32).toInt = 1048576 := by decide
  have e21 : (2097152 : Int32).toInt = 2097152 := by decide
  unfold m_byteAtPlace
  rcases h with h | h | h
  · rw [if_neg (by rw [Int32.le_iff_toInt_le, e20]; omega), ← hm.1 _ (by omega)]
    rw [show q.toNatClampNeg = p.toNatClampNeg by omega]
  · rw [if_pos (by rw [Int32.le_iff_toInt_le, e20]; omega), if_neg (by rw [Int32.le_iff_toInt_le, e21]; omega), and65535 (by omega), ← hm.2.1 _ (by omega)]
    rw [show 262144 + q.toInt.toNat % 65536 = p.toNatClampNeg by omega]
  · rw [if_pos (by rw [Int32.le_iff_toInt_le, e20]; omega), if_pos (by rw [Int32.le_iff_toInt_le, e21]; omega), and65535 (by omega), ← hm.2.2 _ (by omega)]
    rw [show 327680 + q.toInt.toNat % 65536 = p.toNatClampNeg by omega]
theorem upd_at (f : Nat → Int32) (k : Nat) (x : Int32) (j : Nat) : upd f k x j = if j = k then x else f j := by
  by_cases c : j = k
  · rw [if_pos c, c]; exact pk_us
  · rw [if_neg c]; exact pk_un c
theorem updL_at (f : Nat → Int64) (k : Nat) (x : Int64) (j : Nat) : vp_updL f k x j = if j = k then x else f j := rfl
/-- M with other bytes -/
def mmem (f g h : Nat → Int32) (e : MD) : MD := dm_memory_ f (dm_heap_ g (dm_stack_ h e))
theorem sp_form (q v : Int32) (e : MD) : ∃ f g h, m_setPlace q v e = mmem f g h e := by
  unfold m_setPlace
  split
  · split
    · exact ⟨dm_memory e, dm_heap e, upd (dm_stack e) (q &&& (65535 : Int32)).toNatClampNeg (vp_nar .byte (v.toInt8.toInt32)), rfl⟩
    · exact ⟨dm_memory e, upd (dm_heap e) (q &&& (65535 : Int32)).toNatClampNeg (vp_nar .byte (v.toInt8.toInt32)), dm_stack e, rfl⟩
  · exact ⟨upd (dm_memory e) q.toNatClampNeg (vp_nar .byte (v.toInt8.toInt32)), dm_heap e, dm_stack e, rfl⟩
theorem set_place {d : XD} {e : MD} {p q : Int32} (hm : RM d e) (h : PL p q) (v : Int32) : RM (dx_bytes_ (upd (dx_bytes d) p.toNatClampNeg (vp_nar .byte v.toInt8.toInt32)) d) (m_setPlace q v e) := by
  have n0 := PL_nn h
  have np := i_nn0 (Int32.not_lt.mpr n0.1)
  have nq := i_nn0 (Int32.not_lt.mpr n0.2.1)
  have e20 : (1048576 : Int32).toInt = 1048576 := by decide
  have e21 : (2097152 : Int32).toInt = 2097152 := by decide
  obtain ⟨h1, h2, h3⟩ := hm
  unfold m_setPlace
  generalize vp_nar .byte v.toInt8.toInt32 = b
  rcases h with h | h | h
  · rw [if_neg (by rw [Int32.le_iff_toInt_le, e20]; omega)]
    refine ⟨fun i hi => ?_, fun i hi => ?_, fun i hi => ?_⟩
    · show upd (dx_bytes d) p.toNatClampNeg _ i = upd (dm_memory e) q.toNatClampNeg _ i
      rw [upd_at, upd_at, h1 i hi, show q.toNatClampNeg = p.toNatClampNeg by omega]
    · show upd (dx_bytes d) p.toNatClampNeg _ (262144 + i) = dm_heap e i
      rw [upd_at, if_neg (by omega), h2 i hi]
    · show upd (dx_bytes d) p.toNatClampNeg _ (327680 + i) = dm_stack e i
      rw [upd_at, if_neg (by omega), h3 i hi]
  · rw [if_pos (by rw [Int32.le_iff_toInt_le, e20]; omega), if_neg (by rw [Int32.le_iff_toInt_le, e21]; omega)]
    refine ⟨fun i hi => ?_, fun i hi => ?_, fun i hi => ?_⟩
    · show upd (dx_bytes d) p.toNatClampNeg _ i = dm_memory e i
      rw [upd_at, if_neg (by omega), h1 i hi]
    · show upd (dx_bytes d) p.toNatClampNeg _ (262144 + i) = upd (dm_heap e) (q &&& 65535).toNatClampNeg _ i
      rw [upd_at, upd_at, h2 i hi, and65535 (by omega)]
      by_cases c : i = q.toInt.toNat % 65536
      · rw [if_pos c, if_pos (by omega)]
      · rw [if_neg c, if_neg (by omega)]
    · show upd (dx_bytes d) p.toNatClampNeg _ (327680 + i) = dm_stack e i
      rw [upd_at, if_neg (by omega), h3 i hi]
  · rw [if_pos (by rw [Int32.le_iff_toInt_le, e20]; omega), if_pos (by rw [Int32.le_iff_toInt_le, e21]; omega)]
    refine ⟨fun i hi => ?_, fun i hi => ?_, fun i hi => ?_⟩
    · show upd (dx_bytes d) p.toNatClampNeg _ i = dm_memory e i
      rw [upd_at, if_neg (by omega), h1 i hi]
    · show upd (dx_bytes d) p.toNatClampNeg _ (262144 + i) = dm_heap e i
      rw [upd_at, if_neg (by omega), h2 i hi]
    · show upd (dx_bytes d) p.toNatClampNeg _ (327680 + i) = upd (dm_stack e) (q &&& 65535).toNatClampNeg _ i
      rw [upd_at, upd_at, h3 i hi, and65535 (by omega)]
      by_cases c : i = q.toInt.toNat % 65536
      · rw [if_pos c, if_pos (by omega)]
      · rw [if_neg c, if_neg (by omega)]
theorem byte_l (b : Int32) : (b.toInt64 &&& 255) = (b &&& 255).toInt64 := by
  apply Int64.toBitVec_inj.mp
  show (b.toBitVec.signExtend 64 &&& 255#64) = (b.toBitVec &&& 255#32).signExtend 64
  apply BitVec.eq_of_getLsbD_eq
  intro i hi
  have c64 : ∀ i, i < 64 → (255#64).getLsbD i = decide (i < 8) := by decide +kernel
  have c32 : ∀ i, i < 32 → (255#32).getLsbD i = decide (i < 8) := by decide +kernel
  rw [BitVec.getLsbD_and, BitVec.getLsbD_signExtend, BitVec.getLsbD_signExtend, c64 i hi, BitVec.msb_eq_getLsbD_last, BitVec.msb_eq_getLsbD_last, BitVec.getLsbD_and, BitVec.getLsbD_and]
  by_cases c : i < 32
  · rw [if_pos c, if_pos c, c32 i c, Bool.and_assoc]
  · rw [if_neg c, if_neg c, decide_eq_false (show ¬ i < 8 by omega), c32 31 (by decide)]
    simp
theorem k_le_of {sz k j : Int32} (c : ¬ sz ≤ k) (h : k + 1 ≤ j) : k ≤ j := by
  have := i_succ (i_ge c)
  rw [Int32.le_iff_toInt_le] at *
  omega
theorem k_ne_le {sz k j : Int32} (c : ¬ sz ≤ k) (h : k ≤ j) (ne : ¬ j = k) : k + 1 ≤ j := by
  have := i_succ (i_ge c)
  have : j.toInt ≠ k.toInt := fun q => ne (Int32.toInt_inj.mp q)
  rw [Int32.le_iff_toInt_le] at *
  omega
theorem wf_pos {K : XK} {L : MK} (hl : RLay K L) {a : Int64} {w : Bool} (h : 0 ≤ x_where K a w) : PL (x_where K a w) (m_find L a w) := by
  rcases where_find hl a w with c | c
  · exact absurd c.1 (Int32.not_lt.mpr h)
  · exact c
theorem wf_neg {K : XK} {L : MK} (hl : RLay K L) {a : Int64} {w : Bool} (h : x_where K a w < 0) : ¬ 0 ≤ m_find L a w := by
  rcases where_find hl a w with c | c
  · exact Int32.not_le.mpr c.2
  · exact absurd (PL_nn c).1 (Int32.not_le.mpr h)
theorem load_ok {K : XK} {L : MK} {d : XD} {e : MD} (hl : RLay K L) (hm : RM d e) (a : Int64) (sz : Int32) : ∀ (n : Nat) (acc : Int64) (k : Int32), mI k sz < n → (∀ j : Int32, k ≤ j → ¬ sz ≤ j → 0 ≤ x_where K (a + j.toInt64) false) → m_load_L6 L a sz n acc k e = (x_read_L6 K a sz d n acc k, e) := by
  intro n
  induction n with
  | zero => intro acc k h; exact absurd h (Nat.not_lt_zero _)
  | succ n ih =>
    intro acc k hn H
    rw [m_load_L6_s, x_read_L6_s]
    by_cases c : sz ≤ k
    · rw [if_pos c, if_pos c]
    · rw [if_neg c, if_neg c]
      simp only [bnd_app]
      have hp := wf_pos hl (H k (Int32.le_refl _) c)
      rw [if_pos (PL_nn hp).2.1, byte_place hm hp, ← byte_l]
      exact ih _ _ (mI_dec c hn rfl) (fun j h1 h2 => H j (k_le_of c h1) h2)
theorem load_bad {K : XK} {L : MK} {e : MD} (hl : RLay K L) (a : Int64) (sz : Int32) : ∀ (n : Nat) (acc : Int64) (k : Int32), mI k sz < n → (∃ j : Int32, k ≤ j ∧ ¬ sz ≤ j ∧ x_where K (a + j.toInt64) false < 0) → m_load_L6 L a sz n acc k e = (0, m_stopWith 3 a e) := by
  intro n
  induction n with
  | zero => intro acc k h; exact absurd h (Nat.not_lt_zero _)
  | succ n ih =>
    intro acc k hn H
    obtain ⟨j, j1, j2, j3⟩ := H
    rw [m_load_L6_s]
    have c : ¬ sz ≤ k := fun q => j2 (Int32.le_trans q j1)
    rw [if_neg c]
    simp only [bnd_app]
    by_cases z : x_where K (a + k.toInt64) false < 0
    · rw [if_neg (wf_neg hl z)]
    · have hp := wf_pos hl (Int32.not_lt.mp z)
      rw [if_pos (PL_nn hp).2.1]
      exact ih _ _ (mI_dec c hn rfl) ⟨j, k_ne_le c j1 (fun q => z (q ▸ j3)), j2, j3⟩
theorem has_no {K : XK} {a : Int64} {sz : Int32} {w : Bool} : ∀ (n : Nat) (k : Int32), mI k sz < n → x_has_L6 K a sz w n true k = false → ∃ j : Int32, k ≤ j ∧ ¬ sz ≤ j ∧ x_where K (a + j.toInt64) w < 0 := by
  intro n
  induction n with
  | zero => intro k h; exact absurd h (Nat.not_lt_zero _)
  | succ n ih =>
    intro k hn h
    rw [x_has_L6_s] at h
    by_cases c : sz ≤ k
    · rw [if_pos c] at h; cases h
    · rw [if_neg c] at h
      simp only [bnd_app] at h
      rw [if_neg (show ¬ b2i true = 0 by decide)] at h
      by_cases z : x_where K (a + k.toInt64) w < 0
      · exact ⟨k, Int32.le_refl _, c, z⟩
      · rw [if_neg z, if_pos rfl] at h
        obtain ⟨j, j1, j2, j3⟩ := ih _ (mI_dec c hn rfl) h
        exact ⟨j, k_le_of c j1, j2, j3⟩
theorem fetch_load {K : XK} {L : MK} {d : XD} {e : MD} (hl : RLay K L) (hm : RM d e) (h0 : dx_stop d = 0) (a : Int64) (sz : Int32) : (x_fetch K a sz d = (x_read K a sz d, d) ∧ m_load L a sz e = (x_read K a sz d, e)) ∨ (x_fetch K a sz d = (0, x_fail 3 a d) ∧ m_load L a sz e = (0, m_stopWith 3 a e)) := by
  unfold x_fetch
  rw [if_pos h0]
  by_cases c : b2i (x_has K a sz false) = 0
  · rw [if_pos c]
    exact Or.inr ⟨rfl, load_bad hl a sz _ _ _ (Nat.lt_succ_self _) (has_no _ _ (Nat.lt_succ_self _) (b2i_f c))⟩
  · rw [if_neg c]
    exact Or.inl ⟨rfl, load_ok hl hm a sz _ _ _ (Nat.lt_succ_self _) (x_has_all c)⟩
/-! writing -/
theorem store_ok1 {K : XK} {L : MK} {e : MD} (hl : RLay K L) (a v : Int64) (sz : Int32) : ∀ (n : Nat) (k : Int32), mI k sz < n → (∀ j : Int32, k ≤ j → ¬ sz ≤ j → 0 ≤ x_where K (a + j.toInt64) true) → m_store_L3 L a sz v n k e = m_store_L37 L a sz v (mI (0 : Int32) sz + 1) 0 e := by
  intro n
  induction n with
  | zero => intro k h; exact absurd h (Nat.not_lt_zero _)
  | succ n ih =>
    intro k hn H
    rw [m_store_L3_s]
    by_cases c : sz ≤ k
    · rw [if_pos c]
    · rw [if_neg c]
      simp only [bnd_app]
      have hp := wf_pos hl (H k (Int32.le_refl _) c)
      rw [if_pos (PL_nn hp).2.1]
      exact ih _ (mI_dec c hn rfl) (fun j h1 h2 => H j (k_le_of c h1) h2)
theorem store_bad1 {K : XK} {L : MK} {e : MD} (hl : RLay K L) (a v : Int64) (sz : Int32) (h0 : dm_halt e = 0) : ∀ (n : Nat) (k : Int32), mI k sz < n → (∃ j : Int32, k ≤ j ∧ ¬ sz ≤ j ∧ x_where K (a + j.toInt64) true < 0) → m_store_L3 L a sz v n k e = m_stopWith 3 a e := by
  intro n
  induction n with
  | zero => intro k h; exact absurd h (Nat.not_lt_zero _)
  | succ n ih =>
    intro k hn H
    obtain ⟨j, j1, j2, j3⟩ := H
    rw [m_store_L3_s]
    have c : ¬ sz ≤ k := fun q => j2 (Int32.le_trans q j1)
    rw [if_neg c]
    simp only [bnd_app]
    by_cases z : x_where K (a + k.toInt64) true < 0
    · rw [if_neg (wf_neg hl z)]
      exact md_storeL (by rw [m_stop_0 h0]; show ¬ (3 : Int32) = 0; decide) _ _
    · have hp := wf_pos hl (Int32.not_lt.mp z)
      rw [if_pos (PL_nn hp).2.1]
      exact ih _ (mI_dec c hn rfl) ⟨j, k_ne_le c j1 (fun q => z (q ▸ j3)), j2, j3⟩
/-- the bytes that are written are the same -/
def BEq (sz : Int32) (v v' : Int64) : Prop := ∀ j : Int32, 0 ≤ j → ¬ sz ≤ j → (lshr_ v ((8 : Int32) * j)).toInt32.toInt8 = (lshr_ v' ((8 : Int32) * j)).toInt32.toInt8
theorem store_ok2 {K : XK} {L : MK} (hl : RLay K L) (a v v' : Int64) (sz : Int32) (hb : BEq sz v v') : ∀ (n : Nat) (k : Int32) (d : XD) (e : MD), mI k sz < n → 0 ≤ k → dm_halt e = 0 → RM d e → (∀ j : Int32, k ≤ j → ¬ sz ≤ j → 0 ≤ x_where K (a + j.toInt64) true) → RM (x_write_L3 K a sz v n k d) (m_store_L37 L a sz v' n k e) ∧ (∃ b, x_write_L3 K a sz v n k d = dx_bytes_ b d) ∧ ∃ f g h, m_store_L37 L a sz v' n k e = mmem f g h e := by
  intro n
  induction n with
  | zero => intro k d e h; exact absurd h (Nat.not_lt_zero _)
  | succ n ih =>
    intro k d e hn k0 h0 hm H
    rw [x_write_L3_s, m_store_L37_s]
    by_cases c : sz ≤ k
    · rw [if_pos c, if_pos c]
      exact ⟨hm, ⟨dx_bytes d, rfl⟩, dm_memory e, dm_heap e, dm_stack e, rfl⟩
    · rw [if_neg c, if_neg c, if_pos h0]
      simp only [bnd_app]
      have hp := wf_pos hl (H k (Int32.le_refl _) c)
      have hs := set_place hm hp (lshr_ v' ((8 : Int32) * k)).toInt32
      rw [← hb k k0 c] at hs
      obtain ⟨f1, g1, h1, es⟩ := sp_form (m_find L (a + k.toInt64) true) (lshr_ v' ((8 : Int32) * k)).toInt32 e
      have h0' : dm_halt (m_setPlace (m_find L (a + k.toInt64) true) (lshr_ v' ((8 : Int32) * k)).toInt32 e) = 0 := (m_sp_halt _ _ _).trans h0
      obtain ⟨r1, ⟨b, r2⟩, f2, g2, h2, r3⟩ := ih (k + 1) _ _ (mI_dec c hn rfl) (i_nn k0 c rfl) h0' hs (fun j h1 h2 => H j (k_le_of c h1) h2)
      refine ⟨r1, ⟨b, r2⟩, f2, g2, h2, ?_⟩
      rw [r3, es]; rfl
theorem store_store {K : XK} {L : MK} {d : XD} {e : MD} (hl : RLay K L) (hm : RM d e) (h0 : dx_stop d = 0) (h0' : dm_halt e = 0) (a v v' : Int64) (sz : Int32) (hb : BEq sz v v') :
    (∃ b f g h, x_store K a sz v d = dx_bytes_ b d ∧ m_store L a sz v' e = mmem f g h e ∧ RM (dx_bytes_ b d) (mmem f g h e)) ∨ (x_store K a sz v d = x_fail 3 a d ∧ m_store L a sz v' e = m_stopWith 3 a e) := by
  unfold x_store
  rw [if_pos h0]
  by_cases c : b2i (x_has K a sz true) = 0
  · rw [if_pos c]
    exact Or.inr ⟨rfl, store_bad1 hl a v' sz h0' _ _ (Nat.lt_succ_self _) (has_no _ _ (Nat.lt_succ_self _) (b2i_f c))⟩
  · rw [if_neg c]
    obtain ⟨r1, ⟨b, r2⟩, f, g, h, r3⟩ := store_ok2 hl a v v' sz hb (mI (0 : Int32) sz + 1) 0 d e (Nat.lt_succ_self _) (Int32.le_refl _) h0' hm (x_has_all c)
    refine Or.inl ⟨b, f, g, h, r2, ?_, ?_⟩
    · show m_store L a sz v' e = _
      unfold m_store
      rw [store_ok1 hl a v' sz _ _ (Nat.lt_succ_self _) (x_has_all c)]
      exact r3
    · rw [← r2, ← r3]; exact r1
/-! a word that was read has its size -/
theorem tb_byte (x : Int64) {y : Int32} (k : Nat) (hk : k < 64) (hy : y = nI k) {i : Nat} (hi : i < 64) (h : k + 8 ≤ i) : tb (lshl_ (x &&& 255) y) i = false := by
  rw [tb_lshl _ k hk hy hi, tb_and, tb_255, decide_eq_false (show ¬ i - k < 8 by omega), Bool.and_false, Bool.and_false]
theorem read_cut {K : XK} {a : Int64} {sz : Int32} {d : XD} (h : SZ sz) : x_cut (x_read K a sz d) sz = x_read K a sz d := by
  rcases h with h | h | h
  · subst h
    have e : x_read K a 1 d = x_read_L6 K a 1 d 2 0 0 := rfl
    rw [e, x_read_L6_s, if_neg (by decide)]
    simp only [bnd_app]
    rw [x_read_L6_s, if_pos (by decide)]
    apply tb_ext
    intro i hi
    rw [tb_cut _ (Or.inl rfl)]
    by_cases c : i ≤ top 1
    · rw [decide_eq_true c, Bool.true_and]
    · rw [decide_eq_false c, Bool.false_and, tb_or, tb_0, tb_byte _ 0 (by decide) (by decide) hi (by rw [show top 1 = 7 from rfl] at c; omega)]; rfl
  · subst h
    have e : x_read K a 4 d = x_read_L6 K a 4 d 5 0 0 := rfl
    rw [e, x_read_L6_s, if_neg (by decide)]
    simp only [bnd_app]
    rw [x_read_L6_s, if_neg (by decide)]
    simp only [bnd_app]
    rw [x_read_L6_s, if_neg (by decide)]
    simp only [bnd_app]
    rw [x_read_L6_s, if_neg (by decide)]
    simp only [bnd_app]
    rw [x_read_L6_s, if_pos (by decide)]
    apply tb_ext
    intro i hi
    rw [tb_cut _ (Or.inr (Or.inl rfl))]
    by_cases c : i ≤ top 4
    · rw [decide_eq_true c, Bool.true_and]
    · rw [show top 4 = 31 from rfl] at *
      rw [decide_eq_false c, Bool.false_and]
      simp only [tb_or, tb_0]
      rw [tb_byte _ 0 (by decide) (by decide) hi (by omega), tb_byte _ 8 (by decide) (by decide) hi (by omega), tb_byte _ 16 (by decide) (by decide) hi (by omega), tb_byte _ 24 (by decide) (by decide) hi (by omega)]
      rfl
  · subst h; rfl
theorem beq_cut {v v' : Int64} {sz : Int32} (h : SZ sz) (e : x_cut v sz = x_cut v' sz) : BEq sz v v' := by
  intro j j0 j1
  have jn : ∃ k : Nat, k < 8 ∧ j = nI k ∧ 8 * k + 7 ≤ top sz := by
    have q := i_ge j1
    rw [Int32.le_iff_toInt_le, show (0 : Int32).toInt = 0 from by decide] at j0
    refine ⟨j.toInt.toNat, ?_, ?_, ?_⟩
    · rcases h with h | h | h <;> subst h <;> (first | rw [show (1 : Int32).toInt = 1 from by decide] at q | rw [show (4 : Int32).toInt = 4 from by decide] at q | rw [show (8 : Int32).toInt = 8 from by decide] at q) <;> omega
    · apply Int32.toInt_inj.mp
      rw [nI_toInt (by have := Int32.toInt_lt j; omega)]; omega
    · rcases h with h | h | h <;> subst h
      · rw [show (1 : Int32).toInt = 1 from by decide] at q
        rw [show top 1 = 7 from rfl]; omega
      · rw [show (4 : Int32).toInt = 4 from by decide] at q
        rw [show top 4 = 31 from rfl]; omega
      · rw [show (8 : Int32).toInt = 8 from by decide] at q
        rw [show top 8 = 63 from rfl]; omega
  obtain ⟨k, k1, rfl, k2⟩ := jn
  have tl := top_lt sz
  have m8 : (8 : Int32) * nI k = nI (8 * k) := pk_mul 8 k
  apply Int8.toBitVec_inj.mp
  show ((lshr_ v _).toBitVec.signExtend 32).signExtend 8 = ((lshr_ v' _).toBitVec.signExtend 32).signExtend 8
  apply BitVec.eq_of_getLsbD_eq
  intro i hi
  have w : ∀ z : Int64, ((z.toBitVec.signExtend 32).signExtend 8).getLsbD i = tb z i := by
    intro z
    rw [BitVec.getLsbD_signExtend, BitVec.getLsbD_signExtend, decide_eq_true hi, if_pos (show i < 32 by omega), decide_eq_true (show i < 32 by omega), if_pos (show i < 64 by omega)]
    rfl
  rw [w, w, tb_lshr v (8 * k) (by omega) m8 (by omega), tb_lshr v' (8 * k) (by omega) m8 (by omega), if_pos (by omega), if_pos (by omega)]
  exact tb_cut_le h e (by omega)
