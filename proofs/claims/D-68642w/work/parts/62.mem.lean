/-! ===== the layout; where a byte is, on both sides ===== -/
def RLay (K : XK) (L : MK) : Prop :=
  (0 ≤ (km_textEnd L).toInt ∧ (km_textEnd L).toInt ≤ (km_rodataBegin L).toInt ∧ (km_rodataBegin L).toInt ≤ (km_rodataEnd L).toInt ∧ (km_rodataEnd L).toInt ≤ (km_dataBegin L).toInt ∧ (km_dataBegin L).toInt ≤ (km_dataEnd L).toInt ∧ (km_dataEnd L).toInt ≤ (km_fin L).toInt ∧ (km_fin L).toInt ≤ 262144) ∧
  (0 ≤ (km_heapSize L).toInt ∧ (km_heapSize L).toInt ≤ 65536) ∧
  ((kx_textEnd K).toInt = 4194304 + (km_textEnd L).toInt ∧ (kx_rodataBegin K).toInt = 4194304 + (km_rodataBegin L).toInt ∧ (kx_rodataEnd K).toInt = 4194304 + (km_rodataEnd L).toInt ∧ (kx_dataBegin K).toInt = 4194304 + (km_dataBegin L).toInt ∧ (kx_dataEnd K).toInt = 4194304 + (km_dataEnd L).toInt) ∧
  kx_heap K = m_heapBegin L ∧ (kx_broken K).toInt = (m_heapBegin L).toInt + (km_heapSize L).toInt
theorem c_4096 : ∀ i, i < 32 → (-4096 : Int32).toBitVec.getLsbD i = decide (12 ≤ i) := by decide +kernel
theorem i_toNat {x : Int32} (h : 0 ≤ x.toInt) : (x.toBitVec.toNat : Int) = x.toInt := by
  have e : x.toInt = x.toBitVec.toInt := rfl
  rw [e] at h ⊢
  rw [BitVec.toInt_eq_toNat_cond] at h ⊢
  have := x.toBitVec.isLt
  split <;> rename_i c
  · rfl
  · rw [if_neg c] at h; omega
theorem and4096 {x : Int32} (h : 0 ≤ x.toInt) : (x &&& (-4096)).toInt = x.toInt / 4096 * 4096 := by
  have e1 : (x &&& (-4096)).toBitVec = (x.toBitVec >>> 12) <<< 12 := by
    apply BitVec.eq_of_getLsbD_eq
    intro i hi
    rw [Int32.toBitVec_and, BitVec.getLsbD_and, c_4096 i hi, BitVec.getLsbD_shiftLeft, BitVec.getLsbD_ushiftRight]
    by_cases c : 12 ≤ i
    · have : 12 + (i - 12) = i := by omega
      rw [this]
      simp [c, hi] <;> omega
    · simp [c] <;> (intro _ q; omega)
  have hn := i_toNat h
  have hlt := Int32.toInt_lt x
  have e2 : (x &&& (-4096)).toBitVec.toNat = x.toBitVec.toNat / 4096 * 4096 := by
    rw [e1, BitVec.toNat_shiftLeft, BitVec.toNat_ushiftRight, Nat.shiftRight_eq_div_pow, Nat.shiftLeft_eq]
    have := x.toBitVec.isLt
    have : x.toBitVec.toNat / 2 ^ 12 * 2 ^ 12 ≤ x.toBitVec.toNat := Nat.div_mul_le_self _ _
    rw [Nat.mod_eq_of_lt (by omega)]
  have e3 : (x &&& (-4096)).toInt = ((x &&& (-4096)).toBitVec.toNat : Int) := by
    show (x &&& (-4096)).toBitVec.toInt = _
    rw [BitVec.toInt_eq_toNat_of_lt (by rw [e2]; omega)]
  rw [e3, e2]
  omega
theorem hb_val {L : MK} (h0 : 0 ≤ (km_fin L).toInt) (h1 : (km_fin L).toInt ≤ 262144) : (m_heapBegin L).toInt = 4194304 + ((km_fin L).toInt + 4095) / 4096 * 4096 := by
  unfold m_heapBegin
  have e0 : (4095 : Int32).toInt = 4095 := by decide
  have e1 : ((km_fin L) + 4095).toInt = (km_fin L).toInt + 4095 := by rw [i32_add_small (by omega) (by omega), e0]
  have e2 := and4096 (x := (km_fin L) + 4095) (by omega)
  rw [e1] at e2
  have e3 : (4194304 : Int64).toInt = 4194304 := by decide
  rw [i64_add_small (by rw [i2l_toInt]; omega) (by rw [i2l_toInt]; omega), i2l_toInt, e2, e3]
theorem hb_in {L : MK} (h0 : 0 ≤ (km_fin L).toInt) (h1 : (km_fin L).toInt ≤ 262144) : 4194304 + (km_fin L).toInt ≤ (m_heapBegin L).toInt ∧ (m_heapBegin L).toInt ≤ 4456448 := by
  rw [hb_val h0 h1]; omega
theorem sub_in {a b : Int64} {N : Int} (hb : 0 ≤ b.toInt ∧ b.toInt < 4294967296) (hN : N ≤ 1048576) : (0 ≤ (a - b).toInt ∧ (a - b).toInt < N) ↔ (b.toInt ≤ a.toInt ∧ a.toInt < b.toInt + N) := by
  have h1 := Int64.le_toInt a
  have h2 := Int64.toInt_lt a
  rw [Int64.toInt_sub]
  by_cases c : -9223372036854775808 ≤ a.toInt - b.toInt
  · rw [Int.bmod_eq_of_le (by omega) (by omega)]; omega
  · have e : Int.bmod (a.toInt - b.toInt) (2 ^ 64) = a.toInt - b.toInt + 18446744073709551616 := by
      rw [show a.toInt - b.toInt = (a.toInt - b.toInt + 18446744073709551616) + (-1) * ((2 ^ 64 : Nat) : Int) from by omega, Int.add_mul_bmod_self_right]
      rw [Int.bmod_eq_of_le (by omega) (by omega)]
      omega
    rw [e]; omega
theorem sub_val {a b : Int64} (hb : 0 ≤ b.toInt ∧ b.toInt < 4294967296) (h : b.toInt ≤ a.toInt) : (a - b).toInt = a.toInt - b.toInt := by
  have h2 := Int64.toInt_lt a
  exact i64_sub_small (by omega) (by omega)
theorem x_in_dec (a lo hi : Int64) : x_in a lo hi = decide (lo.toInt ≤ a.toInt ∧ a.toInt < hi.toInt) := by
  unfold x_in
  by_cases c1 : a < lo
  · rw [if_pos c1]
    rw [Int64.lt_iff_toInt_lt] at c1
    exact (decide_eq_false (by omega)).symm
  · rw [if_neg c1]
    rw [Int64.lt_iff_toInt_lt] at c1
    by_cases c2 : hi ≤ a
    · rw [if_pos c2]
      rw [Int64.le_iff_toInt_le] at c2
      exact (decide_eq_false (by omega)).symm
    · rw [if_neg c2]
      rw [Int64.le_iff_toInt_le] at c2
      exact (decide_eq_true (by omega)).symm
theorem rng_dec (v N : Int64) : (if v < (0 : Int64) then false else (if N ≤ v then false else true)) = decide (0 ≤ v.toInt ∧ v.toInt < N.toInt) := by
  by_cases c1 : v < (0 : Int64)
  · rw [if_pos c1]
    rw [Int64.lt_iff_toInt_lt, show (0 : Int64).toInt = 0 from by decide] at c1
    exact (decide_eq_false (by omega)).symm
  · rw [if_neg c1]
    rw [Int64.lt_iff_toInt_lt, show (0 : Int64).toInt = 0 from by decide] at c1
    by_cases c2 : N ≤ v
    · rw [if_pos c2]
      rw [Int64.le_iff_toInt_le] at c2
      exact (decide_eq_false (by omega)).symm
    · rw [if_neg c2]
      rw [Int64.le_iff_toInt_le] at c2
      exact (decide_eq_true (by omega)).symm
theorem b2i_dt {P : Prop} {inst : Decidable P} (h : P) : ¬ b2i (@decide P inst) = 0 := by rw [decide_eq_true h]; decide
theorem b2i_df {P : Prop} {inst : Decidable P} (h : ¬ P) : b2i (@decide P inst) = 0 := by rw [decide_eq_false h]; decide
/-- the same byte: a place of M and an index of X's bytes -/
def PL (p q : Int32) : Prop := (0 ≤ q.toInt ∧ q.toInt < 262144 ∧ p.toInt = q.toInt) ∨ (1048576 ≤ q.toInt ∧ q.toInt < 1114112 ∧ p.toInt = q.toInt - 786432) ∨ (2097152 ≤ q.toInt ∧ q.toInt < 2162688 ∧ p.toInt = q.toInt - 1769472)
theorem PL_nn {p q : Int32} (h : PL p q) : 0 ≤ p ∧ 0 ≤ q ∧ p.toInt < 393216 := by
  rw [Int32.le_iff_toInt_le, Int32.le_iff_toInt_le, show (0 : Int32).toInt = 0 from by decide]
  rcases h with h | h | h <;> omega
set_option maxHeartbeats 1000000 in
theorem where_find {K : XK} {L : MK} (hl : RLay K L) (a : Int64) (w : Bool) : (x_where K a w < 0 ∧ m_find L a w < 0) ∨ PL (x_where K a w) (m_find L a w) := by
  obtain ⟨⟨t1, t2, t3, t4, t5, t6, t7⟩, ⟨s1, s2⟩, ⟨k1, k2, k3, k4, k5⟩, kh, kb⟩ := hl
  have hb := hb_in (L := L) (by omega) t7
  have e4 : (4194304 : Int64).toInt = 4194304 := by decide
  have eS : (2147414016 : Int64).toInt = 2147414016 := by decide
  have eT : (2147479552 : Int64).toInt = 2147479552 := by decide
  have e6 : (65536 : Int64).toInt = 65536 := by decide
  have m1 : (-1 : Int32) < 0 := by decide
  have f1 : ∀ x : Int64, (0 ≤ (x - 4194304).toInt ∧ (x - 4194304).toInt < (km_fin L).toInt) ↔ (4194304 ≤ x.toInt ∧ x.toInt < 4194304 + (km_fin L).toInt) := fun x => by
    have := sub_in (a := x) (b := 4194304) (N := (km_fin L).toInt) (by rw [e4]; omega) (by omega)
    rw [e4] at this; exact this
  have f2 : (0 ≤ (a - m_heapBegin L).toInt ∧ (a - m_heapBegin L).toInt < (km_heapSize L).toInt) ↔ ((m_heapBegin L).toInt ≤ a.toInt ∧ a.toInt < (m_heapBegin L).toInt + (km_heapSize L).toInt) := sub_in (by omega) (by omega)
  have f3 : (0 ≤ (a - 2147414016).toInt ∧ (a - 2147414016).toInt < 65536) ↔ (2147414016 ≤ a.toInt ∧ a.toInt < 2147479552) := by
    have := sub_in (a := a) (b := 2147414016) (N := 65536) (by rw [eS]; omega) (by omega)
    rw [eS] at this; rw [this]; omega
  unfold x_where m_find
  simp only [bnd_app, x_in_dec, rng_dec, i2l_toInt, e4, eS, eT, kh, kb, k1, k2, k3, k4, k5]
  by_cases cS : 2147414016 ≤ a.toInt ∧ a.toInt < 2147479552
  · -- the stack
    rw [if_neg (b2i_dt cS)]
    rw [if_neg (by rw [decide_eq_true_eq, f1]; omega), if_neg (by rw [decide_eq_true_eq, f2]; omega)]
    have hv := f3.mpr cS
    have g1 : ¬ a - 2147414016 < (0 : Int64) := by rw [Int64.lt_iff_toInt_lt, show (0 : Int64).toInt = 0 from by decide]; omega
    have g2 : ¬ (65536 : Int64) ≤ a - 2147414016 := by rw [Int64.le_iff_toInt_le, e6]; omega
    rw [if_neg g1, if_neg g2]
    refine Or.inr (Or.inr (Or.inr ?_))
    have v1 := sub_val (a := a) (b := 2147414016) (by rw [eS]; omega) (by rw [eS]; omega)
    rw [eS] at v1
    rw [or21 hv.1 hv.2, v1]
    have w1 : (a - 2147479552).toInt = a.toInt - 2147479552 := by rw [i64_sub_small (by omega) (by omega), eT]
    have w2 : (a - 2147479552 + 65536).toInt = a.toInt - 2147414016 := by rw [i64_add_small (by omega) (by omega), w1, e6]; omega
    have w3 : (a - 2147479552 + 65536).toInt32.toInt = a.toInt - 2147414016 := by rw [l2i_small (by omega) (by omega)]; omega
    have w4 : (327680 : Int32).toInt = 327680 := by decide
    rw [i32_add_small (by omega) (by omega), w3, w4]
    omega
  · rw [if_pos (b2i_df cS)]
    by_cases cH : (m_heapBegin L).toInt ≤ a.toInt ∧ a.toInt < (m_heapBegin L).toInt + (km_heapSize L).toInt
    · -- the heap
      rw [if_neg (b2i_dt cH)]
      rw [if_neg (by rw [decide_eq_true_eq, f1]; omega), if_pos (by rw [decide_eq_true_eq, f2]; exact cH)]
      have hv := f2.mpr cH
      have v1 := sub_val (a := a) (b := m_heapBegin L) (by omega) cH.1
      refine Or.inr (Or.inr (Or.inl ?_))
      rw [or20 hv.1 (by omega), v1]
      have w3 : (a - m_heapBegin L).toInt32.toInt = a.toInt - (m_heapBegin L).toInt := by rw [l2i_small (by omega) (by omega)]; omega
      have w4 : (262144 : Int32).toInt = 262144 := by decide
      rw [i32_add_small (by omega) (by omega), w3, w4]
      omega
    · rw [if_pos (b2i_df cH)]
      by_cases cI : 4194304 ≤ a.toInt ∧ a.toInt < 4194304 + (km_fin L).toInt
      · -- the image
        have hcI : decide (0 ≤ (a - 4194304).toInt ∧ (a - 4194304).toInt < (km_fin L).toInt) = true := decide_eq_true ((f1 a).mpr cI)
        rw [if_pos hcI]
        have v1 := sub_val (a := a) (b := 4194304) (by rw [e4]; omega) (by rw [e4]; omega)
        rw [e4] at v1
        have w3 : (a - 4194304).toInt32.toInt = a.toInt - 4194304 := by rw [l2i_small (by omega) (by omega)]; omega
        have good : PL (a - 4194304).toInt32 (a - 4194304).toInt32 := Or.inl ⟨by omega, by omega, rfl⟩
        simp only [Int64.lt_iff_toInt_lt, Int64.le_iff_toInt_le, i2l_toInt, v1]
        have key : ∀ B C : Bool, B = C → ((if b2i B = 0 then (-1 : Int32) else (a - 4194304).toInt32) < 0 ∧ (if C = true then (a - 4194304).toInt32 else (-1 : Int32)) < 0) ∨ PL (if b2i B = 0 then (-1 : Int32) else (a - 4194304).toInt32) (if C = true then (a - 4194304).toInt32 else (-1 : Int32)) := by
          intro B C hBC
          subst hBC
          cases B
          · exact Or.inl ⟨m1, m1⟩
          · exact Or.inr good
        refine key _ _ ?_
        by_cases cD : 4194304 + (km_dataBegin L).toInt ≤ a.toInt ∧ a.toInt < 4194304 + (km_dataEnd L).toInt
        · rw [if_neg (b2i_dt cD)]
          have d1 : ¬ a.toInt - 4194304 < (km_dataBegin L).toInt := by omega
          have d2 : ¬ (km_dataEnd L).toInt ≤ a.toInt - 4194304 := by omega
          rw [if_neg d1, if_neg d2]
          have k1 : ∀ T W : Bool, true = (if b2i T = 0 then true else (if b2i W = 0 then true else true)) := by decide
          exact k1 _ _
        · rw [if_pos (b2i_df cD)]
          have dd : (if a.toInt - 4194304 < (km_dataBegin L).toInt then false else (if (km_dataEnd L).toInt ≤ a.toInt - 4194304 then false else true)) = false := by
            by_cases d1 : a.toInt - 4194304 < (km_dataBegin L).toInt
            · rw [if_pos d1]
            · rw [if_neg d1, if_pos (by omega)]
          rw [dd]
          cases w
          · have wf : b2i false = 0 := rfl
            rw [if_pos wf, if_pos wf]
            by_cases cT : 4194304 ≤ a.toInt ∧ a.toInt < 4194304 + (km_textEnd L).toInt
            · rw [if_neg (b2i_dt cT), if_pos (show a.toInt - 4194304 < (km_textEnd L).toInt by omega), if_neg (show ¬ b2i true = 0 by decide)]
            · rw [if_pos (b2i_df cT), if_neg (show ¬ a.toInt - 4194304 < (km_textEnd L).toInt by omega)]
              by_cases cR : 4194304 + (km_rodataBegin L).toInt ≤ a.toInt ∧ a.toInt < 4194304 + (km_rodataEnd L).toInt
              · rw [if_neg (b2i_dt cR), if_neg (show ¬ a.toInt - 4194304 < (km_rodataBegin L).toInt by omega), if_neg (show ¬ (km_rodataEnd L).toInt ≤ a.toInt - 4194304 by omega), if_neg (show ¬ b2i true = 0 by decide)]
              · rw [if_pos (b2i_df cR)]
                have rr : (if a.toInt - 4194304 < (km_rodataBegin L).toInt then false else (if (km_rodataEnd L).toInt ≤ a.toInt - 4194304 then false else true)) = false := by
                  by_cases d1 : a.toInt - 4194304 < (km_rodataBegin L).toInt
                  · rw [if_pos d1]
                  · rw [if_neg d1, if_pos (by omega)]
                rw [rr, if_pos wf]
          · have wt : ¬ b2i true = 0 := by decide
            rw [if_neg wt, if_neg wt]
            have k2 : ∀ T : Bool, false = (if b2i T = 0 then false else false) := by decide
            exact k2 _
      · -- nowhere
        have hcI : ¬ decide (0 ≤ (a - 4194304).toInt ∧ (a - 4194304).toInt < (km_fin L).toInt) = true := fun q => cI ((f1 a).mp (of_decide_eq_true q))
        have hcH : ¬ decide (0 ≤ (a - m_heapBegin L).toInt ∧ (a - m_heapBegin L).toInt < (km_heapSize L).toInt) = true := fun q => cH (f2.mp (of_decide_eq_true q))
        rw [if_neg hcI, if_neg hcH]
        have nm : (if a - 2147414016 < (0 : Int64) then (-1 : Int32) else (if (65536 : Int64) ≤ a - 2147414016 then (-1 : Int32) else ((2097152 : Int32) ||| (a - 2147414016).toInt32))) = -1 := by
          by_cases g1 : a - 2147414016 < (0 : Int64)
          · rw [if_pos g1]
          · rw [if_neg g1]
            rw [Int64.lt_iff_toInt_lt, show (0 : Int64).toInt = 0 from by decide] at g1
            rw [if_pos (by rw [Int64.le_iff_toInt_le, e6]; omega)]
        rw [nm]
        have cD : ¬ (4194304 + (km_dataBegin L).toInt ≤ a.toInt ∧ a.toInt < 4194304 + (km_dataEnd L).toInt) := by omega
        have cT : ¬ (4194304 ≤ a.toInt ∧ a.toInt < 4194304 + (km_textEnd L).toInt) := by omega
        have cR : ¬ (4194304 + (km_rodataBegin L).toInt ≤ a.toInt ∧ a.toInt < 4194304 + (km_rodataEnd L).toInt) := by omega
        rw [if_pos (b2i_df cD), if_pos (b2i_df cT), if_pos (b2i_df cR)]
        have z : (if b2i (if b2i w = 0 then false else false) = 0 then (-1 : Int32) else (a - 4194304).toInt32) = -1 := by cases w <;> rfl
        rw [z]
        exact Or.inl ⟨m1, m1⟩
