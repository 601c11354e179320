/-! ===== op 24 to 28: shifts ===== -/
theorem one01 (v : Int64) : (v &&& 1) = (if tb v 0 = true then (1 : Int64) else 0) := by
  by_cases h : tb v 0 = true
  · rw [if_pos h, (tb_one v).mpr h]
  · rw [if_neg h]
    apply tb_ext
    intro i hi
    rw [tb_and, tb_1, tb_0]
    by_cases c : i < 1
    · have : i = 0 := by omega
      subst this
      rw [Bool.eq_false_iff.mpr h, Bool.false_and]
    · rw [decide_eq_false c, Bool.and_false]
theorem bit01 (v : Int64) {y : Int32} (k : Nat) (hk : k < 64) (hy : y = nI k) : (lushr_ v y &&& 1) = (if tb v k = true then (1 : Int64) else 0) := by
  rw [one01, tb_lushr v k hk hy]; rfl
theorem is1 (b : Bool) : (if (if b = true then (1 : Int64) else 0) = 1 then true else false) = b := by cases b <;> decide
theorem b01 (b : Bool) : (if b2i b = 0 then (0 : Int64) else 1) = (if b = true then (1 : Int64) else 0) := by cases b <;> rfl
theorem lshl_0 (y : Int32) (k : Nat) (hk : k < 64) (hy : y = nI k) : lshl_ 0 y = 0 := by
  apply tb_ext
  intro i hi
  rw [tb_lshl 0 k hk hy hi, tb_0, tb_0, Bool.and_false]
theorem mcc (b : Bool) (e : MD) : dm_carry (dm_carry_ b e) = b := rfl
theorem fo_c1 {d : XD} {e : MD} (h : FL d e) (b : Bool) : FO d e (x_mark 1 b d) (dm_carry_ b e) := by
  rw [mk_c h]; exact ⟨b, dm_parity e, dm_zero e, dm_negative e, dm_over e, rfl, rfl⟩
theorem fo_c {d : XD} {e : MD} (h : FL d e) (b b' : Bool) : FO d e (x_mark 1 b d) (dm_carry_ b (dm_carry_ b' e)) := by
  rw [mk_c h]; exact ⟨b, dm_parity e, dm_zero e, dm_negative e, dm_over e, rfl, rfl⟩
theorem fo_o {d d1 : XD} {e e1 : MD} (h : FO d e d1 e1) (b : Bool) : FO d e (x_mark 2048 b d1) (dm_over_ b e1) := by
  obtain ⟨c, p, z, n, o, rfl, rfl⟩ := h
  rw [mk_o (c := c) (p := p) (z := z) (n := n) (o := o) rfl]
  exact ⟨c, p, z, n, b, rfl, rfl⟩
theorem fo_zsp {d d1 : XD} {e e1 : MD} {v : Int64} {sz : Int32} (hs : SZ sz) (h : FO d e d1 e1) : FO d e (x_follow v sz d1) (m_zsp v sz e1) := by
  obtain ⟨c, p, z, n, o, rfl, rfl⟩ := h
  exact follow_zsp hs rfl (c := c) (p := p) (z := z) (n := n) (o := o) rfl rfl
theorem mark_if (P : Prop) [Decidable P] (m : Int32) (d : XD) : (if P then x_mark m false d else x_mark m true d) = x_mark m (if P then false else true) d := by split <;> rfl
theorem over_if (P : Prop) [Decidable P] (e : MD) : (if P then dm_over_ false e else dm_over_ true e) = dm_over_ (if P then false else true) e := by split <;> rfl
theorem over_if2 (P : Prop) [Decidable P] (e : MD) : (if P then dm_over_ true e else dm_over_ false e) = dm_over_ (if P then true else false) e := by split <;> rfl
theorem fo_ifn {d d1 d2 : XD} {e e1 e2 : MD} (P : Prop) [Decidable P] (h1 : FO d e d1 e1) (h2 : FO d e d2 e2) : FO d e (if P then d1 else d2) (if P then e1 else e2) := by
  split
  · exact h1
  · exact h2
theorem eq01 (a b : Bool) : ((if a = true then (1 : Int64) else 0) = (if b = true then (1 : Int64) else 0)) ↔ (b2i a = b2i b) := by cases a <;> cases b <;> decide
theorem top1_nI {sz : Int32} (h : SZ sz) : ((8 : Int32) * sz) - 1 - 1 = nI (top sz - 1) := by
  rcases h with h | h | h <;> subst h <;> decide
theorem mf_ite {P : Prop} [Decidable P] {a b e : MD} (ha : mfix a = mfix e) (hb : mfix b = mfix e) : mfix (if P then a else b) = mfix e := by
  split
  · exact ha
  · exact hb
section SH
variable {K : XK} {L : MK} {d0 d : XD} {e0 e : MD} {sz N : Int32} {x : Int64}
theorem sh24 (hc : Ctx K L d0 e0 d e) (hs : SZ sz) (h0 : K12 K 0) (hN : 0 < N) (U : Int64) : ∀ (n : Nat) (v : Int64) (c b : Bool) (k : Int32), mI k N < n → 0 ≤ k → (k = 0 ∨ b = c) → RS d0 e0 (x_shift_L48 K 24 sz x N ((8 : Int32) * sz - 1) n v c k d) (m_shift_L57 L 24 sz N U ((8 : Int32) * sz - 1) n v k (dm_carry_ b e)) := by
  have hT := top_nI hs
  have hFL := hc.2.2.2.1.2.2.2.2
  intro n
  induction n with
  | zero => intro v c b k h; exact absurd h (Nat.not_lt_zero _)
  | succ n ih =>
    intro v c b k hn k0 hb
    have ex : x_shift_L48 K 24 sz x N ((8 : Int32) * sz - 1) (n + 1) v c k d = (if N ≤ k then x_put K 0 sz v (if N = 1 then (if b2i c = b2i (x_bit v ((8 : Int32) * sz - 1)) then x_mark 2048 false (x_mark 1 c d) else x_mark 2048 true (x_mark 1 c d)) else x_mark 1 c d) else x_shift_L48 K 24 sz x N ((8 : Int32) * sz - 1) n (x_cut (lshl_ v 1) sz ||| (if b2i (x_bit v ((8 : Int32) * sz - 1)) = 0 then 0 else 1)) (x_bit v ((8 : Int32) * sz - 1)) (k + 1) d) := rfl
    have em : m_shift_L57 L 24 sz N U ((8 : Int32) * sz - 1) (n + 1) v k (dm_carry_ b e) = (if N ≤ k then m_put L 0 sz v (if N = 1 then (if b2i b = b2i (if m_upper v sz = 1 then true else false) then dm_over_ false (dm_carry_ b e) else dm_over_ true (dm_carry_ b e)) else dm_carry_ b e) else m_shift_L57 L 24 sz N U ((8 : Int32) * sz - 1) n (m_cut (lshl_ v 1) sz ||| (lushr_ v ((8 : Int32) * sz - 1) &&& 1)) (k + 1) (dm_carry_ (if (lushr_ v ((8 : Int32) * sz - 1) &&& 1) = 1 then true else false) (dm_carry_ b e))) := rfl
    rw [ex, em]
    by_cases ck : N ≤ k
    · rw [if_pos ck, if_pos ck]
      have hbc : b = c := by
        rcases hb with q | q
        · rw [q] at ck; exact absurd hN (Int32.not_lt.mpr ck)
        · exact q
      subst hbc
      rw [mark_if, over_if, x_bit_tb v (top sz) (top_lt sz) hT, neg_up v v hs rfl, isNeg_tb v hs]
      exact put_put (ctx_fo hc (fo_ifn _ (fo_o (fo_c1 hFL b) _) (fo_c1 hFL b))) v3_0 hs h0 rfl
    · rw [if_neg ck, if_neg ck, bit01 v (top sz) (top_lt sz) hT, is1, b01, x_bit_tb v (top sz) (top_lt sz) hT]
      exact ih _ _ _ _ (mI_dec ck hn rfl) (i_nn k0 ck rfl) (Or.inr rfl)
theorem sh25 (hc : Ctx K L d0 e0 d e) (hs : SZ sz) (h0 : K12 K 0) (hN : 0 < N) (U : Int64) : ∀ (n : Nat) (v : Int64) (c b : Bool) (k : Int32), mI k N < n → 0 ≤ k → (k = 0 ∨ b = c) → RS d0 e0 (x_shift_L48 K 25 sz x N ((8 : Int32) * sz - 1) n v c k d) (m_shift_L57 L 25 sz N U ((8 : Int32) * sz - 1) n v k (dm_carry_ b e)) := by
  have hT := top_nI hs
  have hT1 := top1_nI hs
  have tl := top_lt sz
  have hFL := hc.2.2.2.1.2.2.2.2
  intro n
  induction n with
  | zero => intro v c b k h; exact absurd h (Nat.not_lt_zero _)
  | succ n ih =>
    intro v c b k hn k0 hb
    have ex : x_shift_L48 K 25 sz x N ((8 : Int32) * sz - 1) (n + 1) v c k d = (if N ≤ k then x_put K 0 sz v (if N = 1 then (if b2i (x_bit v ((8 : Int32) * sz - 1)) = b2i (x_bit v ((8 : Int32) * sz - 1 - 1)) then x_mark 2048 false (x_mark 1 c d) else x_mark 2048 true (x_mark 1 c d)) else x_mark 1 c d) else (if b2i (x_bit v 0) = 0 then x_shift_L48 K 25 sz x N ((8 : Int32) * sz - 1) n (lushr_ v 1 ||| 0) (x_bit v 0) (k + 1) d else x_shift_L48 K 25 sz x N ((8 : Int32) * sz - 1) n (lushr_ v 1 ||| lshl_ 1 ((8 : Int32) * sz - 1)) (x_bit v 0) (k + 1) d)) := rfl
    have em : m_shift_L57 L 25 sz N U ((8 : Int32) * sz - 1) (n + 1) v k (dm_carry_ b e) = (if N ≤ k then m_put L 0 sz v (if N = 1 then (if m_upper v sz = (lushr_ v ((8 : Int32) * sz - 1 - 1) &&& 1) then dm_over_ false (dm_carry_ b e) else dm_over_ true (dm_carry_ b e)) else dm_carry_ b e) else m_shift_L57 L 25 sz N U ((8 : Int32) * sz - 1) n (lushr_ v 1 ||| lshl_ (v &&& 1) ((8 : Int32) * sz - 1)) (k + 1) (dm_carry_ (if (v &&& 1) = 1 then true else false) (dm_carry_ b e))) := rfl
    rw [ex, em]
    by_cases ck : N ≤ k
    · rw [if_pos ck, if_pos ck]
      have hbc : b = c := by
        rcases hb with q | q
        · rw [q] at ck; exact absurd hN (Int32.not_lt.mpr ck)
        · exact q
      subst hbc
      rw [mark_if, over_if, x_bit_tb v (top sz) tl hT, x_bit_tb v (top sz - 1) (by omega) hT1]
      have eo : (if m_upper v sz = (lushr_ v ((8 : Int32) * sz - 1 - 1) &&& 1) then false else true) = (if b2i (tb v (top sz)) = b2i (tb v (top sz - 1)) then false else true) := by
        unfold m_upper
        rw [bit01 v (top sz) tl hT, bit01 v (top sz - 1) (by omega) hT1]
        by_cases q : b2i (tb v (top sz)) = b2i (tb v (top sz - 1))
        · rw [if_pos ((eq01 _ _).mpr q), if_pos q]
        · rw [if_neg (fun w => q ((eq01 _ _).mp w)), if_neg q]
      rw [eo]
      exact put_put (ctx_fo hc (fo_ifn _ (fo_o (fo_c1 hFL b) _) (fo_c1 hFL b))) v3_0 hs h0 rfl
    · rw [if_neg ck, if_neg ck, one01, is1, x_bit_tb v 0 (by decide) (by decide)]
      cases hv : tb v 0
      · rw [if_f, if_neg (by decide), lshl_0 _ (top sz) tl hT]
        exact ih _ _ _ _ (mI_dec ck hn rfl) (i_nn k0 ck rfl) (Or.inr rfl)
      · rw [if_t, if_pos rfl]
        exact ih _ _ _ _ (mI_dec ck hn rfl) (i_nn k0 ck rfl) (Or.inr rfl)
theorem sh26 (hc : Ctx K L d0 e0 d e) (hs : SZ sz) (h0 : K12 K 0) (hN : 0 < N) (U : Int64) : ∀ (n : Nat) (v : Int64) (c b : Bool) (k : Int32), mI k N < n → 0 ≤ k → (k = 0 ∨ b = c) → RS d0 e0 (x_shift_L48 K 26 sz x N ((8 : Int32) * sz - 1) n v c k d) (m_shift_L57 L 26 sz N U ((8 : Int32) * sz - 1) n v k (dm_carry_ b e)) := by
  have hT := top_nI hs
  have tl := top_lt sz
  have hFL := hc.2.2.2.1.2.2.2.2
  intro n
  induction n with
  | zero => intro v c b k h; exact absurd h (Nat.not_lt_zero _)
  | succ n ih =>
    intro v c b k hn k0 hb
    have ex : x_shift_L48 K 26 sz x N ((8 : Int32) * sz - 1) (n + 1) v c k d = (if N ≤ k then x_put K 0 sz v (x_follow v sz (if N = 1 then (if b2i c = b2i (x_bit v ((8 : Int32) * sz - 1)) then x_mark 2048 false (x_mark 1 c d) else x_mark 2048 true (x_mark 1 c d)) else x_mark 1 c d)) else x_shift_L48 K 26 sz x N ((8 : Int32) * sz - 1) n (x_cut (lshl_ v 1) sz ||| 0) (x_bit v ((8 : Int32) * sz - 1)) (k + 1) d) := by
      rw [x_shift_L48_s]
      simp only [bnd_app, show ((26 : Int32) = 24) = False from eq_false (by decide), show ((26 : Int32) = 25) = False from eq_false (by decide), show ((26 : Int32) = 26) = True from eq_true rfl, show ((26 : Int32) = 27) = False from eq_false (by decide), show ((26 : Int32) = 28) = False from eq_false (by decide), show ((26 : Int32) ≤ 25) = False from eq_false (by decide), if_true, if_false, if_t, if_f, Bool.false_eq_true]
    have em : m_shift_L57 L 26 sz N U ((8 : Int32) * sz - 1) (n + 1) v k (dm_carry_ b e) = (if N ≤ k then m_put L 0 sz v (m_zsp v sz (if N = 1 then (if b2i b = b2i (if m_upper v sz = 1 then true else false) then dm_over_ false (dm_carry_ b e) else dm_over_ true (dm_carry_ b e)) else dm_carry_ b e)) else m_shift_L57 L 26 sz N U ((8 : Int32) * sz - 1) n (m_cut (lshl_ v 1) sz ||| 0) (k + 1) (dm_carry_ (if (lushr_ v ((8 : Int32) * sz - 1) &&& 1) = 1 then true else false) (dm_carry_ b e))) := by
      rw [m_shift_L57_s]
      simp only [bnd_app, show ((26 : Int32) = 24) = False from eq_false (by decide), show ((26 : Int32) = 25) = False from eq_false (by decide), show ((26 : Int32) = 26) = True from eq_true rfl, show ((26 : Int32) = 27) = False from eq_false (by decide), show ((26 : Int32) = 28) = False from eq_false (by decide), show ((26 : Int32) ≤ 25) = False from eq_false (by decide), if_true, if_false, if_t, if_f, Bool.false_eq_true, mcc]
    rw [ex, em]
    by_cases ck : N ≤ k
    · rw [if_pos ck, if_pos ck]
      have hbc : b = c := by
        rcases hb with q | q
        · rw [q] at ck; exact absurd hN (Int32.not_lt.mpr ck)
        · exact q
      subst hbc
      rw [mark_if, over_if, x_bit_tb v (top sz) tl hT, neg_up v v hs rfl, isNeg_tb v hs]
      exact put_put (ctx_fo hc (fo_zsp hs (fo_ifn _ (fo_o (fo_c1 hFL b) _) (fo_c1 hFL b)))) v3_0 hs h0 rfl
    · rw [if_neg ck, if_neg ck, bit01 v (top sz) tl hT, is1, x_bit_tb v (top sz) tl hT]
      exact ih _ _ _ _ (mI_dec ck hn rfl) (i_nn k0 ck rfl) (Or.inr rfl)
theorem sh27 (hc : Ctx K L d0 e0 d e) (hs : SZ sz) (h0 : K12 K 0) (hN : 0 < N) : ∀ (n : Nat) (v : Int64) (c b : Bool) (k : Int32), mI k N < n → 0 ≤ k → (k = 0 ∨ b = c) → RS d0 e0 (x_shift_L48 K 27 sz x N ((8 : Int32) * sz - 1) n v c k d) (m_shift_L57 L 27 sz N (m_upper x sz) ((8 : Int32) * sz - 1) n v k (dm_carry_ b e)) := by
  have hT := top_nI hs
  have tl := top_lt sz
  have hFL := hc.2.2.2.1.2.2.2.2
  intro n
  induction n with
  | zero => intro v c b k h; exact absurd h (Nat.not_lt_zero _)
  | succ n ih =>
    intro v c b k hn k0 hb
    have ex : x_shift_L48 K 27 sz x N ((8 : Int32) * sz - 1) (n + 1) v c k d = (if N ≤ k then x_put K 0 sz v (x_follow v sz (if N = 1 then (if b2i (x_bit x ((8 : Int32) * sz - 1)) = 0 then x_mark 2048 false (x_mark 1 c d) else x_mark 2048 true (x_mark 1 c d)) else x_mark 1 c d)) else x_shift_L48 K 27 sz x N ((8 : Int32) * sz - 1) n (lushr_ v 1 ||| 0) (x_bit v 0) (k + 1) d) := by
      rw [x_shift_L48_s]
      simp only [bnd_app, show ((27 : Int32) = 24) = False from eq_false (by decide), show ((27 : Int32) = 25) = False from eq_false (by decide), show ((27 : Int32) = 26) = False from eq_false (by decide), show ((27 : Int32) = 27) = True from eq_true rfl, show ((27 : Int32) = 28) = False from eq_false (by decide), show ((27 : Int32) ≤ 25) = False from eq_false (by decide), if_true, if_false, if_t, if_f, Bool.false_eq_true]
    have em : m_shift_L57 L 27 sz N (m_upper x sz) ((8 : Int32) * sz - 1) (n + 1) v k (dm_carry_ b e) = (if N ≤ k then m_put L 0 sz v (m_zsp v sz (if N = 1 then (if m_upper x sz = 1 then dm_over_ true (dm_carry_ b e) else dm_over_ false (dm_carry_ b e)) else dm_carry_ b e)) else m_shift_L57 L 27 sz N (m_upper x sz) ((8 : Int32) * sz - 1) n (lushr_ v 1 ||| lshl_ 0 ((8 : Int32) * sz - 1)) (k + 1) (dm_carry_ (if (v &&& 1) = 1 then true else false) (dm_carry_ b e))) := by
      rw [m_shift_L57_s]
      simp only [bnd_app, show ((27 : Int32) = 24) = False from eq_false (by decide), show ((27 : Int32) = 25) = False from eq_false (by decide), show ((27 : Int32) = 26) = False from eq_false (by decide), show ((27 : Int32) = 27) = True from eq_true rfl, show ((27 : Int32) = 28) = False from eq_false (by decide), show ((27 : Int32) ≤ 25) = False from eq_false (by decide), if_true, if_false, if_t, if_f, Bool.false_eq_true, mcc]
    rw [ex, em]
    by_cases ck : N ≤ k
    · rw [if_pos ck, if_pos ck]
      have hbc : b = c := by
        rcases hb with q | q
        · rw [q] at ck; exact absurd hN (Int32.not_lt.mpr ck)
        · exact q
      subst hbc
      rw [mark_if, over_if2, x_bit_tb x (top sz) tl hT, neg_up x x hs rfl, isNeg_tb x hs]
      have eb : (if b2i (tb x (top sz)) = 0 then false else true) = tb x (top sz) := bb_0 _
      rw [eb]
      exact put_put (ctx_fo hc (fo_zsp hs (fo_ifn _ (fo_o (fo_c1 hFL b) _) (fo_c1 hFL b)))) v3_0 hs h0 rfl
    · rw [if_neg ck, if_neg ck, one01, is1, lshl_0 _ (top sz) tl hT, x_bit_tb v 0 (by decide) (by decide)]
      exact ih _ _ _ _ (mI_dec ck hn rfl) (i_nn k0 ck rfl) (Or.inr rfl)
theorem sh28 (hc : Ctx K L d0 e0 d e) (hs : SZ sz) (h0 : K12 K 0) (hN : 0 < N) (U : Int64) : ∀ (n : Nat) (v : Int64) (c b : Bool) (k : Int32), mI k N < n → 0 ≤ k → (k = 0 ∨ b = c) → RS d0 e0 (x_shift_L48 K 28 sz x N ((8 : Int32) * sz - 1) n v c k d) (m_shift_L57 L 28 sz N U ((8 : Int32) * sz - 1) n v k (dm_carry_ b e)) := by
  have hT := top_nI hs
  have tl := top_lt sz
  have hFL := hc.2.2.2.1.2.2.2.2
  intro n
  induction n with
  | zero => intro v c b k h; exact absurd h (Nat.not_lt_zero _)
  | succ n ih =>
    intro v c b k hn k0 hb
    have ex : x_shift_L48 K 28 sz x N ((8 : Int32) * sz - 1) (n + 1) v c k d = (if N ≤ k then x_put K 0 sz v (x_follow v sz (if N = 1 then x_mark 2048 false (x_mark 1 c d) else x_mark 1 c d)) else (if b2i (if b2i (x_bit v ((8 : Int32) * sz - 1)) = 0 then false else true) = 0 then x_shift_L48 K 28 sz x N ((8 : Int32) * sz - 1) n (lushr_ v 1 ||| 0) (x_bit v 0) (k + 1) d else x_shift_L48 K 28 sz x N ((8 : Int32) * sz - 1) n (lushr_ v 1 ||| lshl_ 1 ((8 : Int32) * sz - 1)) (x_bit v 0) (k + 1) d)) := by
      rw [x_shift_L48_s]
      simp only [bnd_app, show ((28 : Int32) = 24) = False from eq_false (by decide), show ((28 : Int32) = 25) = False from eq_false (by decide), show ((28 : Int32) = 26) = False from eq_false (by decide), show ((28 : Int32) = 27) = False from eq_false (by decide), show ((28 : Int32) = 28) = True from eq_true rfl, show ((28 : Int32) ≤ 25) = False from eq_false (by decide), if_true, if_false, if_t, if_f, Bool.false_eq_true]
    have em : m_shift_L57 L 28 sz N U ((8 : Int32) * sz - 1) (n + 1) v k (dm_carry_ b e) = (if N ≤ k then m_put L 0 sz v (m_zsp v sz (if N = 1 then dm_over_ false (dm_carry_ b e) else dm_carry_ b e)) else m_shift_L57 L 28 sz N U ((8 : Int32) * sz - 1) n (lushr_ v 1 ||| lshl_ (lushr_ v ((8 : Int32) * sz - 1) &&& 1) ((8 : Int32) * sz - 1)) (k + 1) (dm_carry_ (if (v &&& 1) = 1 then true else false) (dm_carry_ b e))) := by
      rw [m_shift_L57_s]
      simp only [bnd_app, show ((28 : Int32) = 24) = False from eq_false (by decide), show ((28 : Int32) = 25) = False from eq_false (by decide), show ((28 : Int32) = 26) = False from eq_false (by decide), show ((28 : Int32) = 27) = False from eq_false (by decide), show ((28 : Int32) = 28) = True from eq_true rfl, show ((28 : Int32) ≤ 25) = False from eq_false (by decide), if_true, if_false, if_t, if_f, Bool.false_eq_true, mcc]
    rw [ex, em]
    by_cases ck : N ≤ k
    · rw [if_pos ck, if_pos ck]
      have hbc : b = c := by
        rcases hb with q | q
        · rw [q] at ck; exact absurd hN (Int32.not_lt.mpr ck)
        · exact q
      subst hbc
      exact put_put (ctx_fo hc (fo_zsp hs (fo_ifn _ (fo_o (fo_c1 hFL b) _) (fo_c1 hFL b)))) v3_0 hs h0 rfl
    · rw [if_neg ck, if_neg ck, bit01 v (top sz) tl hT, one01, is1, bb_0, x_bit_tb v (top sz) tl hT, x_bit_tb v 0 (by decide) (by decide)]
      cases hv : tb v (top sz)
      · rw [if_f, if_neg (by decide), lshl_0 _ (top sz) tl hT]
        exact ih _ _ _ _ (mI_dec ck hn rfl) (i_nn k0 ck rfl) (Or.inr rfl)
      · rw [if_t, if_pos rfl]
        exact ih _ _ _ _ (mI_dec ck hn rfl) (i_nn k0 ck rfl) (Or.inr rfl)
end SH
theorem mfix_shL {L : MK} {o sz N T : Int32} {U : Int64} : ∀ (n : Nat) (v : Int64) (k : Int32) (e : MD), ¬ dm_halt e = 0 → mfix (m_shift_L57 L o sz N U T n v k e) = mfix e := by
  intro n
  induction n with
  | zero => intro v k e _; rfl
  | succ n ih =>
    intro v k e h
    rw [m_shift_L57_s]
    split
    · simp only [bnd_app]
      have h1 : ∀ x : MD, mfix x = mfix e → mfix (m_put L 0 sz v x) = mfix e := fun x hx => (md_put (mf_nz hx h)).trans hx
      apply h1
      have h2 : ∀ x : MD, mfix x = mfix e → mfix (if o ≤ 25 then x else m_zsp v sz x) = mfix e := by
        intro x hx
        split
        · exact hx
        · rw [mf_zsp]; exact hx
      apply h2
      exact mf_ite (mf_ite (mf_ite rfl rfl) (mf_ite (mf_ite rfl rfl) (mf_ite (mf_ite rfl rfl) rfl))) rfl
    · simp only [bnd_app]
      exact mf_ite (ih _ _ _ h) (ih _ _ _ h)
theorem and_nn {y : Int32} {sz : Int32} (h : ¬ (y &&& (if sz = 8 then (63 : Int32) else 31)) = 0) : 0 < (y &&& (if sz = 8 then (63 : Int32) else 31)) := by
  have hv : ∃ k : Nat, k < 64 ∧ (y &&& (if sz = 8 then (63 : Int32) else 31)) = nI k := by
    split
    · obtain ⟨j, j1, j2⟩ := pk_andE y (m := 63) 6 (by decide); exact ⟨j, j1, j2⟩
    · obtain ⟨j, j1, j2⟩ := pk_andE y (m := 31) 5 (by decide); exact ⟨j, by omega, j2⟩
  obtain ⟨k, k1, k2⟩ := hv
  rw [k2] at h ⊢
  rw [Int32.lt_iff_toInt_lt, nI_toInt (by omega), show (0 : Int32).toInt = 0 from by decide]
  rcases Nat.eq_zero_or_pos k with z | z
  · rw [z] at h; exact absurd rfl h
  · omega
theorem op_shift {K : XK} {L : MK} {d0 d : XD} {e0 e : MD} (hc : Ctx K L d0 e0 d e) {o sz : Int32} (hs : SZ sz) (h0 : K12 K 0) (ho : o = 24 ∨ o = 25 ∨ o = 26 ∨ o = 27 ∨ o = 28) : RS d0 e0 (x_shift K o sz (x_get K 0 sz d).1 (x_get K 1 1 (x_get K 0 sz d).2).1.toInt32 (x_get K 1 1 (x_get K 0 sz d).2).2) (m_shift L o sz e) := by
  have hL := hc.2.2.2.1
  have dead : ∀ (d1 : XD) (e1 : MD) (x : Int64) (y : Int32) (y' : Int64), Dead d0 e0 d1 e1 → RS d0 e0 (x_shift K o sz x y d1) (if (y'.toInt32 &&& (if sz = 8 then (63 : Int32) else 31)) = 0 then e1 else m_shift_L57 L o sz (y'.toInt32 &&& (if sz = 8 then (63 : Int32) else 31)) (m_upper x sz) ((8 : Int32) * sz - 1) (mI (0 : Int32) (y'.toInt32 &&& (if sz = 8 then (63 : Int32) else 31)) + 1) x 0 e1) := by
    intro d1 e1 x y y' hd
    refine Or.inr (dead_same ?_ ?_ hd)
    · unfold x_shift; simp only [bnd_app]; rw [if_neg (dead_x hd)]
    · exact mf_ite rfl (mfix_shL _ _ _ _ (dead_m hd))
  unfold m_shift
  simp only [bnd_app]
  rcases get_take hc v3_0 hs with ⟨v1, c1, a1, a2⟩ | ⟨a, a1, a2⟩
  · simp only [a1, a2]
    rcases get_take hc v3_1 s1 with ⟨v2, c2, b1, b2⟩ | ⟨a, b1, b2⟩
    · simp only [b1, b2]
      unfold x_shift
      simp only [bnd_app]
      rw [if_pos hL.2.1]
      by_cases z : (v2.toInt32 &&& (if sz = 8 then (63 : Int32) else 31)) = 0
      · rw [if_pos z, if_pos z]; exact Or.inl hL
      · rw [if_neg z, if_neg z]
        have hN := and_nn z
        generalize (v2.toInt32 &&& (if sz = 8 then (63 : Int32) else 31)) = N at *
        have em : e = dm_carry_ (dm_carry e) e := rfl
        rw [em]
        rcases ho with q | q | q | q | q <;> subst q
        · exact sh24 hc hs h0 hN _ _ _ _ _ _ (Nat.lt_succ_self _) (Int32.le_refl _) (Or.inl rfl)
        · exact sh25 hc hs h0 hN _ _ _ _ _ _ (Nat.lt_succ_self _) (Int32.le_refl _) (Or.inl rfl)
        · exact sh26 hc hs h0 hN _ _ _ _ _ _ (Nat.lt_succ_self _) (Int32.le_refl _) (Or.inl rfl)
        · exact sh27 hc hs h0 hN _ _ _ _ _ (Nat.lt_succ_self _) (Int32.le_refl _) (Or.inl rfl)
        · exact sh28 hc hs h0 hN _ _ _ _ _ _ (Nat.lt_succ_self _) (Int32.le_refl _) (Or.inl rfl)
    · simp only [b1, b2]
      exact dead _ _ _ _ _ (ctx_dead hc a bad3)
  · simp only [a1, a2]
    exact dead _ _ _ _ _ (dd_get (K := K) (L := L) (ctx_dead hc a bad3) 1 1 1 1)
