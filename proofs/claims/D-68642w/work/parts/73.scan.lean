/-! ===== op 44, 45: the lowest and the highest bit ===== -/
theorem bm1 : ∀ i, i < 32 → (-1 : Int32).toBitVec.getLsbD i = true := by decide +kernel
def ntzF (v1 : Int32) : Int32 := if 0 < v1 then (bnd (α := Int32 × Int32) (if v1 ≤ (65536 : Int32) then ((1 : Int32), v1) else (bnd (α := Int32) (((1 : Int32) + (16 : Int32))) fun v3 => bnd (α := Int32) ((iushr_ v1 (16 : Int32))) fun v4 => (v3, v4))) fun p2 => bnd (α := Int32 × Int32) (if p2.2 ≤ (256 : Int32) then (p2.1, p2.2) else (bnd (α := Int32) ((p2.1 + (8 : Int32))) fun v6 => bnd (α := Int32) ((iushr_ p2.2 (8 : Int32))) fun v7 => (v6, v7))) fun p5 => bnd (α := Int32 × Int32) (if p5.2 ≤ (16 : Int32) then (p5.1, p5.2) else (bnd (α := Int32) ((p5.1 + (4 : Int32))) fun v9 => bnd (α := Int32) ((iushr_ p5.2 (4 : Int32))) fun v10 => (v9, v10))) fun p8 => bnd (α := Int32 × Int32) (if p8.2 ≤ (4 : Int32) then (p8.1, p8.2) else (bnd (α := Int32) ((p8.1 + (2 : Int32))) fun v12 => bnd (α := Int32) ((iushr_ p8.2 (2 : Int32))) fun v13 => (v12, v13))) fun p11 => (p11.1 + (iushr_ p11.2 (1 : Int32)))) else (v1 &&& (32 : Int32))
theorem ntzF_all : ∀ t, t < 32 → ntzF (nI (2 ^ t - 1)) = nI t := by decide +kernel
theorem ntz_mask {v : Int32} {t : Nat} (ht : t < 32) (h1 : v.toBitVec.getLsbD t = true) (h0 : ∀ j, j < t → v.toBitVec.getLsbD j = false) : (v ^^^ (-1)) &&& (v - 1) = nI (2 ^ t - 1) := by
  have hN := v.toBitVec.isLt
  have b1 : v.toBitVec.toNat.testBit t = true := h1
  have b0 : ∀ j, j < t → v.toBitVec.toNat.testBit j = false := h0
  generalize hv : v.toBitVec.toNat = N at *
  have m0 : N % 2 ^ t = 0 := by
    apply Nat.eq_of_testBit_eq
    intro i
    rw [Nat.testBit_mod_two_pow, Nat.zero_testBit]
    by_cases c : i < t
    · rw [b0 i c, Bool.and_false]
    · rw [decide_eq_false c, Bool.false_and]
  have hq : N = 2 ^ t * (N / 2 ^ t) := by have := Nat.div_add_mod N (2 ^ t); omega
  have o1 : N / 2 ^ t % 2 = 1 := by rw [Nat.testBit_eq_decide_div_mod_eq] at b1; exact of_decide_eq_true b1
  generalize N / 2 ^ t = q at *
  have hp : 0 < 2 ^ t := Nat.two_pow_pos t
  have hq1 : q = q - 1 + 1 := by omega
  have hN1 : N - 1 = 2 ^ t * (q - 1) + (2 ^ t - 1) := by
    have : 2 ^ t * q = 2 ^ t * (q - 1) + 2 ^ t := by
      have e : 2 ^ t * q = 2 ^ t * (q - 1 + 1) := by rw [← hq1]
      rw [e, Nat.mul_add, Nat.mul_one]
    omega
  have hNpos : 1 ≤ N := by
    have : 2 ^ t * 1 ≤ 2 ^ t * q := Nat.mul_le_mul_left _ (by omega)
    omega
  have bs : ∀ i, N.testBit i = if i < t then false else q.testBit (i - t) := by
    intro i
    have := Nat.testBit_two_pow_mul_add q (b := 0) (i := t) hp i
    rw [Nat.add_zero, ← hq, Nat.zero_testBit] at this
    exact this
  have bs1 : ∀ i, (N - 1).testBit i = if i < t then true else (q - 1).testBit (i - t) := by
    intro i
    have := Nat.testBit_two_pow_mul_add (q - 1) (b := 2 ^ t - 1) (i := t) (by omega) i
    rw [← hN1, Nat.testBit_two_pow_sub_one] at this
    rw [this]
    by_cases c : i < t
    · rw [if_pos c, if_pos c, decide_eq_true c]
    · rw [if_neg c, if_neg c]
  have sb : (v - 1).toBitVec.toNat = N - 1 := by
    show (v.toBitVec - 1#32).toNat = _
    rw [BitVec.toNat_sub, hv]
    show (2 ^ 32 - 1 + N) % 2 ^ 32 = _
    omega
  apply Int32.toBitVec_inj.mp
  apply BitVec.eq_of_getLsbD_eq
  intro i hi
  have hk2 : 2 ^ t ≤ 2 ^ 31 := Nat.pow_le_pow_right (by decide) (by omega)
  have rhs : (nI (2 ^ t - 1)).toBitVec.getLsbD i = decide (i < t) := by
    show (nI (2 ^ t - 1)).toBitVec.toNat.testBit i = _
    rw [pk_tn (by omega), Nat.testBit_two_pow_sub_one]
  rw [rhs, Int32.toBitVec_and, BitVec.getLsbD_and, Int32.toBitVec_xor, BitVec.getLsbD_xor, bm1 i hi]
  have l1 : v.toBitVec.getLsbD i = N.testBit i := by rw [← hv]; rfl
  have l2 : (v - 1).toBitVec.getLsbD i = (N - 1).testBit i := by rw [← sb]; rfl
  rw [l1, l2, bs i, bs1 i]
  by_cases c : i < t
  · rw [if_pos c, if_pos c, decide_eq_true c]; rfl
  · rw [if_neg c, if_neg c, decide_eq_false c]
    have hq2 : (q - 1) / 2 = q / 2 := by omega
    cases hk : i - t with
    | zero =>
      have : q.testBit 0 = true := by rw [Nat.testBit_eq_decide_div_mod_eq, Nat.pow_zero, Nat.div_one]; exact decide_eq_true o1
      rw [this]; rfl
    | succ k =>
      rw [Nat.testBit_succ, Nat.testBit_succ, hq2]
      cases (q / 2).testBit k <;> rfl
theorem ntz32_eq {v : Int32} {t : Nat} (ht : t < 32) (h1 : v.toBitVec.getLsbD t = true) (h0 : ∀ j, j < t → v.toBitVec.getLsbD j = false) : j_ntz32 v = nI t := by
  have e : j_ntz32 v = ntzF ((v ^^^ (-1)) &&& (v - 1)) := by
    unfold j_ntz32 ntzF; rw [bnd_app]
  rw [e, ntz_mask ht h1 h0, ntzF_all t ht]
theorem lo_bit (y : Int64) {i : Nat} (hi : i < 32) : y.toInt32.toBitVec.getLsbD i = tb y i := by
  show (y.toBitVec.signExtend 32).getLsbD i = _
  rw [BitVec.getLsbD_signExtend, decide_eq_true hi, if_pos (by omega)]; rfl
theorem hi_bit (y : Int64) {i : Nat} (hi : i < 32) : (lushr_ y 32).toInt32.toBitVec.getLsbD i = tb y (32 + i) := by
  rw [lo_bit _ hi, tb_lushr y 32 (by decide) (by decide)]
theorem i32_0 {v : Int32} (h : ∀ i, i < 32 → v.toBitVec.getLsbD i = false) : v = 0 := by
  apply Int32.toBitVec_inj.mp
  apply BitVec.eq_of_getLsbD_eq
  intro i hi
  rw [h i hi]; show false = (0#32).getLsbD i; simp
theorem i32_n0 {v : Int32} {i : Nat} (h : v.toBitVec.getLsbD i = true) : ¬ v = 0 := by
  intro q; subst q
  have : (0#32).getLsbD i = true := h
  simp at this
theorem ntz_eq {y : Int64} {i : Nat} (hi : i < 64) (h1 : tb y i = true) (h0 : ∀ j, j < i → tb y j = false) : j_ntz y = nI i := by
  unfold j_ntz
  rw [bnd_app]
  by_cases c : i < 32
  · rw [if_neg (i32_n0 ((lo_bit y c).trans h1))]
    exact ntz32_eq c ((lo_bit y c).trans h1) (fun j hj => (lo_bit y (by omega)).trans (h0 j hj))
  · rw [if_pos (i32_0 (fun j hj => (lo_bit y hj).trans (h0 j (by omega))))]
    have e : j_ntz32 (lushr_ y 32).toInt32 = nI (i - 32) := ntz32_eq (by omega) ((hi_bit y (by omega)).trans (by rw [show 32 + (i - 32) = i by omega]; exact h1)) (fun j hj => (hi_bit y (by omega)).trans (h0 _ (by omega)))
    rw [e]
    have : (32 : Int32) + nI (i - 32) = nI (32 + (i - 32)) := nI_add 32 (i - 32)
    rw [this, show 32 + (i - 32) = i by omega]
/-! the highest -/
def Hb (N h : Nat) : Prop := 2 ^ h ≤ N ∧ N < 2 ^ (h + 1)
theorem stg {N h : Nat} (k : Nat) (n dn : Int32) {T s : Int32} (hT : T = nI (2 ^ k)) (hk : k ≤ 16) (hs : ((s.toUInt32 &&& Int32.toUInt32 31).toBitVec % 32).toNat = k) (H : Hb N h) (hN : N < 2 ^ 31) : ∃ N', (if nI N < T then (n, nI N) else (n + dn, iushr_ (nI N) s)) = ((if h < k then n else n + dn), nI N') ∧ Hb N' (if h < k then h else h - k) ∧ N' < 2 ^ 31 := by
  have hk2 : 2 ^ k ≤ 2 ^ 16 := Nat.pow_le_pow_right (by decide) hk
  rw [hT]
  by_cases c : h < k
  · have : 2 ^ (h + 1) ≤ 2 ^ k := Nat.pow_le_pow_right (by decide) c
    have lt : N < 2 ^ k := Nat.lt_of_lt_of_le H.2 this
    rw [if_pos c, if_pos c, if_pos ((nI_ltI (by omega) (by omega)).mpr lt)]
    exact ⟨N, rfl, H, hN⟩
  · have : 2 ^ k ≤ 2 ^ h := Nat.pow_le_pow_right (by decide) (by omega)
    have ge : ¬ N < 2 ^ k := fun q => by have := H.1; omega
    rw [if_neg c, if_neg c, if_neg (fun q => ge ((nI_ltI (by omega) (by omega)).mp q))]
    have e : iushr_ (nI N) s = nI (N / 2 ^ k) := pk_ushrN (by omega) s k hs
    refine ⟨N / 2 ^ k, by rw [e], ⟨?_, ?_⟩, Nat.lt_of_le_of_lt (Nat.div_le_self _ _) hN⟩
    · rw [Nat.le_div_iff_mul_le (Nat.two_pow_pos k), ← Nat.pow_add, show h - k + k = h by omega]; exact H.1
    · rw [Nat.div_lt_iff_lt_mul (Nat.two_pow_pos k), ← Nat.pow_add, show h - k + 1 + k = h + 1 by omega]; exact H.2
def nlzG (h : Nat) : Int32 :=
  let n1 : Int32 := if h < 16 then 31 else 31 + (-16)
  let h1 := if h < 16 then h else h - 16
  let n2 := if h1 < 8 then n1 else n1 + (-8)
  let h2 := if h1 < 8 then h1 else h1 - 8
  let n3 := if h2 < 4 then n2 else n2 + (-4)
  let h3 := if h2 < 4 then h2 else h2 - 4
  let n4 := if h3 < 2 then n3 else n3 + (-2)
  let h4 := if h3 < 2 then h3 else h3 - 2
  n4 - nI h4
theorem nlzG_all : ∀ h, h < 31 → nlzG h = nI (31 - h) ∧ (let h1 := if h < 16 then h else h - 16; let h2 := if h1 < 8 then h1 else h1 - 8; let h3 := if h2 < 4 then h2 else h2 - 4; (if h3 < 2 then h3 else h3 - 2) < 2) := by decide +kernel
theorem nlz32_pos {N h : Nat} (H : Hb N h) (hh : h < 31) : j_nlz32 (nI N) = nI (31 - h) := by
  have hN : N < 2 ^ 31 := Nat.lt_of_lt_of_le H.2 (Nat.pow_le_pow_right (by decide) (by omega))
  have h0 : 0 < N := Nat.lt_of_lt_of_le (Nat.two_pow_pos h) H.1
  have pos : (0 : Int32) < nI N := by
    rw [Int32.lt_iff_toInt_lt, nI_toInt hN, show (0 : Int32).toInt = 0 from by decide]; omega
  unfold j_nlz32
  rw [if_pos pos]
  simp only [bnd_app]
  obtain ⟨N1, e1, H1, hN1⟩ := stg 16 31 (-16) (T := 65536) (s := 16) (by decide) (by decide) (by decide) H hN
  rw [e1]
  dsimp only
  generalize hn1 : (if h < 16 then (31 : Int32) else 31 + (-16)) = n1
  generalize hh1 : (if h < 16 then h else h - 16) = g1 at H1
  obtain ⟨N2, e2, H2, hN2⟩ := stg 8 n1 (-8) (T := 256) (s := 8) (by decide) (by decide) (by decide) H1 hN1
  rw [e2]
  dsimp only
  generalize hn2 : (if g1 < 8 then n1 else n1 + (-8)) = n2
  generalize hh2 : (if g1 < 8 then g1 else g1 - 8) = g2 at H2
  obtain ⟨N3, e3, H3, hN3⟩ := stg 4 n2 (-4) (T := 16) (s := 4) (by decide) (by decide) (by decide) H2 hN2
  rw [e3]
  dsimp only
  generalize hn3 : (if g2 < 4 then n2 else n2 + (-4)) = n3
  generalize hh3 : (if g2 < 4 then g2 else g2 - 4) = g3 at H3
  obtain ⟨N4, e4, H4, hN4⟩ := stg 2 n3 (-2) (T := 4) (s := 2) (by decide) (by decide) (by decide) H3 hN3
  rw [e4]
  dsimp only
  generalize hn4 : (if g3 < 2 then n3 else n3 + (-2)) = n4
  generalize hh4 : (if g3 < 2 then g3 else g3 - 2) = g4 at H4
  obtain ⟨ga, gb⟩ := nlzG_all h hh
  have eg : nlzG h = n4 - nI g4 := by
    unfold nlzG
    dsimp only
    rw [hn1, hh1, hn2, hh2, hn3, hh3, hn4, hh4]
  dsimp only at gb
  rw [hh1, hh2, hh3, hh4] at gb
  have e5 : iushr_ (nI N4) 1 = nI (N4 / 2 ^ 1) := pk_ushrN (by omega) 1 1 (by decide)
  have e6 : N4 / 2 ^ 1 = g4 := by
    have hg : g4 = 0 ∨ g4 = 1 := by omega
    rcases hg with q | q
    · rw [q] at H4 ⊢
      have a1 := H4.1
      have a2 := H4.2
      have : (2 : Nat) ^ (0 + 1) = 2 := rfl
      rw [this] at a2
      show N4 / 2 = 0
      omega
    · rw [q] at H4 ⊢
      have a1 := H4.1
      have a2 := H4.2
      have t1 : (2 : Nat) ^ (1 + 1) = 4 := rfl
      have t2 : (2 : Nat) ^ 1 = 2 := rfl
      rw [t1] at a2
      rw [t2] at a1
      show N4 / 2 = 1
      omega
  rw [e5, e6, ← eg, ga]
theorem nlz32_eq {v : Int32} {h : Nat} (hh : h < 32) (h1 : v.toBitVec.getLsbD h = true) (h0 : ∀ j, h < j → j < 32 → v.toBitVec.getLsbD j = false) : j_nlz32 v = nI (31 - h) := by
  have ev : v = nI v.toBitVec.toNat := by
    apply Int32.toBitVec_inj.mp
    apply BitVec.eq_of_toNat_eq
    rw [pk_tn v.toBitVec.isLt]
  have H : Hb v.toBitVec.toNat h := by
    refine ⟨Nat.ge_two_pow_of_testBit h1, Nat.lt_pow_two_of_testBit _ (fun i hi => ?_)⟩
    by_cases c : i < 32
    · exact h0 i (by omega) c
    · exact Nat.testBit_lt_two_pow (Nat.lt_of_lt_of_le v.toBitVec.isLt (Nat.pow_le_pow_right (by decide) (by omega)))
  by_cases c : h < 31
  · rw [ev]; exact nlz32_pos H c
  · have e31 : h = 31 := by omega
    subst e31
    have ng : ¬ (0 : Int32) < v := by
      rw [Int32.lt_iff_toInt_lt, show (0 : Int32).toInt = 0 from by decide]
      have e : v.toInt = v.toBitVec.toInt := rfl
      rw [e, BitVec.toInt_eq_toNat_cond]
      have := H.1
      have := v.toBitVec.isLt
      split <;> omega
    unfold j_nlz32
    rw [if_neg ng, if_neg (i32_n0 h1)]; decide
theorem nlz_eq {y : Int64} {i : Nat} (hi : i < 64) (h1 : tb y i = true) (h0 : ∀ j, i < j → j < 64 → tb y j = false) : (63 : Int32) - j_nlz y = nI i := by
  have e : j_nlz y = nI (63 - i) := by
    unfold j_nlz
    rw [bnd_app]
    by_cases c : i < 32
    · rw [if_pos (i32_0 (fun j hj => (hi_bit y hj).trans (h0 _ (by omega) (by omega))))]
      have e : j_nlz32 y.toInt32 = nI (31 - i) := nlz32_eq c ((lo_bit y c).trans h1) (fun j hj hj2 => (lo_bit y hj2).trans (h0 j hj (by omega)))
      rw [e]
      have : (32 : Int32) + nI (31 - i) = nI (32 + (31 - i)) := nI_add 32 (31 - i)
      rw [this, show 32 + (31 - i) = 63 - i by omega]
    · have b : (lushr_ y 32).toInt32.toBitVec.getLsbD (i - 32) = true := (hi_bit y (by omega)).trans (by rw [show 32 + (i - 32) = i by omega]; exact h1)
      rw [if_neg (i32_n0 b)]
      rw [nlz32_eq (h := i - 32) (by omega) b (fun j hj hj2 => (hi_bit y hj2).trans (h0 _ (by omega) (by omega)))]
      rw [show 31 - (i - 32) = 63 - i by omega]
  rw [e]
  have : (63 : Int32) - nI (63 - i) = nI (63 - (63 - i)) := pk_sub (a := 63) (b := 63 - i) (by omega)
  rw [this, show 63 - (63 - i) = i by omega]
/-! M's own search -/
theorem low_loop {L : MK} {sz : Int32} {g : Int64 × MD} {e : MD} {i : Nat} (hi : i < 64) (h1 : tb g.1 i = true) (h0 : ∀ j, j < i → tb g.1 j = false) : ∀ (n j : Nat), j ≤ i → 64 - j < n → m_bits_L150 L 44 sz g n (nI j) (nI j) e = m_put L 0 sz (nI i).toInt64 e := by
  intro n
  induction n with
  | zero => intro j _ h; omega
  | succ n ih =>
    intro j hj hn
    rw [m_bits_L150_s]
    simp only [bnd_app]
    have c64 : ¬ (64 : Int32) ≤ nI j := fun q => by
      have : nI 64 ≤ nI j := q
      have := (nI_leI (by decide) (by omega)).mp this
      omega
    rw [if_neg c64, bit01 g.1 j (by omega) rfl]
    by_cases c : j = i
    · subst c
      rw [h1, if_pos rfl, if_neg (show ¬ (1 : Int64) = 0 by decide), if_neg (show ¬ false = true by decide)]
    · rw [h0 j (by omega), if_neg (show ¬ false = true by decide), if_pos rfl, if_pos rfl]
      first | rw [if_pos trivial] | rw [if_pos rfl]
      have : nI j + 1 = nI (j + 1) := nI_1 j
      rw [this]
      exact ih (j + 1) (by omega) (by omega)
theorem high_loop {L : MK} {sz : Int32} {g : Int64 × MD} {e : MD} {i : Nat} (hi : i < 64) (h1 : tb g.1 i = true) (h0 : ∀ j, i < j → j < 64 → tb g.1 j = false) : ∀ (n j : Nat), i + j ≤ 63 → 64 - j < n → m_bits_L150 L 45 sz g n (nI (63 - j)) (nI j) e = m_put L 0 sz (nI i).toInt64 e := by
  intro n
  induction n with
  | zero => intro j _ h; omega
  | succ n ih =>
    intro j hj hn
    rw [m_bits_L150_s]
    simp only [bnd_app]
    have c64 : ¬ (64 : Int32) ≤ nI j := fun q => by
      have : nI 64 ≤ nI j := q
      have := (nI_leI (by decide) (by omega)).mp this
      omega
    rw [if_neg c64, bit01 g.1 (63 - j) (by omega) rfl]
    by_cases c : 63 - j = i
    · rw [c, h1, if_pos rfl, if_neg (show ¬ (1 : Int64) = 0 by decide), if_neg (show ¬ false = true by decide)]
    · rw [h0 (63 - j) (by omega) (by omega), if_neg (show ¬ false = true by decide), if_pos rfl, if_pos rfl, if_neg (show ¬ (45 : Int32) = 44 by decide)]
      have e1 : nI (63 - j) + (-1) = nI (63 - (j + 1)) := by
        rw [show 63 - j = (63 - (j + 1)) + 1 by omega]; exact pk_m1 _
      have e2 : nI j + 1 = nI (j + 1) := nI_1 j
      rw [e1, e2]
      exact ih (j + 1) (by omega) (by omega)
theorem some_bit {y : Int64} (h : ¬ y = 0) : ∃ i, i < 64 ∧ tb y i = true := by
  apply Classical.byContradiction
  intro q
  apply h
  apply tb_ext
  intro i hi
  rw [tb_0]
  exact Bool.eq_false_iff.mpr (fun w => q ⟨i, hi, w⟩)
theorem low_bit {y : Int64} (h : ¬ y = 0) : ∃ i, i < 64 ∧ tb y i = true ∧ ∀ j, j < i → tb y j = false := by
  obtain ⟨i, hi, h1⟩ := some_bit h
  obtain ⟨k, k1, k2⟩ := pk_least (fun k => tb y k = true) ⟨i, h1⟩
  refine ⟨k, ?_, k1, fun j hj => Bool.eq_false_iff.mpr (k2 j hj)⟩
  apply Classical.byContradiction
  intro q
  rw [tb_big (by omega)] at k1; cases k1
theorem high_bit {y : Int64} (h : ¬ y = 0) : ∃ i, i < 64 ∧ tb y i = true ∧ ∀ j, i < j → j < 64 → tb y j = false := by
  obtain ⟨i, hi, h1⟩ := some_bit h
  obtain ⟨k, ⟨k0, k1⟩, k2⟩ := pk_least (fun k => k < 64 ∧ tb y (63 - k) = true) ⟨63 - i, by omega, by rw [show 63 - (63 - i) = i by omega]; exact h1⟩
  refine ⟨63 - k, by omega, k1, fun j hj hj2 => Bool.eq_false_iff.mpr (fun w => k2 (63 - j) (by omega) ⟨by omega, by rw [show 63 - (63 - j) = j by omega]; exact w⟩)⟩
theorem fo_z {d : XD} {e : MD} (h : FL d e) (b : Bool) : FO d e (x_mark 64 b d) (dm_zero_ b e) := by
  rw [mk_z h]; exact ⟨dm_carry e, dm_parity e, b, dm_negative e, dm_over e, rfl, rfl⟩
theorem mzz (b : Bool) (e : MD) : dm_zero (dm_zero_ b e) = b := rfl
theorem mf_bitsL {L : MK} {o sz : Int32} {g : Int64 × MD} {e : MD} (h : ¬ dm_halt e = 0) : ∀ (n : Nat) (w k : Int32), mfix (m_bits_L150 L o sz g n w k e) = mfix e := by
  intro n
  induction n with
  | zero => intro w k; rfl
  | succ n ih =>
    intro w k
    rw [m_bits_L150_s]
    simp only [bnd_app]
    exact mf_ite (mf_ite (ih _ _) (ih _ _)) (md_put h)
theorem op_scan {K : XK} {L : MK} {d0 d : XD} {e0 e : MD} (hc : Ctx K L d0 e0 d e) {o sz : Int32} (hs : SZ sz) (h0 : K12 K 0) (ho : o = 44 ∨ o = 45) : RS d0 e0 (x_scan K (if o = 45 then true else false) sz (x_get K 1 sz d).1 (x_get K 1 sz d).2) (m_bits L o sz e) := by
  have em : m_bits L o sz e = (if b2i (dm_zero (dm_zero_ (if (m_take L 1 sz e).1 = 0 then true else false) (m_take L 1 sz e).2)) = 0 then m_bits_L150 L o sz (m_take L 1 sz e) (mI (0 : Int32) 64 + 1) (if o = 44 then (0 : Int32) else 63) 0 (dm_zero_ (if (m_take L 1 sz e).1 = 0 then true else false) (m_take L 1 sz e).2) else dm_zero_ (if (m_take L 1 sz e).1 = 0 then true else false) (m_take L 1 sz e).2) := by
    unfold m_bits
    simp only [bnd_app]
    rcases ho with q | q <;> subst q
    · rw [if_neg (show ¬ (44 : Int32) = 46 by decide), if_neg (show ¬ (44 : Int32) = 47 by decide)]
    · rw [if_neg (show ¬ (45 : Int32) = 46 by decide), if_neg (show ¬ (45 : Int32) = 47 by decide)]
  rw [em, mzz]
  rcases get_take hc v3_1 hs with ⟨v, c, a1, a2⟩ | ⟨a, a1, a2⟩
  · rw [a1, a2]
    dsimp only
    unfold x_scan
    simp only [bnd_app]
    rw [if_pos hc.2.2.2.1.2.1]
    have hFL := hc.2.2.2.1.2.2.2.2
    by_cases z : v = 0
    · rw [if_pos z, if_pos z, if_t]
      exact Or.inl (live_fo hc.2.2.2.1 (fo_z hFL true))
    · rw [if_neg z, if_neg z, if_f]
      have hc2 := ctx_fo hc (fo_z hFL false)
      rcases ho with q | q <;> subst q
      · obtain ⟨i, i1, i2, i3⟩ := low_bit z
        rw [if_neg (show ¬ (44 : Int32) = 45 by decide), if_f, if_pos rfl, ntz_eq i1 i2 i3]
        have := low_loop (L := L) (sz := sz) (g := (v, e)) (e := dm_zero_ false e) i1 i2 i3 (mI (0 : Int32) 64 + 1) 0 (by omega) (by decide)
        rw [show m_bits_L150 L 44 sz (v, e) (mI (0 : Int32) 64 + 1) 0 0 (dm_zero_ false e) = m_bits_L150 L 44 sz (v, e) (mI (0 : Int32) 64 + 1) (nI 0) (nI 0) (dm_zero_ false e) from by rw [nI_0], this]
        exact put_put hc2 v3_0 hs h0 rfl
      · obtain ⟨i, i1, i2, i3⟩ := high_bit z
        rw [if_pos rfl, if_t, if_neg (show ¬ (45 : Int32) = 44 by decide), nlz_eq i1 i2 i3]
        have := high_loop (L := L) (sz := sz) (g := (v, e)) (e := dm_zero_ false e) i1 i2 i3 (mI (0 : Int32) 64 + 1) 0 (by omega) (by decide)
        rw [show m_bits_L150 L 45 sz (v, e) (mI (0 : Int32) 64 + 1) 63 0 (dm_zero_ false e) = m_bits_L150 L 45 sz (v, e) (mI (0 : Int32) 64 + 1) (nI (63 - 0)) (nI 0) (dm_zero_ false e) from by rw [nI_0]; rfl, this]
        exact put_put hc2 v3_0 hs h0 rfl
  · have hd := ctx_dead hc a bad3
    rw [a1, a2]
    dsimp only
    refine Or.inr (dead_same ?_ ?_ hd)
    · unfold x_scan; rw [if_neg (dead_x hd)]
    · generalize (if (0 : Int64) = 0 then true else false) = bb
      have hz : ¬ dm_halt (dm_zero_ bb (m_stopWith 3 a e)) = 0 := dead_m hd
      exact mf_ite ((mf_bitsL hz _ _ _).trans (mf_zero _ _)) (mf_zero _ _)
