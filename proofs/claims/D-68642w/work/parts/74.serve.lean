/-! ===== op 42: services ===== -/
def LiveF (d0 : XD) (e0 : MD) (d : XD) (e : MD) : Prop := Com d0 e0 d e ∧ (dx_stop d = 0 ∨ dx_stop d = 1 ∨ dx_stop d = 6) ∧ REq (dx_r d) (dm_regs e) ∧ dx_next d = dm_ip e ∧ FL d e
theorem liveF {d0 d : XD} {e0 e : MD} (h : Live d0 e0 d e) : LiveF d0 e0 d e := ⟨h.1, Or.inl h.2.1, h.2.2.1, h.2.2.2.1, h.2.2.2.2⟩
def ServeOk (K : XK) (L : MK) (d0 : XD) (e0 : MD) (p : XK × XD) (q : MK × MD) : Prop := RIn p.1 q.1 ∧ RLay p.1 q.1 ∧ (∃ b, p.1 = kx_broken_ b K) ∧ (∃ h, q.1 = km_heapSize_ h L) ∧ LiveF d0 e0 p.2 q.2
theorem serve_same {K : XK} {L : MK} {d0 d : XD} {e0 e : MD} (hi : RIn K L) (hl : RLay K L) (h : LiveF d0 e0 d e) : ServeOk K L d0 e0 (K, d) (L, e) := ⟨hi, hl, ⟨kx_broken K, rfl⟩, ⟨km_heapSize L, rfl⟩, h⟩
theorem all_f {K : XK} {a cnt : Int64} {w : Bool} : ∀ (n : Nat) (k : Int64), x_all_L6 K a cnt w n false k = false := by
  intro n
  cases n with
  | zero => intro k; rfl
  | succ n =>
    intro k
    rw [x_all_L6_s]
    split
    · rfl
    · rw [if_f]
theorem all_mayL {K : XK} {L : MK} (hl : RLay K L) {a cnt : Int64} {w : Bool} : ∀ (n : Nat) (k : Int64), x_all_L6 K a cnt w n true k = m_may_L19 L a cnt w n k := by
  intro n
  induction n with
  | zero => intro k; rfl
  | succ n ih =>
    intro k
    rw [x_all_L6_s, m_may_L19_s]
    by_cases c : cnt ≤ k
    · rw [if_pos c, if_pos c]
    · rw [if_neg c, if_neg c, if_t]
      simp only [bnd_app]
      by_cases z : x_where K (a + k) w < 0
      · rw [if_pos z, if_neg (wf_neg hl z), all_f]
      · rw [if_neg z, if_pos (PL_nn (wf_pos hl (Int32.not_lt.mp z))).2.1]
        exact ih _
theorem all_may {K : XK} {L : MK} (hl : RLay K L) {a cnt : Int64} {w : Bool} (h0 : 0 ≤ cnt.toInt) (h1 : cnt.toInt ≤ 1048576) : m_may L a cnt w = x_all K a cnt w := by
  unfold m_may x_all
  have e : (1048576 : Int64).toInt = 1048576 := by decide
  have z : (0 : Int64).toInt = 0 := by decide
  rw [if_neg (by rw [Int64.lt_iff_toInt_lt, z]; omega), if_pos (by rw [Int64.le_iff_toInt_le, e]; omega)]
  exact (all_mayL hl _ _).symm
theorem rd_n {N : Int32} {x : Int64} (hN : 0 ≤ N ∧ N.toInt ≤ 65536) : (if x < (0 : Int64) then N else (if x ≤ N.toInt64 then x.toInt32 else N)) = (if 0 ≤ j_compareUnsigned x N.toInt64 then N else x.toInt32) := by
  have h0 : 0 ≤ N.toInt := by have := hN.1; rw [Int32.le_iff_toInt_le] at this; exact this
  have h2 := hN.2
  have z : (0 : Int64).toInt = 0 := by decide
  have cu := cu_lt_nn (x := x) (y := N.toInt64) (by rw [i2l_toInt]; exact h0)
  rw [i2l_toInt] at cu
  by_cases c : x < (0 : Int64)
  · have c' := c
    rw [Int64.lt_iff_toInt_lt, z] at c'
    rw [if_pos c, if_pos (Int32.not_lt.mp (fun q => by have := cu.mp q; omega))]
  · have c' := c
    rw [Int64.lt_iff_toInt_lt, z] at c'
    rw [if_neg c]
    by_cases c2 : x ≤ N.toInt64
    · have c3 := c2
      rw [Int64.le_iff_toInt_le, i2l_toInt] at c3
      rw [if_pos c2]
      by_cases c4 : x.toInt < N.toInt
      · rw [if_neg (Int32.not_le.mpr (cu.mpr ⟨by omega, c4⟩))]
      · rw [if_pos (Int32.not_lt.mp (fun q => c4 (cu.mp q).2))]
        apply Int32.toInt_inj.mp
        rw [l2i_small (by omega) (by omega)]; omega
    · have c3 := c2
      rw [Int64.le_iff_toInt_le, i2l_toInt] at c3
      rw [if_neg c2, if_pos (Int32.not_lt.mp (fun q => by have := cu.mp q; omega))]
/-! reading: the bytes go to memory .. -/
theorem rd_loop {K : XK} {L : MK} (hl : RLay K L) {a : Int64} {N : Int32} (hN : N.toInt ≤ 65536) (hw : ∀ j : Int32, 0 ≤ j → ¬ N ≤ j → 0 ≤ x_where K (a + j.toInt64) true) : ∀ (n : Nat) (k : Int32) (d : XD) (e : MD), mI k N < n → 0 ≤ k → dx_r d (6 : Int32).toNatClampNeg = a → RM d e → (∀ i, i < 65536 → dx_inB d i = dm_given e i) → ∃ b f g h, RM (dx_bytes_ b d) (mmem f g h e) ∧ x_readInput_L61 K N n k d = (N.toInt64, x_drop N (dx_bytes_ b d)) ∧ m_service_L104 L a N true n k e = m_service_L148 L N true (mI N (dm_givenSize e) + 1) N (mmem f g h e) := by
  intro n
  induction n with
  | zero => intro k d e h; exact absurd h (Nat.not_lt_zero _)
  | succ n ih =>
    intro k d e hn k0 hr hm hg
    rw [x_readInput_L61_s, m_service_L104_s]
    simp only [bnd_app, if_t]
    by_cases c : N ≤ k
    · rw [if_pos c, if_pos c, if_neg (show ¬ false = true by decide)]
      exact ⟨dx_bytes d, dm_memory e, dm_heap e, dm_stack e, hm, rfl, rfl⟩
    · rw [if_neg c, if_neg c, if_pos rfl]
      have hp := wf_pos hl (hw k k0 c)
      rw [hr]
      have kin : k.toNatClampNeg < 65536 := by
        have := i_ge c
        have k1 := i_nn0 (Int32.not_lt.mpr k0)
        omega
      have hs := set_place hm hp (dm_given e k.toNatClampNeg)
      obtain ⟨f1, g1, h1, es⟩ := sp_form (m_find L (a + k.toInt64) true) (dm_given e k.toNatClampNeg) e
      rw [es] at hs ⊢
      rw [pk_vb, ← vp_nar_byte, ← hg _ kin] at hs
      obtain ⟨b, f, g, h, r1, r2, r3⟩ := ih (k + 1) _ _ (mI_dec c hn rfl) (i_nn k0 c rfl) (show dx_r (dx_bytes_ (upd (dx_bytes d) (x_where K (a + k.toInt64) true).toNatClampNeg (vp_nar .byte (dx_inB d k.toNatClampNeg))) d) (6 : Int32).toNatClampNeg = a from hr) hs hg
      exact ⟨b, f, g, h, r1, r2, r3⟩
/-! .. and the rest moves up -/
theorem dr_loop {N : Int32} {L : MK} : ∀ (n : Nat) (k : Int32) (d : XD) (e : MD), mI k (dx_inN d) < n → dx_inN d = dm_givenSize e → 0 ≤ N → N ≤ k → (dx_inN d).toInt ≤ 65536 → (∀ i, i < 65536 → dx_inB d i = dm_given e i) → ∃ ib ig, (∀ i, i < 65536 → ib i = ig i) ∧ x_drop_L2 N n k d = dx_inN_ (dx_inN d - N) (dx_inB_ ib d) ∧ m_service_L148 L N true n k e = (L, dm_regs_ (vp_updL (dm_regs e) (0 : Int32).toNatClampNeg N.toInt64) (dm_givenSize_ (dm_givenSize e - N) (dm_given_ ig e))) := by
  intro n
  induction n with
  | zero => intro k d e h; exact absurd h (Nat.not_lt_zero _)
  | succ n ih =>
    intro k d e hn hN n0 nk h65 hg
    rw [x_drop_L2_s, m_service_L148_s]
    simp only [bnd_app, if_t]
    rw [← hN]
    by_cases c : dx_inN d ≤ k
    · rw [if_pos c, if_pos c, if_neg (show ¬ false = true by decide)]
      exact ⟨dx_inB d, dm_given e, hg, rfl, rfl⟩
    · rw [if_neg c, if_neg c, if_pos rfl]
      have kin := vp_lt (dr_1 n0 nk c h65)
      have kin2 := vp_lt (dr_2 n0 nk c h65)
      obtain ⟨ib, ig, r1, r2, r3⟩ := ih (k + 1) (dx_inB_ (upd (dx_inB d) (k - N).toNatClampNeg (vp_nar .byte (dx_inB d k.toNatClampNeg))) d) (dm_given_ (upd (dm_given e) (k - N).toNatClampNeg (vp_nar .byte (dm_given e k.toNatClampNeg))) e) (mI_dec c hn rfl) hN n0 (i_le_s nk c rfl) h65 (fun i hi => by
        show upd (dx_inB d) (k - N).toNatClampNeg _ i = upd (dm_given e) (k - N).toNatClampNeg _ i
        rw [upd_at, upd_at, hg i hi, hg _ kin])
      refine ⟨ib, ig, r1, r2, ?_⟩
      have e1 : dm_givenSize (dm_given_ (upd (dm_given e) (k - N).toNatClampNeg (vp_nar .byte (dm_given e k.toNatClampNeg))) e) = dm_givenSize e := rfl
      rw [e1, ← hN] at r3
      exact r3
theorem rd_bad {L : MK} {a : Int64} {N : Int32} {e : MD} (n : Nat) : m_service_L104 L a N false (n + 1) 0 e = (L, dm_regs_ (vp_updL (dm_regs e) (0 : Int32).toNatClampNeg (-14)) e) := by
  rw [m_service_L104_s]
  simp only [bnd_app, if_f]
  have k1 : (if N ≤ 0 then false else false) = false := by split <;> rfl
  rw [k1, if_neg (show ¬ false = true by decide), m_service_L148_s]
  simp only [bnd_app, if_f]
  have k2 : (if dm_givenSize e ≤ N then false else false) = false := by split <;> rfl
  rw [k2, if_neg (show ¬ false = true by decide)]
  have z : dm_givenSize e - 0 = dm_givenSize e := by grind
  rw [z]
  rfl
theorem rd_live {d0 d : XD} {e0 e : MD} (h : Live d0 e0 d e) {b ib ig f g k : Nat → Int32} {N : Int32} (q1 : RM (dx_bytes_ b d) (mmem f g k e)) (w1 : ∀ i, i < 65536 → ib i = ig i) (hn : 0 ≤ N ∧ N.toInt ≤ (dx_inN d).toInt) : Live d0 e0 (dx_r_ (vp_updL (dx_r d) (0 : Int32).toNatClampNeg N.toInt64) (dx_inN_ (dx_inN d - N) (dx_inB_ ib (dx_bytes_ b d)))) (dm_regs_ (vp_updL (dm_regs e) (0 : Int32).toNatClampNeg N.toInt64) (dm_givenSize_ (dm_givenSize e - N) (dm_given_ ig (mmem f g k e)))) := by
  have hx := h.1.2.1.2.2.2.1
  have hsz := h.1.2.1.1.1
  obtain ⟨⟨c1, c2, c3, c4, c5⟩, h2, h3, h4, h5⟩ := h
  have inN0 : 0 ≤ (dx_inN d).toInt := by have := hx.1; rw [Int32.le_iff_toInt_le, show (0 : Int32).toInt = 0 from by decide] at this; exact this
  have hN2 := hn.2
  have n0 : 0 ≤ N.toInt := by have := hn.1; rw [Int32.le_iff_toInt_le, show (0 : Int32).toInt = 0 from by decide] at this; exact this
  have esub : (dx_inN d - N).toInt = (dx_inN d).toInt - N.toInt := i32_sub_small (by have := hx.2; omega) (by have := hx.2; omega)
  refine ⟨⟨q1, ⟨⟨?_, c2.1.2⟩, w1, c2.2.2.1, ⟨⟨?_, ?_⟩, c2.2.2.2.2⟩⟩, c3, c4, c5⟩, h2, req_up h3 rfl _, h4, h5⟩
  · show dx_inN d - N = dm_givenSize e - N
    rw [hsz]
  · show 0 ≤ dx_inN d - N
    rw [Int32.le_iff_toInt_le, esub, show (0 : Int32).toInt = 0 from by decide]; omega
  · show (dx_inN d - N).toInt ≤ 65536
    rw [esub]; have := hx.2; omega
theorem drop_r (N v : Int32) (ib b : Nat → Int32) (d : XD) : dx_r (dx_inN_ v (dx_inB_ ib (dx_bytes_ b d))) = dx_r d := rfl
theorem serve_read {K : XK} {L : MK} {d0 d : XD} {e0 e : MD} (hi : RIn K L) (hl : RLay K L) (h : Live d0 e0 d e) (N : Int32) (hP : N = (if 0 ≤ j_compareUnsigned (dx_r d (2 : Int32).toNatClampNeg) (dx_inN d).toInt64 then dx_inN d else (dx_r d (2 : Int32).toNatClampNeg).toInt32)) : ServeOk K L d0 e0 (K, dx_r_ (vp_updL (dx_r (x_readInput K d).2) (0 : Int32).toNatClampNeg (x_readInput K d).1) (x_readInput K d).2) (m_service_L104 L (dx_r d (6 : Int32).toNatClampNeg) N (m_may L (dx_r d (6 : Int32).toNatClampNeg) N.toInt64 true) (mI (0 : Int32) N + 1) 0 e) := by
  have hio := h.1.2.1
  have hsz := hio.1.1
  have hx := hio.2.2.2.1
  have hn := ri_n hx hP
  have hN65 := ri_65 hx hn
  have n0 : 0 ≤ N.toInt := by have := hn.1; rw [Int32.le_iff_toInt_le, show (0 : Int32).toInt = 0 from by decide] at this; exact this
  have ex : x_readInput K d = (if b2i (x_all K (dx_r d (6 : Int32).toNatClampNeg) N.toInt64 true) = 0 then (-14, d) else x_readInput_L61 K N (mI (0 : Int32) N + 1) 0 d) := by
    unfold x_readInput
    rw [bnd_app, ← hP]
  rw [ex, all_may hl (by rw [i2l_toInt]; exact n0) (by rw [i2l_toInt]; omega)]
  clear ex
  by_cases c : b2i (x_all K (dx_r d (6 : Int32).toNatClampNeg) N.toInt64 true) = 0
  · rw [if_pos c, b2i_f c, rd_bad]
    exact serve_same hi hl (liveF (live_r h (req_up h.2.2.1 rfl _)))
  · rw [if_neg c, b2i_t c]
    obtain ⟨b, f, g, k, q1, q2, q3⟩ := rd_loop hl hN65 (fun j j0 j1 => x_all_i c j0 j1) (mI (0 : Int32) N + 1) 0 d e (Nat.lt_succ_self _) (Int32.le_refl _) rfl h.1.1 hio.2.1
    rw [q2, q3]
    have hsz2 : dx_inN (dx_bytes_ b d) = dm_givenSize (mmem f g k e) := hsz
    obtain ⟨ib, ig, w1, w2, w3⟩ := dr_loop (N := N) (L := L) (mI N (dm_givenSize e) + 1) N (dx_bytes_ b d) (mmem f g k e) (by rw [hsz2]; exact Nat.lt_succ_self _) hsz2 hn.1 (Int32.le_refl _) hx.2 hio.2.1
    rw [w3]
    have ed : x_drop N (dx_bytes_ b d) = dx_inN_ (dx_inN d - N) (dx_inB_ ib (dx_bytes_ b d)) := by
      unfold x_drop
      have e0 : dx_inN (dx_bytes_ b d) = dm_givenSize e := hsz2
      rw [e0, w2]
      have e1 : dx_inN (dx_bytes_ b d) = dx_inN d := rfl
      rw [e1]
    rw [ed]
    exact serve_same hi hl (liveF (rd_live h q1 w1 hn))
/-! writing -/
theorem wr_room {N : Int32} {x : Int64} (hN : 0 ≤ N ∧ N.toInt ≤ 65536) : (j_compareUnsigned x ((65536 : Int32) - N).toInt64 ≤ 0 ∧ (if x < (0 : Int64) then false else (if ((65536 : Int64) - N.toInt64) < x then false else true)) = true ∧ 0 ≤ x.toInt ∧ x.toInt ≤ 65536 - N.toInt) ∨ (¬ j_compareUnsigned x ((65536 : Int32) - N).toInt64 ≤ 0 ∧ (if x < (0 : Int64) then false else (if ((65536 : Int64) - N.toInt64) < x then false else true)) = false) := by
  have h0 : 0 ≤ N.toInt := by have := hN.1; rw [Int32.le_iff_toInt_le] at this; exact this
  have h2 := hN.2
  have z : (0 : Int64).toInt = 0 := by decide
  have e4 : (65536 : Int64).toInt = 65536 := by decide
  have e3 : (65536 : Int32).toInt = 65536 := by decide
  have e : ((65536 : Int32) - N).toInt = 65536 - N.toInt := by rw [i32_sub_small (by omega) (by omega), e3]
  have cg := cu_gt_nn (x := x) (y := ((65536 : Int32) - N).toInt64) (by rw [i2l_toInt, e]; omega)
  rw [i2l_toInt, e] at cg
  have es : ((65536 : Int64) - N.toInt64).toInt = 65536 - N.toInt := by rw [i64_sub_small (by rw [i2l_toInt]; omega) (by rw [i2l_toInt]; omega), i2l_toInt, e4]
  by_cases c : j_compareUnsigned x ((65536 : Int32) - N).toInt64 ≤ 0
  · have c2 := wo_n hN (Int32.not_lt.mpr c)
    refine Or.inl ⟨c, ?_, c2⟩
    rw [if_neg (by rw [Int64.lt_iff_toInt_lt, z]; omega), if_neg (by rw [Int64.lt_iff_toInt_lt, es]; omega)]
  · refine Or.inr ⟨c, ?_⟩
    have c2 := cg.mp (Int32.not_le.mp c)
    by_cases c3 : x < (0 : Int64)
    · rw [if_pos c3]
    · rw [if_neg c3]
      rw [Int64.lt_iff_toInt_lt, z] at c3
      rw [if_pos (by rw [Int64.lt_iff_toInt_lt, es]; omega)]
theorem and255_8 (b : Int32) : (b &&& 255).toInt8 = b.toInt8 := by
  apply Int8.toBitVec_inj.mp
  show (b.toBitVec &&& 255#32).signExtend 8 = b.toBitVec.signExtend 8
  apply BitVec.eq_of_getLsbD_eq
  intro i hi
  have c32 : ∀ i, i < 8 → (255#32).getLsbD i = true := by decide +kernel
  rw [BitVec.getLsbD_signExtend, BitVec.getLsbD_signExtend, if_pos (show i < 32 by omega), if_pos (show i < 32 by omega), BitVec.getLsbD_and, c32 i hi, Bool.and_true]
theorem wr_loop {K : XK} {L : MK} (hl : RLay K L) {a x : Int64} {N0 : Int32} (hN : 0 ≤ N0 ∧ N0.toInt ≤ 65536) (hx : 0 ≤ x.toInt ∧ x.toInt ≤ 65536 - N0.toInt) (hw : ∀ j : Int64, 0 ≤ j → ¬ x ≤ j → 0 ≤ x_where K (a + j) false) : ∀ (n : Nat) (k : Int32) (d : XD) (e : MD), mS k x < n → 0 ≤ k → k.toInt ≤ x.toInt → dx_r d (6 : Int32).toNatClampNeg = a → RM d e → dx_outN d = dm_shownSize e → (∀ i, i < 65536 → dx_outB d i = dm_shown e i) → (dx_outN d).toInt = N0.toInt + k.toInt → ∃ N' f g, (0 ≤ N' ∧ N'.toInt ≤ 65536) ∧ (∀ i, i < 65536 → f i = g i) ∧ x_writeOutput_L52 K x n k.toInt64 d = (x, dx_outN_ N' (dx_outB_ f d)) ∧ m_service_L290 L a x true true n k e = (L, dm_regs_ (vp_updL (dm_regs e) (0 : Int32).toNatClampNeg x) (dm_shownSize_ N' (dm_shown_ g e))) := by
  have h1 : 0 ≤ N0.toInt := by have := hN.1; rw [Int32.le_iff_toInt_le] at this; exact this
  intro n
  induction n with
  | zero => intro k d e h; exact absurd h (Nat.not_lt_zero _)
  | succ n ih =>
    intro k d e hn k0 kx hr hm hs hg hst
    rw [x_writeOutput_L52_s, m_service_L290_s]
    simp only [bnd_app, if_t]
    have k0' := k0
    rw [Int32.le_iff_toInt_le, show (0 : Int32).toInt = 0 from by decide] at k0'
    by_cases c : x ≤ k.toInt64
    · rw [if_pos c, if_pos c, if_neg (show ¬ false = true by decide)]
      have h2 := hN.2
      refine ⟨dx_outN d, dx_outB d, dm_shown e, ⟨?_, by omega⟩, hg, rfl, ?_⟩
      · rw [Int32.le_iff_toInt_le, hst, show (0 : Int32).toInt = 0 from by decide]; omega
      · rw [hs]; rfl
    · rw [if_neg c, if_neg c, if_pos rfl]
      have hp := wf_pos hl (hw k.toInt64 (by rw [Int64.le_iff_toInt_le, i2l_toInt]; exact k0') c)
      rw [hr, byte_place hm hp, and255_8]
      have hk1 := mS_s (k' := k + 1) (by omega) c rfl
      have ek : k.toInt64 + 1 = (k + 1).toInt64 := by
        apply Int64.toInt_inj.mp
        rw [i2l_toInt, hk1, i64_add_small (by rw [i2l_toInt, show (1 : Int64).toInt = 1 from by decide]; omega) (by rw [i2l_toInt, show (1 : Int64).toInt = 1 from by decide]; omega), i2l_toInt]; rfl
      rw [ek]
      have hxk : (k + 1).toInt ≤ x.toInt := by rw [Int64.le_iff_toInt_le, i2l_toInt] at c; omega
      generalize hb : (dx_bytes d (x_where K (a + k.toInt64) false).toNatClampNeg).toInt8.toInt32 = b
      obtain ⟨N', f, g, r1, r2, r3, r4⟩ := ih (k + 1) (x_add_out (dx_bytes d (x_where K (a + k.toInt64) false).toNatClampNeg) d) (dm_shownSize_ (dm_shownSize e + 1) (dm_shown_ (upd (dm_shown e) (dm_shownSize e).toNatClampNeg (vp_nar .byte b)) e)) (mS_dec (by omega) c hn rfl) (mS_nn (by omega) k0 c rfl) hxk hr hm (by show dx_outN d + 1 = dm_shownSize e + 1; rw [hs]) (fun i hi => by
        show upd (dx_outB d) (dx_outN d).toNatClampNeg (vp_nar .byte (dx_bytes d (x_where K (a + k.toInt64) false).toNatClampNeg).toInt8.toInt32) i = upd (dm_shown e) (dm_shownSize e).toNatClampNeg _ i
        rw [hb, hs, upd_at, upd_at, hg i hi]) (ms_st hN hx k0 c hst rfl rfl)
      exact ⟨N', f, g, r1, r2, r3, r4⟩
theorem wr_bad {L : MK} {a x : Int64} {p : Bool} {k : Int32} {e : MD} (n : Nat) : m_service_L290 L a x p false (n + 1) k e = (L, dm_regs_ (vp_updL (dm_regs e) (0 : Int32).toNatClampNeg (if b2i p = 0 then -28 else -14)) e) := by
  rw [m_service_L290_s]
  simp only [bnd_app, if_f]
  have k1 : (if x ≤ k.toInt64 then false else false) = false := by split <;> rfl
  rw [k1, if_neg (show ¬ false = true by decide)]
  by_cases c : b2i p = 0
  · rw [if_pos c, if_pos c]
  · rw [if_neg c, if_neg c]
theorem wr_live {d0 d : XD} {e0 e : MD} (h : Live d0 e0 d e) {f g : Nat → Int32} {N : Int32} {x : Int64} (hn : 0 ≤ N ∧ N.toInt ≤ 65536) (w : ∀ i, i < 65536 → f i = g i) : Live d0 e0 (dx_r_ (vp_updL (dx_r d) (0 : Int32).toNatClampNeg x) (dx_outN_ N (dx_outB_ f d))) (dm_regs_ (vp_updL (dm_regs e) (0 : Int32).toNatClampNeg x) (dm_shownSize_ N (dm_shown_ g e))) := by
  obtain ⟨⟨c1, c2, c3, c4, c5⟩, h2, h3, h4, h5⟩ := h
  exact ⟨⟨c1, ⟨⟨c2.1.1, rfl⟩, c2.2.1, w, ⟨c2.2.2.2.1, hn⟩⟩, c3, c4, c5⟩, h2, req_up h3 rfl _, h4, h5⟩
theorem serve_write {K : XK} {L : MK} {d0 d : XD} {e0 e : MD} (hi : RIn K L) (hl : RLay K L) (h : Live d0 e0 d e) (p q : Bool) (hp : p = (if dx_r d (2 : Int32).toNatClampNeg < (0 : Int64) then false else (if ((65536 : Int64) - (dx_outN d).toInt64) < dx_r d (2 : Int32).toNatClampNeg then false else true))) (hq : q = (if b2i p = 0 then false else (if b2i (m_may L (dx_r d (6 : Int32).toNatClampNeg) (dx_r d (2 : Int32).toNatClampNeg) false) = 0 then false else true))) : ServeOk K L d0 e0 (K, dx_r_ (vp_updL (dx_r (x_writeOutput K d).2) (0 : Int32).toNatClampNeg (x_writeOutput K d).1) (x_writeOutput K d).2) (m_service_L290 L (dx_r d (6 : Int32).toNatClampNeg) (dx_r d (2 : Int32).toNatClampNeg) p q (mS (0 : Int32) (dx_r d (2 : Int32).toNatClampNeg) + 1) 0 e) := by
  have hio := h.1.2.1
  have hx := hio.2.2.2.2
  have h65 := hx.2
  have h0' : 0 ≤ (dx_outN d).toInt := by have := hx.1; rw [Int32.le_iff_toInt_le, show (0 : Int32).toInt = 0 from by decide] at this; exact this
  unfold x_writeOutput
  rw [bnd_app]
  rcases wr_room (x := dx_r d (2 : Int32).toNatClampNeg) hx with ⟨c1, c2, c3, c4⟩ | ⟨c1, c2⟩
  · rw [c2] at hp
    subst hp
    rw [if_t, all_may hl c3 (by omega)] at hq
    rw [if_pos c1]
    by_cases c : b2i (x_all K (dx_r d (6 : Int32).toNatClampNeg) (dx_r d (2 : Int32).toNatClampNeg) false) = 0
    · rw [if_pos c] at hq ⊢
      subst hq
      rw [wr_bad, if_t]
      exact serve_same hi hl (liveF (live_r h (req_up h.2.2.1 rfl _)))
    · rw [if_neg c] at hq ⊢
      subst hq
      have ef : mL (0 : Int64) (dx_r d (2 : Int32).toNatClampNeg) = mS (0 : Int32) (dx_r d (2 : Int32).toNatClampNeg) := by
        unfold mL mS
        rw [show (0 : Int64).toInt = 0 from by decide, show (0 : Int32).toInt = 0 from by decide]
      rw [ef]
      obtain ⟨N', f, g, r1, r2, r3, r4⟩ := wr_loop hl hx ⟨c3, c4⟩ (x_all_all c) (mS (0 : Int32) (dx_r d (2 : Int32).toNatClampNeg) + 1) 0 d e (Nat.lt_succ_self _) (Int32.le_refl _) (by rw [show (0 : Int32).toInt = 0 from by decide]; exact c3) rfl h.1.1 hio.1.2 hio.2.2.1 (by rw [show (0 : Int32).toInt = 0 from by decide]; omega)
      have z : (0 : Int32).toInt64 = (0 : Int64) := by decide
      rw [z] at r3
      rw [r3, r4]
      exact serve_same hi hl (liveF (wr_live h r1 r2))
  · rw [c2] at hp
    subst hp
    rw [if_f] at hq
    subst hq
    rw [if_neg c1, wr_bad, if_f]
    exact serve_same hi hl (liveF (live_r h (req_up h.2.2.1 rfl _)))
/-! the break -/
theorem mb_rm {d : XD} {e : MD} (h : RM d e) {p q : Nat} (hq : q < 65536) (hp : p = 262144 + q) (b : Int32) : RM (dx_bytes_ (upd (dx_bytes d) p b) d) (dm_heap_ (upd (dm_heap e) q b) e) := by
  obtain ⟨h1, h2, h3⟩ := h
  refine ⟨fun i hi => ?_, fun i hi => ?_, fun i hi => ?_⟩
  · show upd (dx_bytes d) p b i = dm_memory e i
    rw [upd_at, if_neg (by omega), h1 i hi]
  · show upd (dx_bytes d) p b (262144 + i) = upd (dm_heap e) q b i
    rw [upd_at, upd_at, h2 i hi]
    by_cases c : i = q
    · rw [if_pos c, if_pos (by omega)]
    · rw [if_neg c, if_neg (by omega)]
  · show upd (dx_bytes d) p b (327680 + i) = dm_stack e i
    rw [upd_at, if_neg (by omega), h3 i hi]
theorem mb_loop {K : XK} {L : MK} (hl : RLay K L) {t v : Int64} : ∀ (n : Nat) (w : Int64) (u : Int32) (d : XD) (e : MD), mI u (km_heapSize L) < n → 0 ≤ u → w.toInt = (m_heapBegin L).toInt + u.toInt → RM d e → ∃ b h, RM (dx_bytes_ b d) (dm_heap_ h e) ∧ x_moveBreak_L29 K t n w d = (t, (kx_broken_ t K, dx_bytes_ b d)) ∧ m_service_L415 L v n u e = (km_heapSize_ v.toInt32 L, dm_regs_ (vp_updL (dm_regs e) (0 : Int32).toNatClampNeg (m_heapBegin L + v.toInt32.toInt64)) (dm_heap_ h e)) := by
  have hb := hb_in (L := L) (by have := hl.1; omega) hl.1.2.2.2.2.2.2
  have hs := hl.2.1
  have hh := hl.2.2.2.1
  have hk := hl.2.2.2.2
  have hf := hl.1
  intro n
  induction n with
  | zero => intro w u d e h; exact absurd h (Nat.not_lt_zero _)
  | succ n ih =>
    intro w u d e hn u0 hw hm
    rw [x_moveBreak_L29_s, m_service_L415_s]
    simp only [bnd_app]
    have u0' := u0
    rw [Int32.le_iff_toInt_le, show (0 : Int32).toInt = 0 from by decide] at u0'
    by_cases c : km_heapSize L ≤ u
    · have c' := c
      rw [Int32.le_iff_toInt_le] at c'
      rw [if_pos c, if_pos (by rw [Int64.le_iff_toInt_le, hk, hw]; omega)]
      exact ⟨dx_bytes d, dm_heap e, hm, rfl, rfl⟩
    · have c' := i_ge c
      rw [if_neg c, if_neg (by rw [Int64.le_iff_toInt_le, hk, hw]; omega)]
      have s1 : (w - kx_heap K).toInt = u.toInt := by rw [hh, i64_sub_small (by omega) (by omega)]; omega
      have s2 : (w - kx_heap K).toInt32.toInt = u.toInt := by rw [l2i_small (by omega) (by omega), s1]
      have s3 : ((262144 : Int32) + (w - kx_heap K).toInt32).toInt = 262144 + u.toInt := by rw [i32_add_small (by rw [s2, show (262144 : Int32).toInt = 262144 from by decide]; omega) (by rw [s2, show (262144 : Int32).toInt = 262144 from by decide]; omega), s2]; rfl
      have n1 := i_nn0 (k := u) (Int32.not_lt.mpr u0)
      have n2 := i_nn0 (k := (262144 : Int32) + (w - kx_heap K).toInt32) (by rw [Int32.lt_iff_toInt_lt, s3, show (0 : Int32).toInt = 0 from by decide]; omega)
      have hu := i_succ c'
      have hm' := mb_rm hm (p := ((262144 : Int32) + (w - kx_heap K).toInt32).toNatClampNeg) (q := u.toNatClampNeg) (by omega) (by omega) (vp_nar .byte 0)
      obtain ⟨b, h, r1, r2, r3⟩ := ih (w + 1) (u + 1) _ _ (mI_dec c hn rfl) (i_nn u0 c rfl) (by rw [i64_add_small (by rw [show (1 : Int64).toInt = 1 from by decide]; omega) (by rw [show (1 : Int64).toInt = 1 from by decide]; omega), hu, hw, show (1 : Int64).toInt = 1 from by decide]; omega) hm'
      exact ⟨b, h, r1, r2, r3⟩
theorem mb_live {d0 d : XD} {e0 e : MD} (h : Live d0 e0 d e) {b g : Nat → Int32} {x y : Int64} (q : RM (dx_bytes_ b d) (dm_heap_ g e)) (hxy : x = y) : Live d0 e0 (dx_r_ (vp_updL (dx_r d) (0 : Int32).toNatClampNeg x) (dx_bytes_ b d)) (dm_regs_ (vp_updL (dm_regs e) (0 : Int32).toNatClampNeg y) (dm_heap_ g e)) := by
  obtain ⟨⟨c1, c2, c3, c4, c5⟩, h2, h3, h4, h5⟩ := h
  exact ⟨⟨q, c2, c3, c4, c5⟩, h2, req_up h3 hxy _, h4, h5⟩
theorem broken_eq {K : XK} {L : MK} (hl : RLay K L) : kx_broken K = m_heapBegin L + (km_heapSize L).toInt64 := by
  have hb := hb_in (L := L) (by have := hl.1; omega) hl.1.2.2.2.2.2.2
  have hs := hl.2.1
  have hf := hl.1
  apply Int64.toInt_inj.mp
  rw [i64_add_small (by rw [i2l_toInt]; omega) (by rw [i2l_toInt]; omega), i2l_toInt, hl.2.2.2.2]
theorem rlay_break {K : XK} {L : MK} (hl : RLay K L) {t : Int64} {h : Int32} (h0 : 0 ≤ h.toInt ∧ h.toInt ≤ 65536) (ht : t.toInt = (m_heapBegin L).toInt + h.toInt) : RLay (kx_broken_ t K) (km_heapSize_ h L) := by
  obtain ⟨a, b, c, f, g⟩ := hl
  exact ⟨a, h0, c, f, ht⟩
theorem serve_break {K : XK} {L : MK} {d0 d : XD} {e0 e : MD} (hi : RIn K L) (hl : RLay K L) (h : Live d0 e0 d e) (t : Int64) : ServeOk K L d0 e0 ((x_moveBreak K t d).2.1, dx_r_ (vp_updL (dx_r (x_moveBreak K t d).2.2) (0 : Int32).toNatClampNeg (x_moveBreak K t d).1) (x_moveBreak K t d).2.2) (if (if t - m_heapBegin L < (0 : Int64) then false else (if (65536 : Int64) < t - m_heapBegin L then false else true)) = true then m_service_L415 L (t - m_heapBegin L) (mI (t - m_heapBegin L).toInt32 (km_heapSize L) + 1) (t - m_heapBegin L).toInt32 e else (L, dm_regs_ (vp_updL (dm_regs e) (0 : Int32).toNatClampNeg (m_heapBegin L + (km_heapSize L).toInt64)) e)) := by
  have hb := hb_in (L := L) (by have := hl.1; omega) hl.1.2.2.2.2.2.2
  have hf := hl.1
  have hs := hl.2.1
  have hh := hl.2.2.2.1
  have hk := hl.2.2.2.2
  have z : (0 : Int64).toInt = 0 := by decide
  have e4 : (65536 : Int64).toInt = 65536 := by decide
  have si := sub_in (a := t) (b := m_heapBegin L) (N := 65537) (by omega) (by omega)
  have ea : (m_heapBegin L + 65536).toInt = (m_heapBegin L).toInt + 65536 := by rw [i64_add_small (by omega) (by omega), e4]
  have bad : ServeOk K L d0 e0 (K, dx_r_ (vp_updL (dx_r d) (0 : Int32).toNatClampNeg (kx_broken K)) d) (L, dm_regs_ (vp_updL (dm_regs e) (0 : Int32).toNatClampNeg (m_heapBegin L + (km_heapSize L).toInt64)) e) :=
    serve_same hi hl (liveF (live_r h (req_up h.2.2.1 (broken_eq hl) _)))
  unfold x_moveBreak
  rw [hh]
  by_cases c1 : t < m_heapBegin L
  · have c1' := c1
    rw [Int64.lt_iff_toInt_lt] at c1'
    have nb : ¬ (if t - m_heapBegin L < (0 : Int64) then false else (if (65536 : Int64) < t - m_heapBegin L then false else true)) = true := by
      by_cases q1 : t - m_heapBegin L < (0 : Int64)
      · rw [if_pos q1]; decide
      · rw [if_neg q1]
        rw [Int64.lt_iff_toInt_lt, z] at q1
        rw [if_pos (by rw [Int64.lt_iff_toInt_lt, e4]; omega)]; decide
    rw [if_pos c1, if_neg nb]
    exact bad
  · have c1' := c1
    rw [Int64.lt_iff_toInt_lt] at c1'
    rw [if_neg c1]
    by_cases c2 : t ≤ m_heapBegin L + 65536
    · have c2' := c2
      rw [Int64.le_iff_toInt_le, ea] at c2'
      have sv := sub_val (a := t) (b := m_heapBegin L) (by omega) (by omega)
      have yb : (if t - m_heapBegin L < (0 : Int64) then false else (if (65536 : Int64) < t - m_heapBegin L then false else true)) = true := by
        rw [if_neg (by rw [Int64.lt_iff_toInt_lt, z]; omega), if_neg (by rw [Int64.lt_iff_toInt_lt, e4]; omega)]
      have s2 : (t - m_heapBegin L).toInt32.toInt = t.toInt - (m_heapBegin L).toInt := by rw [l2i_small (by omega) (by omega), sv]
      rw [if_pos c2, if_pos yb]
      have ef : mL t (kx_broken K) = mI (t - m_heapBegin L).toInt32 (km_heapSize L) := by
        unfold mL mI
        rw [hk, s2]; omega
      rw [ef]
      obtain ⟨b, g, r1, r2, r3⟩ := mb_loop hl (t := t) (v := t - m_heapBegin L) (mI (t - m_heapBegin L).toInt32 (km_heapSize L) + 1) t (t - m_heapBegin L).toInt32 d e (Nat.lt_succ_self _) (by rw [Int32.le_iff_toInt_le, s2, show (0 : Int32).toInt = 0 from by decide]; omega) (by rw [s2]; omega) h.1.1
      rw [r2, r3]
      have et : t = m_heapBegin L + (t - m_heapBegin L).toInt32.toInt64 := by
        apply Int64.toInt_inj.mp
        rw [i64_add_small (by rw [i2l_toInt, s2]; omega) (by rw [i2l_toInt, s2]; omega), i2l_toInt, s2]; omega
      exact ⟨hi, rlay_break hl ⟨by omega, by omega⟩ (by rw [s2]; omega), ⟨t, rfl⟩, ⟨_, rfl⟩, liveF (mb_live h r1 et)⟩
    · have c2' := c2
      rw [Int64.le_iff_toInt_le, ea] at c2'
      have nb : ¬ (if t - m_heapBegin L < (0 : Int64) then false else (if (65536 : Int64) < t - m_heapBegin L then false else true)) = true := by
        by_cases q1 : t - m_heapBegin L < (0 : Int64)
        · rw [if_pos q1]; decide
        · rw [if_neg q1]
          rw [Int64.lt_iff_toInt_lt, z] at q1
          rw [if_pos (by rw [Int64.lt_iff_toInt_lt, e4]; omega)]; decide
      rw [if_neg c2, if_neg nb]
      exact bad
theorem stop1_live {d0 d : XD} {e0 e : MD} (h : Live d0 e0 d e) (v : Int64) {k : Int32} (hk : k = 1 ∨ k = 6) : LiveF d0 e0 (x_fail k v d) (m_stopWith k v e) := by
  rw [x_fail_0 h.2.1, m_stop_0 (live_m h)]
  obtain ⟨⟨c1, c2, c3, c4, c5⟩, h2, h3, h4, h5⟩ := h
  exact ⟨⟨c1, c2, ⟨rfl, rfl⟩, c4, c5⟩, Or.inr hk, h3, h4, h5⟩
theorem serve_body {K : XK} {L : MK} {d0 d : XD} {e0 e : MD} (hi : RIn K L) (hl : RLay K L) (h : Live d0 e0 d e) : ServeOk K L d0 e0 (if dx_r d (0 : Int32).toNatClampNeg = (0 : Int64) then (K, dx_r_ (vp_updL (dx_r (x_readInput K d).2) (0 : Int32).toNatClampNeg (x_readInput K d).1) (x_readInput K d).2) else if dx_r d (0 : Int32).toNatClampNeg = (1 : Int64) then (K, dx_r_ (vp_updL (dx_r (x_writeOutput K d).2) (0 : Int32).toNatClampNeg (x_writeOutput K d).1) (x_writeOutput K d).2) else if dx_r d (0 : Int32).toNatClampNeg = (12 : Int64) then ((x_moveBreak K (dx_r d (7 : Int32).toNatClampNeg) d).2.1, dx_r_ (vp_updL (dx_r (x_moveBreak K (dx_r d (7 : Int32).toNatClampNeg) d).2.2) (0 : Int32).toNatClampNeg (x_moveBreak K (dx_r d (7 : Int32).toNatClampNeg) d).1) (x_moveBreak K (dx_r d (7 : Int32).toNatClampNeg) d).2.2) else if dx_r d (0 : Int32).toNatClampNeg = (60 : Int64) then (K, x_fail (1 : Int32) (dx_r d (7 : Int32).toNatClampNeg) d) else (K, dx_r_ (vp_updL (dx_r d) (0 : Int32).toNatClampNeg (-38 : Int64)) d))
    (if dm_regs e (0 : Int32).toNatClampNeg = (0 : Int64) then m_service_L104 L (dm_regs e (6 : Int32).toNatClampNeg) (if dm_regs e (2 : Int32).toNatClampNeg < (0 : Int64) then dm_givenSize e else if dm_regs e (2 : Int32).toNatClampNeg ≤ (dm_givenSize e).toInt64 then (dm_regs e (2 : Int32).toNatClampNeg).toInt32 else dm_givenSize e) (m_may L (dm_regs e (6 : Int32).toNatClampNeg) (if dm_regs e (2 : Int32).toNatClampNeg < (0 : Int64) then dm_givenSize e else if dm_regs e (2 : Int32).toNatClampNeg ≤ (dm_givenSize e).toInt64 then (dm_regs e (2 : Int32).toNatClampNeg).toInt32 else dm_givenSize e).toInt64 true) (mI (0 : Int32) (if dm_regs e (2 : Int32).toNatClampNeg < (0 : Int64) then dm_givenSize e else if dm_regs e (2 : Int32).toNatClampNeg ≤ (dm_givenSize e).toInt64 then (dm_regs e (2 : Int32).toNatClampNeg).toInt32 else dm_givenSize e) + 1) 0 e
     else if dm_regs e (0 : Int32).toNatClampNeg = (1 : Int64) then m_service_L290 L (dm_regs e (6 : Int32).toNatClampNeg) (dm_regs e (2 : Int32).toNatClampNeg) (if dm_regs e (2 : Int32).toNatClampNeg < (0 : Int64) then false else if ((65536 : Int64) - (dm_shownSize e).toInt64) < dm_regs e (2 : Int32).toNatClampNeg then false else true) (if b2i (if dm_regs e (2 : Int32).toNatClampNeg < (0 : Int64) then false else if ((65536 : Int64) - (dm_shownSize e).toInt64) < dm_regs e (2 : Int32).toNatClampNeg then false else true) = 0 then false else if b2i (m_may L (dm_regs e (6 : Int32).toNatClampNeg) (dm_regs e (2 : Int32).toNatClampNeg) false) = 0 then false else true) (mS (0 : Int32) (dm_regs e (2 : Int32).toNatClampNeg) + 1) 0 e
     else if dm_regs e (0 : Int32).toNatClampNeg = (12 : Int64) then (if (if dm_regs e (7 : Int32).toNatClampNeg - m_heapBegin L < (0 : Int64) then false else (if (65536 : Int64) < dm_regs e (7 : Int32).toNatClampNeg - m_heapBegin L then false else true)) = true then m_service_L415 L (dm_regs e (7 : Int32).toNatClampNeg - m_heapBegin L) (mI (dm_regs e (7 : Int32).toNatClampNeg - m_heapBegin L).toInt32 (km_heapSize L) + 1) (dm_regs e (7 : Int32).toNatClampNeg - m_heapBegin L).toInt32 e else (L, dm_regs_ (vp_updL (dm_regs e) (0 : Int32).toNatClampNeg (m_heapBegin L + (km_heapSize L).toInt64)) e))
     else if dm_regs e (0 : Int32).toNatClampNeg = (60 : Int64) then (L, m_stopWith (1 : Int32) (dm_regs e (7 : Int32).toNatClampNeg) e) else (L, dm_regs_ (vp_updL (dm_regs e) (0 : Int32).toNatClampNeg (-38 : Int64)) e)) := by
  have r0 := h.2.2.1 (0 : Int32).toNatClampNeg (by decide)
  have r2 := h.2.2.1 (2 : Int32).toNatClampNeg (by decide)
  have r6 := h.2.2.1 (6 : Int32).toNatClampNeg (by decide)
  have r7 := h.2.2.1 (7 : Int32).toNatClampNeg (by decide)
  rw [← r0, ← r2, ← r6, ← r7, ← h.1.2.1.1.1, ← h.1.2.1.1.2]
  by_cases c0 : dx_r d (0 : Int32).toNatClampNeg = (0 : Int64)
  · rw [if_pos c0, if_pos c0, rd_n h.1.2.1.2.2.2.1]
    exact serve_read hi hl h _ rfl
  · rw [if_neg c0, if_neg c0]
    by_cases c1 : dx_r d (0 : Int32).toNatClampNeg = (1 : Int64)
    · rw [if_pos c1, if_pos c1]
      exact serve_write hi hl h _ _ rfl rfl
    · rw [if_neg c1, if_neg c1]
      by_cases c2 : dx_r d (0 : Int32).toNatClampNeg = (12 : Int64)
      · rw [if_pos c2, if_pos c2]
        exact serve_break hi hl h _
      · rw [if_neg c2, if_neg c2]
        by_cases c3 : dx_r d (0 : Int32).toNatClampNeg = (60 : Int64)
        · rw [if_pos c3, if_pos c3]
          exact serve_same hi hl (stop1_live h _ (Or.inl rfl))
        · rw [if_neg c3, if_neg c3]
          exact serve_same hi hl (liveF (live_r h (req_up h.2.2.1 rfl _)))
theorem op_42 {K : XK} {L : MK} {d0 d : XD} {e0 e : MD} (hi : RIn K L) (hl : RLay K L) (h : Live d0 e0 d e) : ServeOk K L d0 e0 (x_serve K d) (m_service L e) := by
  have h1 : Live d0 e0 (dx_r_ (vp_updL (dx_r d) (1 : Int32).toNatClampNeg (dx_next d)) d) (dm_regs_ (vp_updL (dm_regs e) (1 : Int32).toNatClampNeg (dm_ip e)) e) := live_r h (req_up h.2.2.1 h.2.2.2.1 _)
  have h2 := live_r h1 (req_up h1.2.2.1 (flags_eq2 h1.2.2.2.2) (11 : Int32).toNatClampNeg)
  unfold x_serve m_service
  simp only [bnd_app]
  exact serve_body hi hl h2
