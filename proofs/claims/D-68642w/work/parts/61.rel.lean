theorem if_t {α : Sort _} (a b : α) : (if b2i true = 0 then a else b) = b := if_neg (by decide)
theorem if_f {α : Sort _} (a b : α) : (if b2i false = 0 then a else b) = a := if_pos rfl
theorem bnd_app {α β : Type} (a : α) (f : α → β) : bnd a f = f a := bnd_eq rfl
/-! ===== the two machines inside a step: what is held to be alike ===== -/
def flw (c p z n o : Bool) : Int32 := b2i c ||| (if p = true then 4 else 0) ||| (if z = true then 64 else 0) ||| (if n = true then 128 else 0) ||| (if o = true then 2048 else 0)
def REq (f g : Nat → Int64) : Prop := ∀ i, i < 16 → f i = g i
def FL (d : XD) (e : MD) : Prop := dx_flags d = flw (dm_carry e) (dm_parity e) (dm_zero e) (dm_negative e) (dm_over e)
abbrev XT : Type := (Nat → Int32) × (Nat → Int64) × ((Nat → Int32) × Int32 × (Nat → Int32) × Int32) × (Int32 × Int64) × ((Nat → Int32) × Int64 × Int32)
/-- all of X but its flags and where it goes on -/
def xfix (d : XD) : XT := (dx_bytes d, dx_r d, (dx_inB d, dx_inN d, dx_outB d, dx_outN d), (dx_stop d, dx_stopValue d), (dx_image d, dx_ip d, dx_done d))
abbrev MT : Type := ((Nat → Int32) × (Nat → Int32) × (Nat → Int32)) × ((Nat → Int32) × Int32 × (Nat → Int32) × Int32) × (Int32 × Int64) × ((Nat → Int32) × (Nat → Int64) × Int32 × Int64)
/-- what of M a step that has stopped doesn't change -/
def mfix (e : MD) : MT := ((dm_memory e, dm_heap e, dm_stack e), (dm_given e, dm_givenSize e, dm_shown e, dm_shownSize e), (dm_halt e, dm_haltValue e), (dm_filled e, dm_kept e, dm_length e, dm_stepsDone e))
def RM (d : XD) (e : MD) : Prop := (∀ i, i < 262144 → dx_bytes d i = dm_memory e i) ∧ (∀ i, i < 65536 → dx_bytes d (262144 + i) = dm_heap e i) ∧ (∀ i, i < 65536 → dx_bytes d (327680 + i) = dm_stack e i)
def RIO (d : XD) (e : MD) : Prop := (dx_inN d = dm_givenSize e ∧ dx_outN d = dm_shownSize e) ∧ (∀ i, i < 65536 → dx_inB d i = dm_given e i) ∧ (∀ i, i < 65536 → dx_outB d i = dm_shown e i) ∧ XIO d
def Com (d0 : XD) (e0 : MD) (d : XD) (e : MD) : Prop := RM d e ∧ RIO d e ∧ (dx_stop d = dm_halt e ∧ dx_stopValue d = dm_haltValue e) ∧ (dx_image d = dx_image d0 ∧ dx_ip d = dx_ip d0 ∧ dx_done d = dx_done d0) ∧ (dm_filled e = dm_filled e0 ∧ dm_kept e = dm_kept e0 ∧ dm_length e = dm_length e0 ∧ dm_stepsDone e = dm_stepsDone e0)
/-- both go on -/
def Live (d0 : XD) (e0 : MD) (d : XD) (e : MD) : Prop := Com d0 e0 d e ∧ dx_stop d = 0 ∧ REq (dx_r d) (dm_regs e) ∧ dx_next d = dm_ip e ∧ FL d e
def Bad (s : Int32) : Prop := s = 2 ∨ s = 3 ∨ s = 5
/-- both have stopped: X's registers are those kept by M -/
def Dead (d0 : XD) (e0 : MD) (d : XD) (e : MD) : Prop := Com d0 e0 d e ∧ Bad (dx_stop d) ∧ REq (dx_r d) (dm_kept e)
def RS (d0 : XD) (e0 : MD) (d : XD) (e : MD) : Prop := Live d0 e0 d e ∨ Dead d0 e0 d e
/-- nothing is written to the registers yet -/
def Fr (d : XD) (e : MD) : Prop := REq (dx_r d) (dm_kept e)
theorem xfix_parts {d d' : XD} (h : xfix d' = xfix d) : dx_bytes d' = dx_bytes d ∧ dx_r d' = dx_r d ∧ dx_inB d' = dx_inB d ∧ dx_inN d' = dx_inN d ∧ dx_outB d' = dx_outB d ∧ dx_outN d' = dx_outN d ∧ dx_stop d' = dx_stop d ∧ dx_stopValue d' = dx_stopValue d ∧ dx_image d' = dx_image d ∧ dx_ip d' = dx_ip d ∧ dx_done d' = dx_done d :=
  ⟨congrArg (fun z => z.1) h, congrArg (fun z => z.2.1) h, congrArg (fun z => z.2.2.1.1) h, congrArg (fun z => z.2.2.1.2.1) h, congrArg (fun z => z.2.2.1.2.2.1) h, congrArg (fun z => z.2.2.1.2.2.2) h, congrArg (fun z => z.2.2.2.1.1) h, congrArg (fun z => z.2.2.2.1.2) h, congrArg (fun z => z.2.2.2.2.1) h, congrArg (fun z => z.2.2.2.2.2.1) h, congrArg (fun z => z.2.2.2.2.2.2) h⟩
theorem mfix_parts {e e' : MD} (h : mfix e' = mfix e) : dm_memory e' = dm_memory e ∧ dm_heap e' = dm_heap e ∧ dm_stack e' = dm_stack e ∧ dm_given e' = dm_given e ∧ dm_givenSize e' = dm_givenSize e ∧ dm_shown e' = dm_shown e ∧ dm_shownSize e' = dm_shownSize e ∧ dm_halt e' = dm_halt e ∧ dm_haltValue e' = dm_haltValue e ∧ dm_filled e' = dm_filled e ∧ dm_kept e' = dm_kept e ∧ dm_length e' = dm_length e ∧ dm_stepsDone e' = dm_stepsDone e :=
  ⟨congrArg (fun z => z.1.1) h, congrArg (fun z => z.1.2.1) h, congrArg (fun z => z.1.2.2) h, congrArg (fun z => z.2.1.1) h, congrArg (fun z => z.2.1.2.1) h, congrArg (fun z => z.2.1.2.2.1) h, congrArg (fun z => z.2.1.2.2.2) h, congrArg (fun z => z.2.2.1.1) h, congrArg (fun z => z.2.2.1.2) h, congrArg (fun z => z.2.2.2.1) h, congrArg (fun z => z.2.2.2.2.1) h, congrArg (fun z => z.2.2.2.2.2.1) h, congrArg (fun z => z.2.2.2.2.2.2) h⟩
theorem com_same {d0 d d' : XD} {e0 e e' : MD} (hx : xfix d' = xfix d) (hm : mfix e' = mfix e) (h : Com d0 e0 d e) : Com d0 e0 d' e' := by
  obtain ⟨x1, x2, x3, x4, x5, x6, x7, x8, x9, x10, x11⟩ := xfix_parts hx
  obtain ⟨m1, m2, m3, m4, m5, m6, m7, m8, m9, m10, m11, m12, m13⟩ := mfix_parts hm
  unfold Com RM RIO XIO at *
  rw [x1, x3, x4, x5, x6, x7, x8, x9, x10, x11, m1, m2, m3, m4, m5, m6, m7, m8, m9, m10, m11, m12, m13]
  exact h
theorem dead_same {d0 d d' : XD} {e0 e e' : MD} (hx : xfix d' = xfix d) (hm : mfix e' = mfix e) (h : Dead d0 e0 d e) : Dead d0 e0 d' e' := by
  obtain ⟨x1, x2, x3, x4, x5, x6, x7, x8, x9, x10, x11⟩ := xfix_parts hx
  obtain ⟨m1, m2, m3, m4, m5, m6, m7, m8, m9, m10, m11, m12, m13⟩ := mfix_parts hm
  refine ⟨com_same hx hm h.1, ?_, ?_⟩
  · rw [x7]; exact h.2.1
  · rw [x2, m11]; exact h.2.2
theorem bad_nz {s : Int32} (h : Bad s) : ¬ s = 0 := by
  rcases h with h | h | h <;> subst h <;> decide
theorem dead_x {d0 d : XD} {e0 e : MD} (h : Dead d0 e0 d e) : ¬ dx_stop d = 0 := bad_nz h.2.1
theorem dead_m {d0 d : XD} {e0 e : MD} (h : Dead d0 e0 d e) : ¬ dm_halt e = 0 := fun q => dead_x h (h.1.2.2.1.1.trans q)
theorem live_m {d0 d : XD} {e0 e : MD} (h : Live d0 e0 d e) : dm_halt e = 0 := h.1.2.2.1.1.symm.trans h.2.1
theorem x_fail_0 {d : XD} {k : Int32} {v : Int64} (h : dx_stop d = 0) : x_fail k v d = dx_stopValue_ v (dx_stop_ k d) := if_pos h
theorem x_fail_1 {d : XD} {k : Int32} {v : Int64} (h : ¬ dx_stop d = 0) : x_fail k v d = d := if_neg h
theorem m_stop_0 {e : MD} {k : Int32} {v : Int64} (h : dm_halt e = 0) : m_stopWith k v e = dm_haltValue_ v (dm_halt_ k e) := if_pos h
theorem m_stop_1 {e : MD} {k : Int32} {v : Int64} (h : ¬ dm_halt e = 0) : m_stopWith k v e = e := if_neg h
theorem fail_dead {d0 d : XD} {e0 e : MD} {k : Int32} {v : Int64} (h : Live d0 e0 d e) (hf : Fr d e) (hk : Bad k) : Dead d0 e0 (x_fail k v d) (m_stopWith k v e) := by
  rw [x_fail_0 h.2.1, m_stop_0 (live_m h)]
  obtain ⟨⟨c1, c2, c3, c4, c5⟩, -⟩ := h
  exact ⟨⟨c1, c2, ⟨rfl, rfl⟩, c4, c5⟩, hk, hf⟩
/-! X behind a stop -/
theorem xd_fetch {K : XK} {a : Int64} {sz : Int32} {d : XD} (h : ¬ dx_stop d = 0) : x_fetch K a sz d = (0, d) := by
  unfold x_fetch; rw [if_neg h]; simp only [bnd_app]; rw [x_fail_1 h]
theorem xd_store {K : XK} {a v : Int64} {sz : Int32} {d : XD} (h : ¬ dx_stop d = 0) : x_store K a sz v d = d := by
  unfold x_store; rw [if_neg h]; simp only [bnd_app]; rw [x_fail_1 h]
theorem xd_get {K : XK} {k sz : Int32} {d : XD} (h : ¬ dx_stop d = 0) : (x_get K k sz d).2 = d := by
  unfold x_get
  split
  · simp only [bnd_app]; rw [xd_fetch h]
  · split <;> rfl
theorem xd_put {K : XK} {k sz : Int32} {v : Int64} {d : XD} (h : ¬ dx_stop d = 0) : x_put K k sz v d = d := by
  unfold x_put
  split
  · simp only [bnd_app]; rw [xd_store h]
  · first | rfl | rw [if_neg h]
theorem xf_mark (m : Int32) (b : Bool) (d : XD) : xfix (x_mark m b d) = xfix d := by
  unfold x_mark; split <;> rfl
theorem xf_follow (v : Int64) (sz : Int32) (d : XD) : xfix (x_follow v sz d) = xfix d := by
  unfold x_follow; simp only [bnd_app]
  split <;> rw [xf_mark, xf_mark, xf_mark]
theorem xf_sum (x y : Int64) (c : Bool) (sz : Int32) (d : XD) : xfix (x_sum x y c sz d).2 = xfix d := by
  unfold x_sum; simp only [bnd_app]; rw [xf_follow, xf_mark, xf_mark]
theorem xf_diff (x y : Int64) (c : Bool) (sz : Int32) (d : XD) : xfix (x_difference x y c sz d).2 = xfix d := by
  unfold x_difference; simp only [bnd_app]; rw [xf_follow, xf_mark, xf_mark]
theorem xf_logic (o : Int32) (x y : Int64) (sz : Int32) (d : XD) : xfix (x_logic o x y sz d).2 = xfix d := by
  unfold x_logic; simp only [bnd_app]; rw [xf_follow, xf_mark]
theorem xf_stop {d d' : XD} (h : xfix d' = xfix d) : dx_stop d' = dx_stop d := (xfix_parts h).2.2.2.2.2.2.1
theorem xf_nz {d d' : XD} (h : xfix d' = xfix d) (hs : ¬ dx_stop d = 0) : ¬ dx_stop d' = 0 := by rw [xf_stop h]; exact hs
/-! M behind a stop -/
theorem mf_halt {e e' : MD} (h : mfix e' = mfix e) : dm_halt e' = dm_halt e := (mfix_parts h).2.2.2.2.2.2.2.1
theorem mf_nz {e e' : MD} (h : mfix e' = mfix e) (hs : ¬ dm_halt e = 0) : ¬ dm_halt e' = 0 := by rw [mf_halt h]; exact hs
theorem md_loadL {L : MK} {a : Int64} {sz : Int32} {e : MD} (h : ¬ dm_halt e = 0) : ∀ (n : Nat) (acc : Int64) (k : Int32), (m_load_L6 L a sz n acc k e).2 = e := by
  intro n
  induction n with
  | zero => intro acc k; rfl
  | succ n ih =>
    intro acc k
    rw [m_load_L6_s]
    split
    · rfl
    · simp only [bnd_app]
      split
      · exact ih _ _
      · exact m_stop_1 h
theorem md_load {L : MK} {a : Int64} {sz : Int32} {e : MD} (h : ¬ dm_halt e = 0) : (m_load L a sz e).2 = e := md_loadL h _ _ _
theorem md_storeL2 {L : MK} {a v : Int64} {sz : Int32} {e : MD} (h : ¬ dm_halt e = 0) : ∀ (n : Nat) (k : Int32), m_store_L37 L a sz v n k e = e := by
  intro n
  cases n with
  | zero => intro k; rfl
  | succ n =>
    intro k
    rw [m_store_L37_s]
    split
    · rfl
    · first | rfl | rw [if_neg h]
theorem md_storeL {L : MK} {a v : Int64} {sz : Int32} {e : MD} (h : ¬ dm_halt e = 0) : ∀ (n : Nat) (k : Int32), m_store_L3 L a sz v n k e = e := by
  intro n
  induction n with
  | zero => intro k; rfl
  | succ n ih =>
    intro k
    rw [m_store_L3_s]
    split
    · exact md_storeL2 h _ _
    · simp only [bnd_app]
      split
      · exact ih _
      · rw [m_stop_1 h]; exact ih _
theorem md_store {L : MK} {a v : Int64} {sz : Int32} {e : MD} (h : ¬ dm_halt e = 0) : m_store L a sz v e = e := md_storeL h _ _
theorem md_take {L : MK} {k sz : Int32} {e : MD} (h : ¬ dm_halt e = 0) : (m_take L k sz e).2 = e := by
  unfold m_take; simp only [bnd_app]
  split
  · rfl
  · split
    · exact md_load h
    · rfl
theorem mf_reg (k sz : Int32) (v : Int64) (e : MD) : mfix (m_setRegister k sz v e) = mfix e := by
  unfold m_setRegister
  split
  · rfl
  · split <;> rfl
theorem md_put {L : MK} {k sz : Int32} {v : Int64} {e : MD} (h : ¬ dm_halt e = 0) : mfix (m_put L k sz v e) = mfix e := by
  unfold m_put
  split
  · simp only [bnd_app]; exact mf_reg _ _ _ _
  · simp only [bnd_app]; rw [md_store h]
theorem mf_zspL (v : Int64) : ∀ (n : Nat) (a k : Int32) (e : MD), mfix (m_zsp_L44 v n a k e) = mfix e := by
  intro n
  induction n with
  | zero => intro a k e; rfl
  | succ n ih =>
    intro a k e
    rw [m_zsp_L44_s]
    split
    · split <;> rfl
    · simp only [bnd_app]; exact ih _ _ _
theorem mf_zsp (v : Int64) (sz : Int32) (e : MD) : mfix (m_zsp v sz e) = mfix e := by
  unfold m_zsp
  simp only [bnd_app]
  refine (mf_zspL v _ _ _ _).trans ?_
  rfl
theorem mf_add (x y : Int64) (c : Bool) (sz : Int32) (e : MD) : mfix (m_add x y c sz e).2 = mfix e := by
  unfold m_add; simp only [bnd_app]; rw [mf_zsp]; rfl
theorem mf_sub (x y : Int64) (c : Bool) (sz : Int32) (e : MD) : mfix (m_subtract x y c sz e).2 = mfix e := by
  unfold m_subtract; simp only [bnd_app]; rw [mf_zsp]; rfl
theorem mf_regs (f : Nat → Int64) (e : MD) : mfix (dm_regs_ f e) = mfix e := rfl
theorem mf_carry (b : Bool) (e : MD) : mfix (dm_carry_ b e) = mfix e := rfl
theorem mf_over (b : Bool) (e : MD) : mfix (dm_over_ b e) = mfix e := rfl
theorem mf_zero (b : Bool) (e : MD) : mfix (dm_zero_ b e) = mfix e := rfl
theorem mf_ip (v : Int64) (e : MD) : mfix (dm_ip_ v e) = mfix e := rfl
theorem mf_at (v : Int64) (e : MD) : mfix (dm_operandAt_ v e) = mfix e := rfl
theorem md_push {L : MK} {v : Int64} {e : MD} (h : ¬ dm_halt e = 0) : mfix (m_push L v e) = mfix e := by
  unfold m_push; simp only [bnd_app]; rw [mf_regs, md_store h]
theorem md_pop {L : MK} {e : MD} (h : ¬ dm_halt e = 0) : mfix (m_pop L e).2 = mfix e := by
  unfold m_pop; simp only [bnd_app]; rw [mf_regs, md_load h]
