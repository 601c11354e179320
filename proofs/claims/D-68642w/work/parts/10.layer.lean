/-! my layer: reading and updating contracts, calls, ends; a long compare with its branch -/
def b2i (b : Bool) : Int32 := match b with
  | true => 1
  | false => 0
theorem b2i_nar (b : Bool) : narrow .boolean (.int (b2i b)) = .int (b2i b) := by cases b <;> first | rfl | decide
theorem b2i_fit (b : Bool) : fits .boolean (.int (b2i b)) = true := by cases b <;> first | rfl | decide
def bnd {α β : Type} (a : α) (f : α → β) : β := f a
theorem bnd_eq {α β : Type} {a g : α} {f : α → β} (e : g = a) : bnd a f = f g := by subst e; rfl
def g_F (p : Program) (s : State) (m : MethodId) (args : Array Value) (meth : Method) (c : Code) (cc : ByteArray) (nL : Nat) (ret : Option FieldType) (own : String) : Prop :=
  p.tables.exec = Jvm.exec ∧ c.code = cc ∧ meth.sig.returnType = ret ∧ meth.locks = false ∧ c.maxLocals = nL ∧ s.vm.findClass own = some m.cls ∧ ∀ w ∈ lw_all, w.before args s = true
/-- what a method knows of the tables: the same where the tables are the same, and in a warmer machine -/
def g_Kst (Kp : State → Prop) : Prop := (∀ u U : State, u.vm = U.vm → Kp u → Kp U) ∧ ∀ s U : State, s.WarmedH U.vm → Kp s → Kp U
theorem g_Kst0 : g_Kst (fun _ => True) := ⟨fun _ _ _ _ => trivial, fun _ _ _ _ => trivial⟩
def g_QR (v : Value) : Array Value → State → Outcome → State → Prop := fun _ st oc t => oc = .returned (some v) ∧ t.heap = st.heap
def g_QU (ov : Option Value) (B : Heap → Prop) (A : Nat → Prop) : Array Value → State → Outcome → State → Prop := fun _ st oc t => oc = .returned ov ∧ B t.heap ∧ va_F A st t
/-- a reading method: from any heap with B it answers v, the heap stays -/
def g_R (l : Launch) (y : MethodName) (ws : List Cond) (rm : Room) (av : List Value) (Kp : State → Prop) (B : Heap → Prop) (v : Value) : Prop :=
  Met l y ws rm (va_Pc av (fun U => B U.heap ∧ Kp U)) (g_QR v) 0 0 (fun _ => False)
/-- an updating method: from any heap with B it answers ov, the heap has B', nothing outside A has changed -/
def g_U (l : Launch) (y : MethodName) (ws : List Cond) (rm : Room) (av : List Value) (Kp : State → Prop) (B : Heap → Prop) (ov : Option Value) (B' : Heap → Prop) (A : Nat → Prop) : Prop :=
  Met l y ws rm (va_Pc av (fun U => B U.heap ∧ Kp U)) (g_QU ov B' A) 0 0 A
theorem g_of {l : Launch} {y : MethodName} {rm : Room} {av : List Value} {Kp : State → Prop} {B : Heap → Prop} {Qc : Array Value → State → Outcome → State → Prop} {A : Nat → Prop} {cc : ByteArray} {nL : Nat} {ret : Option FieldType} (hy : plainName y.cls = true) (hle : (lg_sl av).length ≤ nL)
    (body : ∀ (p : Program) (e : Env) (s : State) (m : MethodId) (args : Array Value) (below : List Frame) (meth : Method) (c : Code) (ls : Array Slot) (Q : State → Prop), g_F p s m args meth c cc nL ret y.cls → B s.heap → Kp s → lv_has ls nL (lv_args 0 av) → Q = MQ below Qc args s 0 0 A → W p l e rm s m args below meth c s.heap [] 0 0 Q (F0 m 0 ls [])) :
    Met l y (ws_ y cc nL ret) rm (va_Pc av (fun U => B U.heap ∧ Kp U)) Qc 0 0 A := by
  refine Met.ofW (cc := cc) (maxL := nL) (ret := ret) hy rfl ?_
  intro p e s m args below meth c s₁ Bd hml hv
  obtain ⟨hav, hB, hK⟩ := hv
  have hts := atoms_spec (ws := ws_ y cc nL ret) Bd.pre
  have hts : ∀ w ∈ lw_all, w.before args s = true := fun w h => hts w (List.mem_cons_of_mem _ h)
  have hown : s.vm.findClass y.cls = some m.cls := findClass_of_methodNamed Bd.named
  have hl := lv_entry av (n := nL) hle
  have hx := Bd.exec
  have hb := Bd.bytes
  have hret := Bd.returns
  have hlk := Bd.notSynchronized
  clear Bd
  subst hav
  rw [lg_entry_eq]
  exact body p e s m _ below meth c _ _ ⟨hx, hb, hret, hlk, hml, hown, hts⟩ hB hK hl rfl
theorem g_ofR {l : Launch} {y : MethodName} {rm : Room} {av : List Value} {Kp : State → Prop} {B : Heap → Prop} {v : Value} {cc : ByteArray} {nL : Nat} {ret : Option FieldType} (hy : plainName y.cls = true) (hle : (lg_sl av).length ≤ nL)
    (body : ∀ (p : Program) (e : Env) (s : State) (m : MethodId) (args : Array Value) (below : List Frame) (meth : Method) (c : Code) (ls : Array Slot) (Q : State → Prop), g_F p s m args meth c cc nL ret y.cls → B s.heap → Kp s → lv_has ls nL (lv_args 0 av) → Q = MQ below (g_QR v) args s 0 0 (fun _ => False) → W p l e rm s m args below meth c s.heap [] 0 0 Q (F0 m 0 ls [])) :
    g_R l y (ws_ y cc nL ret) rm av Kp B v := g_of hy hle body
theorem g_ofU {l : Launch} {y : MethodName} {rm : Room} {av : List Value} {Kp : State → Prop} {B B' : Heap → Prop} {ov : Option Value} {A : Nat → Prop} {cc : ByteArray} {nL : Nat} {ret : Option FieldType} (hy : plainName y.cls = true) (hle : (lg_sl av).length ≤ nL)
    (body : ∀ (p : Program) (e : Env) (s : State) (m : MethodId) (args : Array Value) (below : List Frame) (meth : Method) (c : Code) (ls : Array Slot) (Q : State → Prop), g_F p s m args meth c cc nL ret y.cls → B s.heap → Kp s → lv_has ls nL (lv_args 0 av) → Q = MQ below (g_QU ov B' A) args s 0 0 A → W p l e rm s m args below meth c s.heap [] 0 0 Q (F0 m 0 ls [])) :
    g_U l y (ws_ y cc nL ret) rm av Kp B ov B' A := g_of hy hle body
theorem g_blind {av : List Value} {Kp : State → Prop} {B : Heap → Prop} (hKs : g_Kst Kp) : FrameBlind (va_Pc av (fun U => B U.heap ∧ Kp U)) := fun a U g mk q => ⟨q.1, q.2.1, hKs.1 U _ rfl q.2.2⟩
section GL
variable {p : Program} {l : Launch} {e : Env} {R : Room} {s : State} {m : MethodId} {args : Array Value} {below : List Frame} {meth : Method} {c : Code} {H : Heap} {locs : List Loc} {cells slots : Nat} {Q : State → Prop}
variable {cc : ByteArray} {pc nL : Nat} {ls : Array Slot} {st0 rest : List Value} {A0 A : Nat → Prop} {H0 : Heap}
theorem g_goR {v : Value} (hr : va_Run p l e R s m args below meth c H locs cells slots 0 0 (F0 m pc ls st0) rest (fun st oc t => oc = .returned (some v) ∧ t.heap = st.heap) (fun _ => False)) (kk : W p l e R s m args below meth c H locs cells slots Q (F0 m (pc + 3) ls (v :: rest))) : W p l e R s m args below meth c H locs cells slots Q (F0 m pc ls st0) := by
  intro T hT X
  obtain ⟨v', st₀, t, T', L, h0, X', hL, e1, e2, ⟨hv, hh⟩, st⟩ := hr T hT X
  have hLn : L = [] := by
    cases L with
    | nil => rfl
    | cons a L => exact (hL a List.mem_cons_self).elim
  subst hLn
  rw [List.append_nil] at X'
  cases hv
  obtain ⟨t2, a1, b1⟩ := kk T' (by rw [e1, hh, h0]) X'
  exact ⟨t2, st t2 a1, b1⟩
theorem g_goU1 {v : Value} {B' : Heap → Prop} (hr : va_Run p l e R s m args below meth c H locs cells slots 0 0 (F0 m pc ls st0) rest (fun st oc t => oc = .returned (some v) ∧ B' t.heap ∧ va_F A st t) A) (hS : va_S A0 H0 H locs) (hA : ∀ q, A q → A0 q)
    (kk : ∀ (H1 : Heap) (locs1 : List Loc), B' H1 → va_S A0 H0 H1 locs1 → W p l e R s m args below meth c H1 locs1 cells slots Q (F0 m (pc + 3) ls (v :: rest))) : W p l e R s m args below meth c H locs cells slots Q (F0 m pc ls st0) := by
  intro T hT X
  obtain ⟨v', st₀, t, T', L, h0, X', hL, e1, e2, ⟨hv, hB, hz, hk⟩, st⟩ := hr T hT X
  cases hv
  rw [h0] at hz hk
  obtain ⟨t2, a1, b1⟩ := kk T'.heap (locs ++ L) (by rw [e1]; exact hB)
    ⟨Nat.le_trans hS.1 (by rw [e1]; exact hz), fun q h1 h2 => by rw [e1, hk q (Nat.lt_of_lt_of_le h1 hS.1) (fun z => h2 (hA q z))]; exact hS.2.1 q h1 h2, fun q hq => by
      rcases List.mem_append.mp hq with h | h
      · exact hS.2.2 q h
      · exact hA _ (hL q h)⟩ T' rfl X'
  exact ⟨t2, st t2 a1, b1⟩
theorem g_goU0 {B' : Heap → Prop} (hr : va_Run p l e R s m args below meth c H locs cells slots 0 0 (F0 m pc ls st0) rest (fun st oc t => oc = .returned none ∧ B' t.heap ∧ va_F A st t) A) (hS : va_S A0 H0 H locs) (hA : ∀ q, A q → A0 q)
    (kk : ∀ (H1 : Heap) (locs1 : List Loc), B' H1 → va_S A0 H0 H1 locs1 → W p l e R s m args below meth c H1 locs1 cells slots Q (F0 m (pc + 3) ls rest)) : W p l e R s m args below meth c H locs cells slots Q (F0 m pc ls st0) := by
  intro T hT X
  obtain ⟨v', st₀, t, T', L, h0, X', hL, e1, e2, ⟨hv, hB, hz, hk⟩, st⟩ := hr T hT X
  cases hv
  rw [h0] at hz hk
  obtain ⟨t2, a1, b1⟩ := kk T'.heap (locs ++ L) (by rw [e1]; exact hB)
    ⟨Nat.le_trans hS.1 (by rw [e1]; exact hz), fun q h1 h2 => by rw [e1, hk q (Nat.lt_of_lt_of_le h1 hS.1) (fun z => h2 (hA q z))]; exact hS.2.1 q h1 h2, fun q hq => by
      rcases List.mem_append.mp hq with h | h
      · exact hS.2.2 q h
      · exact hA _ (hL q h)⟩ T' rfl X'
  exact ⟨t2, st t2 a1, b1⟩
variable {own C : String} {index maxL n : Nat} {y : MethodName} {bytes : ByteArray} {ret : Option FieldType} {ws : List Cond} {rm : Room} {b : Addr} {As : List Value} {Kp : State → Prop} {B B' : Heap → Prop} {v : Value}
theorem g_RV (hC : CallFix p m c cc nL s args lw_all own) (hM : g_R l y ws rm (.ref b :: As) Kp B v) (cw : CallW R s args own C index y bytes maxL ret ws rm 0 0 n) (hKs : g_Kst Kp) (hrecv : ∃ cellB : Cell, H[b]? = some cellB ∧ cellB.vm.isStatics = false ∧ s.vm.findClass C = some cellB.cls) (hB : B H) (hK : Kp s) (hf : cells ≤ R.cells ∧ slots ≤ R.slots) (hn : As.length = n) (hsz : ls.size = nL) (hstk : st0 = As.reverse ++ .ref b :: rest) (hW : (rest.map fun v => v.category).sum ≤ 8) (hdg : decode cc pc = .ok (.invokevirtual index, 3))
    (kk : W p l e R s m args below meth c H locs cells slots Q (F0 m (pc + 3) ls (v :: rest))) : W p l e R s m args below meth c H locs cells slots Q (F0 m pc ls st0) :=
  g_goR (va_runV hC hM cw ⟨g_blind hKs, hrecv, fun U hU hW => ⟨rfl, by rw [hU]; exact hB, hKs.2 s U hW hK⟩⟩ rfl hn hsz hstk (lv_room hW) hdg hf) kk
theorem g_RS (hC : CallFix p m c cc nL s args lw_all own) (hM : g_R l y ws rm As Kp B v) (cw : CallB R s args own index y bytes maxL ret ws rm 0 0 n ∧ (Cond.static y).before args s = true) (hKs : g_Kst Kp) (hB : B H) (hK : Kp s) (hf : cells ≤ R.cells ∧ slots ≤ R.slots) (hn : As.length = n) (hsz : ls.size = nL) (hstk : st0 = As.reverse ++ rest) (hW : (rest.map fun v => v.category).sum ≤ 8) (hdg : decode cc pc = .ok (.invokestatic index, 3))
    (kk : W p l e R s m args below meth c H locs cells slots Q (F0 m (pc + 3) ls (v :: rest))) : W p l e R s m args below meth c H locs cells slots Q (F0 m pc ls st0) :=
  g_goR (va_runS hC hM cw ⟨g_blind hKs, fun U hU hW => ⟨rfl, by rw [hU]; exact hB, hKs.2 s U hW hK⟩⟩ rfl hn hsz hstk (lv_room hW) hdg hf) kk
theorem g_UV1 (hC : CallFix p m c cc nL s args lw_all own) (hM : g_U l y ws rm (.ref b :: As) Kp B (some v) B' A) (cw : CallW R s args own C index y bytes maxL ret ws rm 0 0 n) (hKs : g_Kst Kp) (hrecv : ∃ cellB : Cell, H[b]? = some cellB ∧ cellB.vm.isStatics = false ∧ s.vm.findClass C = some cellB.cls) (hB : B H) (hK : Kp s) (hf : cells ≤ R.cells ∧ slots ≤ R.slots) (hS : va_S A0 H0 H locs) (hA : ∀ q, A q → A0 q) (hn : As.length = n) (hsz : ls.size = nL) (hstk : st0 = As.reverse ++ .ref b :: rest) (hW : (rest.map fun v => v.category).sum ≤ 8) (hdg : decode cc pc = .ok (.invokevirtual index, 3))
    (kk : ∀ (H1 : Heap) (locs1 : List Loc), B' H1 → va_S A0 H0 H1 locs1 → W p l e R s m args below meth c H1 locs1 cells slots Q (F0 m (pc + 3) ls (v :: rest))) : W p l e R s m args below meth c H locs cells slots Q (F0 m pc ls st0) :=
  g_goU1 (va_runV hC hM cw ⟨g_blind hKs, hrecv, fun U hU hW => ⟨rfl, by rw [hU]; exact hB, hKs.2 s U hW hK⟩⟩ rfl hn hsz hstk (lv_room hW) hdg hf) hS hA kk
theorem g_UV0 (hC : CallFix p m c cc nL s args lw_all own) (hM : g_U l y ws rm (.ref b :: As) Kp B none B' A) (cw : CallW R s args own C index y bytes maxL ret ws rm 0 0 n) (hKs : g_Kst Kp) (hrecv : ∃ cellB : Cell, H[b]? = some cellB ∧ cellB.vm.isStatics = false ∧ s.vm.findClass C = some cellB.cls) (hB : B H) (hK : Kp s) (hf : cells ≤ R.cells ∧ slots ≤ R.slots) (hS : va_S A0 H0 H locs) (hA : ∀ q, A q → A0 q) (hn : As.length = n) (hsz : ls.size = nL) (hstk : st0 = As.reverse ++ .ref b :: rest) (hW : (rest.map fun v => v.category).sum ≤ 8) (hdg : decode cc pc = .ok (.invokevirtual index, 3))
    (kk : ∀ (H1 : Heap) (locs1 : List Loc), B' H1 → va_S A0 H0 H1 locs1 → W p l e R s m args below meth c H1 locs1 cells slots Q (F0 m (pc + 3) ls rest)) : W p l e R s m args below meth c H locs cells slots Q (F0 m pc ls st0) :=
  g_goU0 (va_runV hC hM cw ⟨g_blind hKs, hrecv, fun U hU hW => ⟨rfl, by rw [hU]; exact hB, hKs.2 s U hW hK⟩⟩ rfl hn hsz hstk (lv_room hW) hdg hf) hS hA kk
/-! ends -/
theorem g_endRi {x x' : Int32} (hC : g_F p s m args meth c cc nL (some .int) own) (hQ : Q = MQ below (g_QR (.int x')) args s 0 0 (fun _ => False)) (hr : x' = x) (hdg : decode cc pc = .ok (.ireturn, 1)) : W p l e R s m args below meth c s.heap [] 0 0 Q (F0 m pc ls [.int x]) := by
  subst hQ; subst hr
  obtain ⟨hx, hb, hret, hlk, -, -, -⟩ := hC
  exact W.iret hx hb hret (fun t ht _ => ⟨rfl, ht⟩) (fun q h => by cases h) hdg
theorem g_endRz {x' z : Bool} {x : Int32} (hC : g_F p s m args meth c cc nL (some .boolean) own) (hQ : Q = MQ below (g_QR (.int (b2i x'))) args s 0 0 (fun _ => False)) (hr : x' = z) (hz : b2i z = x) (hdg : decode cc pc = .ok (.ireturn, 1)) : W p l e R s m args below meth c s.heap [] 0 0 Q (F0 m pc ls [.int x]) := by
  subst hQ; subst hr; subst hz
  obtain ⟨hx, hb, hret, hlk, -, -, -⟩ := hC
  exact W.zret hx hb hret (b2i_nar _) (fun t ht _ => ⟨rfl, ht⟩) (fun q h => by cases h) hdg
theorem g_endRl {x x' : Int64} (hC : g_F p s m args meth c cc nL (some .long) own) (hQ : Q = MQ below (g_QR (.long x')) args s 0 0 (fun _ => False)) (hr : x' = x) (hdg : decode cc pc = .ok (.lreturn, 1)) : W p l e R s m args below meth c s.heap [] 0 0 Q (F0 m pc ls [.long x]) := by
  subst hQ; subst hr
  obtain ⟨hx, hb, hret, hlk, -, -, -⟩ := hC
  exact W.lret hx hb hret (fun t ht _ => ⟨rfl, ht⟩) (fun q h => by cases h) hdg
theorem g_endUv {α : Type} {u u' : α} {Pic : α → Heap → Prop} (hC : g_F p s m args meth c cc nL none own) (hQ : Q = MQ below (g_QU none (Pic u') A) args s 0 0 A) (hr : u' = u) (hP : Pic u H) (hS : va_S A s.heap H locs) (hdg : decode cc pc = .ok (.return_, 1)) : W p l e R s m args below meth c H locs 0 0 Q (F0 m pc ls []) := by
  subst hQ; subst hr
  obtain ⟨hx, hb, hret, hlk, -, -, -⟩ := hC
  exact W.vret hx hb hret (fun t ht _ => ⟨rfl, by rw [ht]; exact hP, hS.F ht⟩) hS.2.2 hdg
theorem g_endUi {α : Type} {x : Int32} {u : α} {r : Int32 × α} {Pic : α → Heap → Prop} (hC : g_F p s m args meth c cc nL (some .int) own) (hQ : Q = MQ below (g_QU (some (.int r.1)) (Pic r.2) A) args s 0 0 A) (hr : r = (x, u)) (hP : Pic u H) (hS : va_S A s.heap H locs) (hdg : decode cc pc = .ok (.ireturn, 1)) : W p l e R s m args below meth c H locs 0 0 Q (F0 m pc ls [.int x]) := by
  subst hQ; subst hr
  obtain ⟨hx, hb, hret, hlk, -, -, -⟩ := hC
  exact W.iret hx hb hret (fun t ht _ => ⟨rfl, by rw [ht]; exact hP, hS.F ht⟩) hS.2.2 hdg
theorem g_endUz {α : Type} {z : Bool} {x : Int32} {u : α} {r : Bool × α} {Pic : α → Heap → Prop} (hC : g_F p s m args meth c cc nL (some .boolean) own) (hQ : Q = MQ below (g_QU (some (.int (b2i r.1))) (Pic r.2) A) args s 0 0 A) (hr : r = (z, u)) (hz : b2i z = x) (hP : Pic u H) (hS : va_S A s.heap H locs) (hdg : decode cc pc = .ok (.ireturn, 1)) : W p l e R s m args below meth c H locs 0 0 Q (F0 m pc ls [.int x]) := by
  subst hQ; subst hr; subst hz
  obtain ⟨hx, hb, hret, hlk, -, -, -⟩ := hC
  exact W.zret hx hb hret (b2i_nar _) (fun t ht _ => ⟨rfl, by rw [ht]; exact hP, hS.F ht⟩) hS.2.2 hdg
theorem g_endUl {α : Type} {x : Int64} {u : α} {r : Int64 × α} {Pic : α → Heap → Prop} (hC : g_F p s m args meth c cc nL (some .long) own) (hQ : Q = MQ below (g_QU (some (.long r.1)) (Pic r.2) A) args s 0 0 A) (hr : r = (x, u)) (hP : Pic u H) (hS : va_S A s.heap H locs) (hdg : decode cc pc = .ok (.lreturn, 1)) : W p l e R s m args below meth c H locs 0 0 Q (F0 m pc ls [.long x]) := by
  subst hQ; subst hr
  obtain ⟨hx, hb, hret, hlk, -, -, -⟩ := hC
  exact W.lret hx hb hret (fun t ht _ => ⟨rfl, by rw [ht]; exact hP, hS.F ht⟩) hS.2.2 hdg
/-! a long compare and the branch behind it -/
variable {x z : Int64} {off : Int} {tgt : Nat}
theorem lq_eq (hx : p.tables.exec = Jvm.exec) (hb : c.code = cc) (d1 : decode cc pc = .ok (.lcmp, 1)) (d2 : decode cc (pc + 1) = .ok (.ifCond .eq off, 3)) (ht : ((pc + 1 : Nat) : Int) + off = (tgt : Int)) (kt : x = z → W p l e R s m args below meth c H locs cells slots Q (F0 m tgt ls rest)) (kf : ¬ x = z → W p l e R s m args below meth c H locs cells slots Q (F0 m (pc + 4) ls rest)) : W p l e R s m args below meth c H locs cells slots Q (F0 m pc ls (.long z :: .long x :: rest)) :=
  W.lcmp hx hb d1 (lv_if_eq hx hb d2 ht (fun h => kt ((lg_cmp_eq x z).mp h)) (fun h => kf (fun h2 => h ((lg_cmp_eq x z).mpr h2))))
theorem lq_ne (hx : p.tables.exec = Jvm.exec) (hb : c.code = cc) (d1 : decode cc pc = .ok (.lcmp, 1)) (d2 : decode cc (pc + 1) = .ok (.ifCond .ne off, 3)) (ht : ((pc + 1 : Nat) : Int) + off = (tgt : Int)) (kt : ¬ x = z → W p l e R s m args below meth c H locs cells slots Q (F0 m tgt ls rest)) (kf : x = z → W p l e R s m args below meth c H locs cells slots Q (F0 m (pc + 4) ls rest)) : W p l e R s m args below meth c H locs cells slots Q (F0 m pc ls (.long z :: .long x :: rest)) :=
  W.lcmp hx hb d1 (lv_if_ne hx hb d2 ht (fun h => kt (fun h2 => h ((lg_cmp_eq x z).mpr h2))) (fun h => kf ((lg_cmp_eq x z).mp h)))
theorem lq_lt (hx : p.tables.exec = Jvm.exec) (hb : c.code = cc) (d1 : decode cc pc = .ok (.lcmp, 1)) (d2 : decode cc (pc + 1) = .ok (.ifCond .lt off, 3)) (ht : ((pc + 1 : Nat) : Int) + off = (tgt : Int)) (kt : x < z → W p l e R s m args below meth c H locs cells slots Q (F0 m tgt ls rest)) (kf : ¬ x < z → W p l e R s m args below meth c H locs cells slots Q (F0 m (pc + 4) ls rest)) : W p l e R s m args below meth c H locs cells slots Q (F0 m pc ls (.long z :: .long x :: rest)) :=
  W.lcmp hx hb d1 (lv_if_lt hx hb d2 ht (fun h => kt ((lg_cmp_lt x z).mp h)) (fun h => kf (fun h2 => h ((lg_cmp_lt x z).mpr h2))))
theorem lq_ge (hx : p.tables.exec = Jvm.exec) (hb : c.code = cc) (d1 : decode cc pc = .ok (.lcmp, 1)) (d2 : decode cc (pc + 1) = .ok (.ifCond .ge off, 3)) (ht : ((pc + 1 : Nat) : Int) + off = (tgt : Int)) (kt : z ≤ x → W p l e R s m args below meth c H locs cells slots Q (F0 m tgt ls rest)) (kf : ¬ z ≤ x → W p l e R s m args below meth c H locs cells slots Q (F0 m (pc + 4) ls rest)) : W p l e R s m args below meth c H locs cells slots Q (F0 m pc ls (.long z :: .long x :: rest)) :=
  W.lcmp hx hb d1 (lv_if_ge hx hb d2 ht (fun h => kt ((lg_cmp_ge x z).mp h)) (fun h => kf (fun h2 => h ((lg_cmp_ge x z).mpr h2))))
theorem lq_gt (hx : p.tables.exec = Jvm.exec) (hb : c.code = cc) (d1 : decode cc pc = .ok (.lcmp, 1)) (d2 : decode cc (pc + 1) = .ok (.ifCond .gt off, 3)) (ht : ((pc + 1 : Nat) : Int) + off = (tgt : Int)) (kt : z < x → W p l e R s m args below meth c H locs cells slots Q (F0 m tgt ls rest)) (kf : ¬ z < x → W p l e R s m args below meth c H locs cells slots Q (F0 m (pc + 4) ls rest)) : W p l e R s m args below meth c H locs cells slots Q (F0 m pc ls (.long z :: .long x :: rest)) :=
  W.lcmp hx hb d1 (lv_if_gt hx hb d2 ht (fun h => kt ((lg_cmp_gt x z).mp h)) (fun h => kf (fun h2 => h ((lg_cmp_gt x z).mpr h2))))
theorem lq_le (hx : p.tables.exec = Jvm.exec) (hb : c.code = cc) (d1 : decode cc pc = .ok (.lcmp, 1)) (d2 : decode cc (pc + 1) = .ok (.ifCond .le off, 3)) (ht : ((pc + 1 : Nat) : Int) + off = (tgt : Int)) (kt : x ≤ z → W p l e R s m args below meth c H locs cells slots Q (F0 m tgt ls rest)) (kf : ¬ x ≤ z → W p l e R s m args below meth c H locs cells slots Q (F0 m (pc + 4) ls rest)) : W p l e R s m args below meth c H locs cells slots Q (F0 m pc ls (.long z :: .long x :: rest)) :=
  W.lcmp hx hb d1 (lv_if_le hx hb d2 ht (fun h => kt ((lg_cmp_le x z).mp h)) (fun h => kf (fun h2 => h ((lg_cmp_le x z).mpr h2))))
end GL
