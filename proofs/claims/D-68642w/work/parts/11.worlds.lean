set_option maxRecDepth 100000
abbrev xcl : List vw_C := [(RX0, TX0, 3), (RX1, TX1, 10), (RX2, TX2, 11), (RX3, TX3, 2), (RX4, TX4, 10), (RX5, TX5, 41)]
def xnl : List (String × Nat × String × String × String) := [("FlagMachine", 130, "FlagMachine$Memory", "bytes", "[B"), ("FlagMachine$Processor", 298, "FlagMachine$Memory", "bytes", "[B"), ("FlagMachine", 101, "FlagMachine$Memory", "broken", "J"), ("FlagMachine", 123, "FlagMachine$Stream", "bytes", "[B"), ("FlagMachine$Processor", 302, "FlagMachine$Stream", "bytes", "[B"), ("FlagMachine$Processor", 55, "FlagMachine$Stream", "size", "I"), ("FlagMachine", 111, "FlagMachine$Stream", "size", "I"), ("FlagMachine$Sound", 7, "FlagMachine$Instruction", "op", "I"), ("FlagMachine$Processor", 149, "FlagMachine$Instruction", "op", "I"), ("FlagMachine$Sound", 21, "FlagMachine$Instruction", "size", "I"), ("FlagMachine$Processor", 152, "FlagMachine$Instruction", "size", "I"), ("FlagMachine$Sound", 28, "FlagMachine$Instruction", "condition", "I"), ("FlagMachine$Processor", 244, "FlagMachine$Instruction", "condition", "I"), ("FlagMachine$Sound", 33, "FlagMachine$Instruction", "kinds", "[I"), ("FlagMachine$Processor", 93, "FlagMachine$Instruction", "kinds", "[I"), ("FlagMachine$Sound", 81, "FlagMachine$Instruction", "registers", "[I"), ("FlagMachine$Processor", 104, "FlagMachine$Instruction", "registers", "[I"), ("FlagMachine$Processor", 65, "FlagMachine$Instruction", "base", "I"), ("FlagMachine$Sound", 71, "FlagMachine$Instruction", "base", "I"), ("FlagMachine$Processor", 71, "FlagMachine$Instruction", "index", "I"), ("FlagMachine$Sound", 68, "FlagMachine$Instruction", "index", "I"), ("FlagMachine$Processor", 74, "FlagMachine$Instruction", "scale", "I"), ("FlagMachine$Sound", 78, "FlagMachine$Instruction", "scale", "I"), ("FlagMachine$Processor", 62, "FlagMachine$Instruction", "displacement", "I"), ("FlagMachine$Sound", 50, "FlagMachine$Instruction", "number", "J"), ("FlagMachine", 68, "FlagMachine$Instruction", "number", "J"), ("FlagMachine$Processor", 107, "FlagMachine$Instruction", "number", "J"), ("FlagMachine", 107, "FlagMachine$Processor", "input", "LFlagMachine$Stream;"), ("FlagMachine", 120, "FlagMachine$Processor", "output", "LFlagMachine$Stream;"), ("FlagMachine", 52, "FlagMachine$Processor", "i", "LFlagMachine$Instruction;"), ("FlagMachine", 89, "FlagMachine$Processor", "\x72", "[J"), ("FlagMachine", 93, "FlagMachine$Processor", "ip", "J"), ("FlagMachine", 86, "FlagMachine$Processor", "stopValue", "J"), ("FlagMachine", 98, "FlagMachine$Processor", "flags", "I"), ("FlagMachine", 72, "FlagMachine$Processor", "stop", "I"), ("FlagMachine", 104, "FlagMachine$Processor", "done", "I")]
theorem xn_q111 : ("FlagMachine", 130, "FlagMachine$Memory", "bytes", "[B") ∈ xnl := List.mem_of_getElem? (i := 0) rfl
theorem xn_q112 : ("FlagMachine$Processor", 298, "FlagMachine$Memory", "bytes", "[B") ∈ xnl := List.mem_of_getElem? (i := 1) rfl
theorem xn_q122 : ("FlagMachine", 101, "FlagMachine$Memory", "broken", "J") ∈ xnl := List.mem_of_getElem? (i := 2) rfl
theorem xn_q159 : ("FlagMachine", 123, "FlagMachine$Stream", "bytes", "[B") ∈ xnl := List.mem_of_getElem? (i := 3) rfl
theorem xn_q160 : ("FlagMachine$Processor", 302, "FlagMachine$Stream", "bytes", "[B") ∈ xnl := List.mem_of_getElem? (i := 4) rfl
theorem xn_q162 : ("FlagMachine$Processor", 55, "FlagMachine$Stream", "size", "I") ∈ xnl := List.mem_of_getElem? (i := 5) rfl
theorem xn_q163 : ("FlagMachine", 111, "FlagMachine$Stream", "size", "I") ∈ xnl := List.mem_of_getElem? (i := 6) rfl
theorem xn_q176 : ("FlagMachine$Sound", 7, "FlagMachine$Instruction", "op", "I") ∈ xnl := List.mem_of_getElem? (i := 7) rfl
theorem xn_q177 : ("FlagMachine$Processor", 149, "FlagMachine$Instruction", "op", "I") ∈ xnl := List.mem_of_getElem? (i := 8) rfl
theorem xn_q179 : ("FlagMachine$Sound", 21, "FlagMachine$Instruction", "size", "I") ∈ xnl := List.mem_of_getElem? (i := 9) rfl
theorem xn_q180 : ("FlagMachine$Processor", 152, "FlagMachine$Instruction", "size", "I") ∈ xnl := List.mem_of_getElem? (i := 10) rfl
theorem xn_q182 : ("FlagMachine$Sound", 28, "FlagMachine$Instruction", "condition", "I") ∈ xnl := List.mem_of_getElem? (i := 11) rfl
theorem xn_q183 : ("FlagMachine$Processor", 244, "FlagMachine$Instruction", "condition", "I") ∈ xnl := List.mem_of_getElem? (i := 12) rfl
theorem xn_q185 : ("FlagMachine$Sound", 33, "FlagMachine$Instruction", "kinds", "[I") ∈ xnl := List.mem_of_getElem? (i := 13) rfl
theorem xn_q186 : ("FlagMachine$Processor", 93, "FlagMachine$Instruction", "kinds", "[I") ∈ xnl := List.mem_of_getElem? (i := 14) rfl
theorem xn_q188 : ("FlagMachine$Sound", 81, "FlagMachine$Instruction", "registers", "[I") ∈ xnl := List.mem_of_getElem? (i := 15) rfl
theorem xn_q189 : ("FlagMachine$Processor", 104, "FlagMachine$Instruction", "registers", "[I") ∈ xnl := List.mem_of_getElem? (i := 16) rfl
theorem xn_q191 : ("FlagMachine$Processor", 65, "FlagMachine$Instruction", "base", "I") ∈ xnl := List.mem_of_getElem? (i := 17) rfl
theorem xn_q192 : ("FlagMachine$Sound", 71, "FlagMachine$Instruction", "base", "I") ∈ xnl := List.mem_of_getElem? (i := 18) rfl
theorem xn_q194 : ("FlagMachine$Processor", 71, "FlagMachine$Instruction", "index", "I") ∈ xnl := List.mem_of_getElem? (i := 19) rfl
theorem xn_q195 : ("FlagMachine$Sound", 68, "FlagMachine$Instruction", "index", "I") ∈ xnl := List.mem_of_getElem? (i := 20) rfl
theorem xn_q197 : ("FlagMachine$Processor", 74, "FlagMachine$Instruction", "scale", "I") ∈ xnl := List.mem_of_getElem? (i := 21) rfl
theorem xn_q198 : ("FlagMachine$Sound", 78, "FlagMachine$Instruction", "scale", "I") ∈ xnl := List.mem_of_getElem? (i := 22) rfl
theorem xn_q200 : ("FlagMachine$Processor", 62, "FlagMachine$Instruction", "displacement", "I") ∈ xnl := List.mem_of_getElem? (i := 23) rfl
theorem xn_q201 : ("FlagMachine$Sound", 50, "FlagMachine$Instruction", "number", "J") ∈ xnl := List.mem_of_getElem? (i := 24) rfl
theorem xn_q202 : ("FlagMachine", 68, "FlagMachine$Instruction", "number", "J") ∈ xnl := List.mem_of_getElem? (i := 25) rfl
theorem xn_q203 : ("FlagMachine$Processor", 107, "FlagMachine$Instruction", "number", "J") ∈ xnl := List.mem_of_getElem? (i := 26) rfl
theorem xn_q228 : ("FlagMachine", 107, "FlagMachine$Processor", "input", "LFlagMachine$Stream;") ∈ xnl := List.mem_of_getElem? (i := 27) rfl
theorem xn_q230 : ("FlagMachine", 120, "FlagMachine$Processor", "output", "LFlagMachine$Stream;") ∈ xnl := List.mem_of_getElem? (i := 28) rfl
theorem xn_q232 : ("FlagMachine", 52, "FlagMachine$Processor", "i", "LFlagMachine$Instruction;") ∈ xnl := List.mem_of_getElem? (i := 29) rfl
theorem xn_q234 : ("FlagMachine", 89, "FlagMachine$Processor", "\x72", "[J") ∈ xnl := List.mem_of_getElem? (i := 30) rfl
theorem xn_q236 : ("FlagMachine", 93, "FlagMachine$Processor", "ip", "J") ∈ xnl := List.mem_of_getElem? (i := 31) rfl
theorem xn_q239 : ("FlagMachine", 86, "FlagMachine$Processor", "stopValue", "J") ∈ xnl := List.mem_of_getElem? (i := 32) rfl
theorem xn_q241 : ("FlagMachine", 98, "FlagMachine$Processor", "flags", "I") ∈ xnl := List.mem_of_getElem? (i := 33) rfl
theorem xn_q243 : ("FlagMachine", 72, "FlagMachine$Processor", "stop", "I") ∈ xnl := List.mem_of_getElem? (i := 34) rfl
theorem xn_q245 : ("FlagMachine", 104, "FlagMachine$Processor", "done", "I") ∈ xnl := List.mem_of_getElem? (i := 35) rfl
theorem xt_0 : Jvm.Cond.fieldLinkNest "FlagMachine" 130 "FlagMachine$Memory" "bytes" "[B" "FlagMachine" ∈ lw_tbl := q111
theorem xt_1 : Jvm.Cond.fieldLinkNest "FlagMachine$Processor" 298 "FlagMachine$Memory" "bytes" "[B" "FlagMachine" ∈ lw_tbl := q112
theorem xt_2 : Jvm.Cond.fieldLinkNest "FlagMachine" 101 "FlagMachine$Memory" "broken" "J" "FlagMachine" ∈ lw_tbl := q122
theorem xt_3 : Jvm.Cond.fieldLinkNest "FlagMachine" 123 "FlagMachine$Stream" "bytes" "[B" "FlagMachine" ∈ lw_tbl := q159
theorem xt_4 : Jvm.Cond.fieldLinkNest "FlagMachine$Processor" 302 "FlagMachine$Stream" "bytes" "[B" "FlagMachine" ∈ lw_tbl := q160
theorem xt_5 : Jvm.Cond.fieldLinkNest "FlagMachine$Processor" 55 "FlagMachine$Stream" "size" "I" "FlagMachine" ∈ lw_tbl := q162
theorem xt_6 : Jvm.Cond.fieldLinkNest "FlagMachine" 111 "FlagMachine$Stream" "size" "I" "FlagMachine" ∈ lw_tbl := q163
theorem xt_7 : Jvm.Cond.fieldLinkNest "FlagMachine$Sound" 7 "FlagMachine$Instruction" "op" "I" "FlagMachine" ∈ lw_tbl := q176
theorem xt_8 : Jvm.Cond.fieldLinkNest "FlagMachine$Processor" 149 "FlagMachine$Instruction" "op" "I" "FlagMachine" ∈ lw_tbl := q177
theorem xt_9 : Jvm.Cond.fieldLinkNest "FlagMachine$Sound" 21 "FlagMachine$Instruction" "size" "I" "FlagMachine" ∈ lw_tbl := q179
theorem xt_10 : Jvm.Cond.fieldLinkNest "FlagMachine$Processor" 152 "FlagMachine$Instruction" "size" "I" "FlagMachine" ∈ lw_tbl := q180
theorem xt_11 : Jvm.Cond.fieldLinkNest "FlagMachine$Sound" 28 "FlagMachine$Instruction" "condition" "I" "FlagMachine" ∈ lw_tbl := q182
theorem xt_12 : Jvm.Cond.fieldLinkNest "FlagMachine$Processor" 244 "FlagMachine$Instruction" "condition" "I" "FlagMachine" ∈ lw_tbl := q183
theorem xt_13 : Jvm.Cond.fieldLinkNest "FlagMachine$Sound" 33 "FlagMachine$Instruction" "kinds" "[I" "FlagMachine" ∈ lw_tbl := q185
theorem xt_14 : Jvm.Cond.fieldLinkNest "FlagMachine$Processor" 93 "FlagMachine$Instruction" "kinds" "[I" "FlagMachine" ∈ lw_tbl := q186
theorem xt_15 : Jvm.Cond.fieldLinkNest "FlagMachine$Sound" 81 "FlagMachine$Instruction" "registers" "[I" "FlagMachine" ∈ lw_tbl := q188
theorem xt_16 : Jvm.Cond.fieldLinkNest "FlagMachine$Processor" 104 "FlagMachine$Instruction" "registers" "[I" "FlagMachine" ∈ lw_tbl := q189
theorem xt_17 : Jvm.Cond.fieldLinkNest "FlagMachine$Processor" 65 "FlagMachine$Instruction" "base" "I" "FlagMachine" ∈ lw_tbl := q191
theorem xt_18 : Jvm.Cond.fieldLinkNest "FlagMachine$Sound" 71 "FlagMachine$Instruction" "base" "I" "FlagMachine" ∈ lw_tbl := q192
theorem xt_19 : Jvm.Cond.fieldLinkNest "FlagMachine$Processor" 71 "FlagMachine$Instruction" "index" "I" "FlagMachine" ∈ lw_tbl := q194
theorem xt_20 : Jvm.Cond.fieldLinkNest "FlagMachine$Sound" 68 "FlagMachine$Instruction" "index" "I" "FlagMachine" ∈ lw_tbl := q195
theorem xt_21 : Jvm.Cond.fieldLinkNest "FlagMachine$Processor" 74 "FlagMachine$Instruction" "scale" "I" "FlagMachine" ∈ lw_tbl := q197
theorem xt_22 : Jvm.Cond.fieldLinkNest "FlagMachine$Sound" 78 "FlagMachine$Instruction" "scale" "I" "FlagMachine" ∈ lw_tbl := q198
theorem xt_23 : Jvm.Cond.fieldLinkNest "FlagMachine$Processor" 62 "FlagMachine$Instruction" "displacement" "I" "FlagMachine" ∈ lw_tbl := q200
theorem xt_24 : Jvm.Cond.fieldLinkNest "FlagMachine$Sound" 50 "FlagMachine$Instruction" "number" "J" "FlagMachine" ∈ lw_tbl := q201
theorem xt_25 : Jvm.Cond.fieldLinkNest "FlagMachine" 68 "FlagMachine$Instruction" "number" "J" "FlagMachine" ∈ lw_tbl := q202
theorem xt_26 : Jvm.Cond.fieldLinkNest "FlagMachine$Processor" 107 "FlagMachine$Instruction" "number" "J" "FlagMachine" ∈ lw_tbl := q203
theorem xt_27 : Jvm.Cond.fieldLinkNest "FlagMachine" 107 "FlagMachine$Processor" "input" "LFlagMachine$Stream;" "FlagMachine" ∈ lw_tbl := q228
theorem xt_28 : Jvm.Cond.fieldLinkNest "FlagMachine" 120 "FlagMachine$Processor" "output" "LFlagMachine$Stream;" "FlagMachine" ∈ lw_tbl := q230
theorem xt_29 : Jvm.Cond.fieldLinkNest "FlagMachine" 52 "FlagMachine$Processor" "i" "LFlagMachine$Instruction;" "FlagMachine" ∈ lw_tbl := q232
theorem xt_30 : Jvm.Cond.fieldLinkNest "FlagMachine" 89 "FlagMachine$Processor" "\x72" "[J" "FlagMachine" ∈ lw_tbl := q234
theorem xt_31 : Jvm.Cond.fieldLinkNest "FlagMachine" 93 "FlagMachine$Processor" "ip" "J" "FlagMachine" ∈ lw_tbl := q236
theorem xt_32 : Jvm.Cond.fieldLinkNest "FlagMachine" 86 "FlagMachine$Processor" "stopValue" "J" "FlagMachine" ∈ lw_tbl := q239
theorem xt_33 : Jvm.Cond.fieldLinkNest "FlagMachine" 98 "FlagMachine$Processor" "flags" "I" "FlagMachine" ∈ lw_tbl := q241
theorem xt_34 : Jvm.Cond.fieldLinkNest "FlagMachine" 72 "FlagMachine$Processor" "stop" "I" "FlagMachine" ∈ lw_tbl := q243
theorem xt_35 : Jvm.Cond.fieldLinkNest "FlagMachine" 104 "FlagMachine$Processor" "done" "I" "FlagMachine" ∈ lw_tbl := q245
theorem xnl_tbl : ∀ q ∈ xnl, Jvm.Cond.fieldLinkNest q.1 q.2.1 q.2.2.1 q.2.2.2.1 q.2.2.2.2 "FlagMachine" ∈ lw_tbl := by
  intro q hq
  simp only [xnl, List.mem_cons, List.not_mem_nil, or_false] at hq
  rcases hq with h | h | h | h | h | h | h | h | h | h | h | h | h | h | h | h | h | h | h | h | h | h | h | h | h | h | h | h | h | h | h | h | h | h | h | h
  · rw [h]; exact xt_0
  · rw [h]; exact xt_1
  · rw [h]; exact xt_2
  · rw [h]; exact xt_3
  · rw [h]; exact xt_4
  · rw [h]; exact xt_5
  · rw [h]; exact xt_6
  · rw [h]; exact xt_7
  · rw [h]; exact xt_8
  · rw [h]; exact xt_9
  · rw [h]; exact xt_10
  · rw [h]; exact xt_11
  · rw [h]; exact xt_12
  · rw [h]; exact xt_13
  · rw [h]; exact xt_14
  · rw [h]; exact xt_15
  · rw [h]; exact xt_16
  · rw [h]; exact xt_17
  · rw [h]; exact xt_18
  · rw [h]; exact xt_19
  · rw [h]; exact xt_20
  · rw [h]; exact xt_21
  · rw [h]; exact xt_22
  · rw [h]; exact xt_23
  · rw [h]; exact xt_24
  · rw [h]; exact xt_25
  · rw [h]; exact xt_26
  · rw [h]; exact xt_27
  · rw [h]; exact xt_28
  · rw [h]; exact xt_29
  · rw [h]; exact xt_30
  · rw [h]; exact xt_31
  · rw [h]; exact xt_32
  · rw [h]; exact xt_33
  · rw [h]; exact xt_34
  · rw [h]; exact xt_35
def xN (U : State) : Prop := ∀ q ∈ xnl, va_Nw (.fieldLinkNest q.1 q.2.1 q.2.2.1 q.2.2.2.1 q.2.2.2.2 "FlagMachine") U
abbrev XK : Type := (Int32 × Int32 × Int32 × (Nat → Int32) × (Nat → Int32) × Int32 × Int32 × Int32 × Int32 × Int64) × (Int32 × Int32 × Int32 × Int32 × Int32 × Int64 × Int64)
def kx_op (k : XK) : Int32 := k.1.1
def kx_size (k : XK) : Int32 := k.1.2.1
def kx_cond (k : XK) : Int32 := k.1.2.2.1
def kx_kinds (k : XK) : (Nat → Int32) := k.1.2.2.2.1
def kx_regs (k : XK) : (Nat → Int32) := k.1.2.2.2.2.1
def kx_base (k : XK) : Int32 := k.1.2.2.2.2.2.1
def kx_index (k : XK) : Int32 := k.1.2.2.2.2.2.2.1
def kx_scale (k : XK) : Int32 := k.1.2.2.2.2.2.2.2.1
def kx_disp (k : XK) : Int32 := k.1.2.2.2.2.2.2.2.2.1
def kx_number (k : XK) : Int64 := k.1.2.2.2.2.2.2.2.2.2
def kx_textEnd (k : XK) : Int32 := k.2.1
def kx_rodataBegin (k : XK) : Int32 := k.2.2.1
def kx_rodataEnd (k : XK) : Int32 := k.2.2.2.1
def kx_dataBegin (k : XK) : Int32 := k.2.2.2.2.1
def kx_dataEnd (k : XK) : Int32 := k.2.2.2.2.2.1
def kx_heap (k : XK) : Int64 := k.2.2.2.2.2.2.1
def kx_broken (k : XK) : Int64 := k.2.2.2.2.2.2.2
def kx_op_ (v : Int32) (k : XK) : XK := ((v, k.1.2.1, k.1.2.2.1, k.1.2.2.2.1, k.1.2.2.2.2.1, k.1.2.2.2.2.2.1, k.1.2.2.2.2.2.2.1, k.1.2.2.2.2.2.2.2.1, k.1.2.2.2.2.2.2.2.2.1, k.1.2.2.2.2.2.2.2.2.2), k.2)
def kx_size_ (v : Int32) (k : XK) : XK := ((k.1.1, v, k.1.2.2.1, k.1.2.2.2.1, k.1.2.2.2.2.1, k.1.2.2.2.2.2.1, k.1.2.2.2.2.2.2.1, k.1.2.2.2.2.2.2.2.1, k.1.2.2.2.2.2.2.2.2.1, k.1.2.2.2.2.2.2.2.2.2), k.2)
def kx_cond_ (v : Int32) (k : XK) : XK := ((k.1.1, k.1.2.1, v, k.1.2.2.2.1, k.1.2.2.2.2.1, k.1.2.2.2.2.2.1, k.1.2.2.2.2.2.2.1, k.1.2.2.2.2.2.2.2.1, k.1.2.2.2.2.2.2.2.2.1, k.1.2.2.2.2.2.2.2.2.2), k.2)
def kx_kinds_ (v : (Nat → Int32)) (k : XK) : XK := ((k.1.1, k.1.2.1, k.1.2.2.1, v, k.1.2.2.2.2.1, k.1.2.2.2.2.2.1, k.1.2.2.2.2.2.2.1, k.1.2.2.2.2.2.2.2.1, k.1.2.2.2.2.2.2.2.2.1, k.1.2.2.2.2.2.2.2.2.2), k.2)
def kx_regs_ (v : (Nat → Int32)) (k : XK) : XK := ((k.1.1, k.1.2.1, k.1.2.2.1, k.1.2.2.2.1, v, k.1.2.2.2.2.2.1, k.1.2.2.2.2.2.2.1, k.1.2.2.2.2.2.2.2.1, k.1.2.2.2.2.2.2.2.2.1, k.1.2.2.2.2.2.2.2.2.2), k.2)
def kx_base_ (v : Int32) (k : XK) : XK := ((k.1.1, k.1.2.1, k.1.2.2.1, k.1.2.2.2.1, k.1.2.2.2.2.1, v, k.1.2.2.2.2.2.2.1, k.1.2.2.2.2.2.2.2.1, k.1.2.2.2.2.2.2.2.2.1, k.1.2.2.2.2.2.2.2.2.2), k.2)
def kx_index_ (v : Int32) (k : XK) : XK := ((k.1.1, k.1.2.1, k.1.2.2.1, k.1.2.2.2.1, k.1.2.2.2.2.1, k.1.2.2.2.2.2.1, v, k.1.2.2.2.2.2.2.2.1, k.1.2.2.2.2.2.2.2.2.1, k.1.2.2.2.2.2.2.2.2.2), k.2)
def kx_scale_ (v : Int32) (k : XK) : XK := ((k.1.1, k.1.2.1, k.1.2.2.1, k.1.2.2.2.1, k.1.2.2.2.2.1, k.1.2.2.2.2.2.1, k.1.2.2.2.2.2.2.1, v, k.1.2.2.2.2.2.2.2.2.1, k.1.2.2.2.2.2.2.2.2.2), k.2)
def kx_disp_ (v : Int32) (k : XK) : XK := ((k.1.1, k.1.2.1, k.1.2.2.1, k.1.2.2.2.1, k.1.2.2.2.2.1, k.1.2.2.2.2.2.1, k.1.2.2.2.2.2.2.1, k.1.2.2.2.2.2.2.2.1, v, k.1.2.2.2.2.2.2.2.2.2), k.2)
def kx_number_ (v : Int64) (k : XK) : XK := ((k.1.1, k.1.2.1, k.1.2.2.1, k.1.2.2.2.1, k.1.2.2.2.2.1, k.1.2.2.2.2.2.1, k.1.2.2.2.2.2.2.1, k.1.2.2.2.2.2.2.2.1, k.1.2.2.2.2.2.2.2.2.1, v), k.2)
def kx_textEnd_ (v : Int32) (k : XK) : XK := (k.1, (v, k.2.2.1, k.2.2.2.1, k.2.2.2.2.1, k.2.2.2.2.2.1, k.2.2.2.2.2.2.1, k.2.2.2.2.2.2.2))
def kx_rodataBegin_ (v : Int32) (k : XK) : XK := (k.1, (k.2.1, v, k.2.2.2.1, k.2.2.2.2.1, k.2.2.2.2.2.1, k.2.2.2.2.2.2.1, k.2.2.2.2.2.2.2))
def kx_rodataEnd_ (v : Int32) (k : XK) : XK := (k.1, (k.2.1, k.2.2.1, v, k.2.2.2.2.1, k.2.2.2.2.2.1, k.2.2.2.2.2.2.1, k.2.2.2.2.2.2.2))
def kx_dataBegin_ (v : Int32) (k : XK) : XK := (k.1, (k.2.1, k.2.2.1, k.2.2.2.1, v, k.2.2.2.2.2.1, k.2.2.2.2.2.2.1, k.2.2.2.2.2.2.2))
def kx_dataEnd_ (v : Int32) (k : XK) : XK := (k.1, (k.2.1, k.2.2.1, k.2.2.2.1, k.2.2.2.2.1, v, k.2.2.2.2.2.2.1, k.2.2.2.2.2.2.2))
def kx_heap_ (v : Int64) (k : XK) : XK := (k.1, (k.2.1, k.2.2.1, k.2.2.2.1, k.2.2.2.2.1, k.2.2.2.2.2.1, v, k.2.2.2.2.2.2.2))
def kx_broken_ (v : Int64) (k : XK) : XK := (k.1, (k.2.1, k.2.2.1, k.2.2.2.1, k.2.2.2.2.1, k.2.2.2.2.2.1, k.2.2.2.2.2.2.1, v))
abbrev XD : Type := ((Nat → Int32) × (Nat → Int32) × (Nat → Int64)) × (Int64 × Int64 × Int64 × Int32 × Int32 × Int32) × ((Nat → Int32) × Int32 × (Nat → Int32) × Int32)
def dx_image (k : XD) : (Nat → Int32) := k.1.1
def dx_bytes (k : XD) : (Nat → Int32) := k.1.2.1
def dx_r (k : XD) : (Nat → Int64) := k.1.2.2
def dx_ip (k : XD) : Int64 := k.2.1.1
def dx_next (k : XD) : Int64 := k.2.1.2.1
def dx_stopValue (k : XD) : Int64 := k.2.1.2.2.1
def dx_flags (k : XD) : Int32 := k.2.1.2.2.2.1
def dx_stop (k : XD) : Int32 := k.2.1.2.2.2.2.1
def dx_done (k : XD) : Int32 := k.2.1.2.2.2.2.2
def dx_inB (k : XD) : (Nat → Int32) := k.2.2.1
def dx_inN (k : XD) : Int32 := k.2.2.2.1
def dx_outB (k : XD) : (Nat → Int32) := k.2.2.2.2.1
def dx_outN (k : XD) : Int32 := k.2.2.2.2.2
def dx_image_ (v : (Nat → Int32)) (k : XD) : XD := ((v, k.1.2.1, k.1.2.2), k.2.1, k.2.2)
def dx_bytes_ (v : (Nat → Int32)) (k : XD) : XD := ((k.1.1, v, k.1.2.2), k.2.1, k.2.2)
def dx_r_ (v : (Nat → Int64)) (k : XD) : XD := ((k.1.1, k.1.2.1, v), k.2.1, k.2.2)
def dx_ip_ (v : Int64) (k : XD) : XD := (k.1, (v, k.2.1.2.1, k.2.1.2.2.1, k.2.1.2.2.2.1, k.2.1.2.2.2.2.1, k.2.1.2.2.2.2.2), k.2.2)
def dx_next_ (v : Int64) (k : XD) : XD := (k.1, (k.2.1.1, v, k.2.1.2.2.1, k.2.1.2.2.2.1, k.2.1.2.2.2.2.1, k.2.1.2.2.2.2.2), k.2.2)
def dx_stopValue_ (v : Int64) (k : XD) : XD := (k.1, (k.2.1.1, k.2.1.2.1, v, k.2.1.2.2.2.1, k.2.1.2.2.2.2.1, k.2.1.2.2.2.2.2), k.2.2)
def dx_flags_ (v : Int32) (k : XD) : XD := (k.1, (k.2.1.1, k.2.1.2.1, k.2.1.2.2.1, v, k.2.1.2.2.2.2.1, k.2.1.2.2.2.2.2), k.2.2)
def dx_stop_ (v : Int32) (k : XD) : XD := (k.1, (k.2.1.1, k.2.1.2.1, k.2.1.2.2.1, k.2.1.2.2.2.1, v, k.2.1.2.2.2.2.2), k.2.2)
def dx_done_ (v : Int32) (k : XD) : XD := (k.1, (k.2.1.1, k.2.1.2.1, k.2.1.2.2.1, k.2.1.2.2.2.1, k.2.1.2.2.2.2.1, v), k.2.2)
def dx_inB_ (v : (Nat → Int32)) (k : XD) : XD := (k.1, k.2.1, (v, k.2.2.2.1, k.2.2.2.2.1, k.2.2.2.2.2))
def dx_inN_ (v : Int32) (k : XD) : XD := (k.1, k.2.1, (k.2.2.1, v, k.2.2.2.2.1, k.2.2.2.2.2))
def dx_outB_ (v : (Nat → Int32)) (k : XD) : XD := (k.1, k.2.1, (k.2.2.1, k.2.2.2.1, v, k.2.2.2.2.2))
def dx_outN_ (v : Int32) (k : XD) : XD := (k.1, k.2.1, (k.2.2.1, k.2.2.2.1, k.2.2.2.2.1, v))
def XW (ad : Nat → Nat) (ca : Nat → ClassId) (K : XK) (d : XD) : va_W := [(ad 0, .inr (0, [.ref (ad 1), .ref (ad 2), .ref (ad 4)])), (ad 1, .inl (ca 0, 262144, .inl (dx_image d))), (ad 2, .inr (1, [.ref (ad 3), .int 262144, .int 327680, .int (kx_textEnd K), .int (kx_rodataBegin K), .int (kx_rodataEnd K), .int (kx_dataBegin K), .int (kx_dataEnd K), .long (kx_heap K), .long (kx_broken K)])), (ad 3, .inl (ca 1, 393216, .inl (dx_bytes d))), (ad 4, .inr (2, [.ref (ad 2), .ref (ad 5), .ref (ad 7), .ref (ad 9), .ref (ad 12), .long (dx_ip d), .long (dx_next d), .long (dx_stopValue d), .int (dx_flags d), .int (dx_stop d), .int (dx_done d)])), (ad 5, .inr (3, [.ref (ad 6), .int (dx_inN d)])), (ad 6, .inl (ca 2, 65536, .inl (dx_inB d))), (ad 7, .inr (3, [.ref (ad 8), .int (dx_outN d)])), (ad 8, .inl (ca 3, 65536, .inl (dx_outB d))), (ad 9, .inr (4, [.int (kx_op K), .int (kx_size K), .int (kx_cond K), .ref (ad 10), .ref (ad 11), .int (kx_base K), .int (kx_index K), .int (kx_scale K), .int (kx_disp K), .long (kx_number K)])), (ad 10, .inl (ca 4, 3, .inl (kx_kinds K))), (ad 11, .inl (ca 5, 3, .inl (kx_regs K))), (ad 12, .inl (ca 6, 16, .inr (.inl (dx_r d))))]
def xtys (ca : Nat → ClassId) : List (ClassId × FieldType) := [(ca 0, .byte), (ca 1, .byte), (ca 2, .byte), (ca 3, .byte), (ca 4, .int), (ca 5, .int), (ca 6, .long)]
abbrev xB (D : va_G) (ad : Nat → Nat) (ca : Nat → ClassId) (K : XK) (d : XD) : Heap → Prop := va_P D xcl (XW ad ca K d)
def xA (ad : Nat → Nat) : Nat → Prop := fun q => ∃ k : Nat, k < 13 ∧ q = ad k
def xInj (ad : Nat → Nat) : Prop := ∀ i j : Nat, i < 13 → j < 13 → ad i = ad j → i = j
theorem xW_at {ad : Nat → Nat} {ca : Nat → ClassId} {K : XK} {d : XD} (k : Nat) (q : Nat × va_E) (h : (XW ad ca K d)[k]? = some q) : k < 13 ∧ q.1 = ad k := by
  match k, h with
  | 0, h => cases h; exact ⟨by decide, rfl⟩
  | 1, h => cases h; exact ⟨by decide, rfl⟩
  | 2, h => cases h; exact ⟨by decide, rfl⟩
  | 3, h => cases h; exact ⟨by decide, rfl⟩
  | 4, h => cases h; exact ⟨by decide, rfl⟩
  | 5, h => cases h; exact ⟨by decide, rfl⟩
  | 6, h => cases h; exact ⟨by decide, rfl⟩
  | 7, h => cases h; exact ⟨by decide, rfl⟩
  | 8, h => cases h; exact ⟨by decide, rfl⟩
  | 9, h => cases h; exact ⟨by decide, rfl⟩
  | 10, h => cases h; exact ⟨by decide, rfl⟩
  | 11, h => cases h; exact ⟨by decide, rfl⟩
  | 12, h => cases h; exact ⟨by decide, rfl⟩
  | k + 13, h => simp [XW] at h
theorem xD {ad : Nat → Nat} {ca : Nat → ClassId} {K : XK} {d : XD} (hI : xInj ad) : va_D (xA ad) (XW ad ca K d) := by
  refine ⟨fun i j p q hi hj h => ?_, fun k q hk => ?_⟩
  · obtain ⟨a1, a2⟩ := xW_at i p hi
    obtain ⟨b1, b2⟩ := xW_at j q hj
    exact hI i j a1 b1 (by rw [← a2, ← b2]; exact h)
  · obtain ⟨a1, a2⟩ := xW_at k q hk
    exact ⟨k, a1, a2⟩
abbrev MK : Type := (Int32 × Int32 × Int32 × (Nat → Int32) × (Nat → Int32) × Int32 × Int32 × Int32 × Int32 × Int64) × (Int32 × Int32 × Int32 × Int32 × Int32 × Int32 × Int32)
def km_op (k : MK) : Int32 := k.1.1
def km_width (k : MK) : Int32 := k.1.2.1
def km_condition (k : MK) : Int32 := k.1.2.2.1
def km_kinds (k : MK) : (Nat → Int32) := k.1.2.2.2.1
def km_places (k : MK) : (Nat → Int32) := k.1.2.2.2.2.1
def km_base (k : MK) : Int32 := k.1.2.2.2.2.2.1
def km_index (k : MK) : Int32 := k.1.2.2.2.2.2.2.1
def km_scale (k : MK) : Int32 := k.1.2.2.2.2.2.2.2.1
def km_displacement (k : MK) : Int32 := k.1.2.2.2.2.2.2.2.2.1
def km_number (k : MK) : Int64 := k.1.2.2.2.2.2.2.2.2.2
def km_fin (k : MK) : Int32 := k.2.1
def km_textEnd (k : MK) : Int32 := k.2.2.1
def km_rodataBegin (k : MK) : Int32 := k.2.2.2.1
def km_rodataEnd (k : MK) : Int32 := k.2.2.2.2.1
def km_dataBegin (k : MK) : Int32 := k.2.2.2.2.2.1
def km_dataEnd (k : MK) : Int32 := k.2.2.2.2.2.2.1
def km_heapSize (k : MK) : Int32 := k.2.2.2.2.2.2.2
def km_op_ (v : Int32) (k : MK) : MK := ((v, k.1.2.1, k.1.2.2.1, k.1.2.2.2.1, k.1.2.2.2.2.1, k.1.2.2.2.2.2.1, k.1.2.2.2.2.2.2.1, k.1.2.2.2.2.2.2.2.1, k.1.2.2.2.2.2.2.2.2.1, k.1.2.2.2.2.2.2.2.2.2), k.2)
def km_width_ (v : Int32) (k : MK) : MK := ((k.1.1, v, k.1.2.2.1, k.1.2.2.2.1, k.1.2.2.2.2.1, k.1.2.2.2.2.2.1, k.1.2.2.2.2.2.2.1, k.1.2.2.2.2.2.2.2.1, k.1.2.2.2.2.2.2.2.2.1, k.1.2.2.2.2.2.2.2.2.2), k.2)
def km_condition_ (v : Int32) (k : MK) : MK := ((k.1.1, k.1.2.1, v, k.1.2.2.2.1, k.1.2.2.2.2.1, k.1.2.2.2.2.2.1, k.1.2.2.2.2.2.2.1, k.1.2.2.2.2.2.2.2.1, k.1.2.2.2.2.2.2.2.2.1, k.1.2.2.2.2.2.2.2.2.2), k.2)
def km_kinds_ (v : (Nat → Int32)) (k : MK) : MK := ((k.1.1, k.1.2.1, k.1.2.2.1, v, k.1.2.2.2.2.1, k.1.2.2.2.2.2.1, k.1.2.2.2.2.2.2.1, k.1.2.2.2.2.2.2.2.1, k.1.2.2.2.2.2.2.2.2.1, k.1.2.2.2.2.2.2.2.2.2), k.2)
def km_places_ (v : (Nat → Int32)) (k : MK) : MK := ((k.1.1, k.1.2.1, k.1.2.2.1, k.1.2.2.2.1, v, k.1.2.2.2.2.2.1, k.1.2.2.2.2.2.2.1, k.1.2.2.2.2.2.2.2.1, k.1.2.2.2.2.2.2.2.2.1, k.1.2.2.2.2.2.2.2.2.2), k.2)
def km_base_ (v : Int32) (k : MK) : MK := ((k.1.1, k.1.2.1, k.1.2.2.1, k.1.2.2.2.1, k.1.2.2.2.2.1, v, k.1.2.2.2.2.2.2.1, k.1.2.2.2.2.2.2.2.1, k.1.2.2.2.2.2.2.2.2.1, k.1.2.2.2.2.2.2.2.2.2), k.2)
def km_index_ (v : Int32) (k : MK) : MK := ((k.1.1, k.1.2.1, k.1.2.2.1, k.1.2.2.2.1, k.1.2.2.2.2.1, k.1.2.2.2.2.2.1, v, k.1.2.2.2.2.2.2.2.1, k.1.2.2.2.2.2.2.2.2.1, k.1.2.2.2.2.2.2.2.2.2), k.2)
def km_scale_ (v : Int32) (k : MK) : MK := ((k.1.1, k.1.2.1, k.1.2.2.1, k.1.2.2.2.1, k.1.2.2.2.2.1, k.1.2.2.2.2.2.1, k.1.2.2.2.2.2.2.1, v, k.1.2.2.2.2.2.2.2.2.1, k.1.2.2.2.2.2.2.2.2.2), k.2)
def km_displacement_ (v : Int32) (k : MK) : MK := ((k.1.1, k.1.2.1, k.1.2.2.1, k.1.2.2.2.1, k.1.2.2.2.2.1, k.1.2.2.2.2.2.1, k.1.2.2.2.2.2.2.1, k.1.2.2.2.2.2.2.2.1, v, k.1.2.2.2.2.2.2.2.2.2), k.2)
def km_number_ (v : Int64) (k : MK) : MK := ((k.1.1, k.1.2.1, k.1.2.2.1, k.1.2.2.2.1, k.1.2.2.2.2.1, k.1.2.2.2.2.2.1, k.1.2.2.2.2.2.2.1, k.1.2.2.2.2.2.2.2.1, k.1.2.2.2.2.2.2.2.2.1, v), k.2)
def km_fin_ (v : Int32) (k : MK) : MK := (k.1, (v, k.2.2.1, k.2.2.2.1, k.2.2.2.2.1, k.2.2.2.2.2.1, k.2.2.2.2.2.2.1, k.2.2.2.2.2.2.2))
def km_textEnd_ (v : Int32) (k : MK) : MK := (k.1, (k.2.1, v, k.2.2.2.1, k.2.2.2.2.1, k.2.2.2.2.2.1, k.2.2.2.2.2.2.1, k.2.2.2.2.2.2.2))
def km_rodataBegin_ (v : Int32) (k : MK) : MK := (k.1, (k.2.1, k.2.2.1, v, k.2.2.2.2.1, k.2.2.2.2.2.1, k.2.2.2.2.2.2.1, k.2.2.2.2.2.2.2))
def km_rodataEnd_ (v : Int32) (k : MK) : MK := (k.1, (k.2.1, k.2.2.1, k.2.2.2.1, v, k.2.2.2.2.2.1, k.2.2.2.2.2.2.1, k.2.2.2.2.2.2.2))
def km_dataBegin_ (v : Int32) (k : MK) : MK := (k.1, (k.2.1, k.2.2.1, k.2.2.2.1, k.2.2.2.2.1, v, k.2.2.2.2.2.2.1, k.2.2.2.2.2.2.2))
def km_dataEnd_ (v : Int32) (k : MK) : MK := (k.1, (k.2.1, k.2.2.1, k.2.2.2.1, k.2.2.2.2.1, k.2.2.2.2.2.1, v, k.2.2.2.2.2.2.2))
def km_heapSize_ (v : Int32) (k : MK) : MK := (k.1, (k.2.1, k.2.2.1, k.2.2.2.1, k.2.2.2.2.1, k.2.2.2.2.2.1, k.2.2.2.2.2.2.1, v))
abbrev MD : Type := ((Nat → Int32) × (Nat → Int32) × (Nat → Int32) × (Nat → Int32) × (Nat → Int32) × (Nat → Int32)) × ((Nat → Int64) × (Nat → Int64)) × (Int64 × Int64 × Int64 × Int64 × Int64) × (Bool × Bool × Bool × Bool × Bool) × (Int32 × Int32 × Int32 × Int32 × Int32 × Int32)
def dm_filled (k : MD) : (Nat → Int32) := k.1.1
def dm_memory (k : MD) : (Nat → Int32) := k.1.2.1
def dm_heap (k : MD) : (Nat → Int32) := k.1.2.2.1
def dm_stack (k : MD) : (Nat → Int32) := k.1.2.2.2.1
def dm_given (k : MD) : (Nat → Int32) := k.1.2.2.2.2.1
def dm_shown (k : MD) : (Nat → Int32) := k.1.2.2.2.2.2
def dm_regs (k : MD) : (Nat → Int64) := k.2.1.1
def dm_kept (k : MD) : (Nat → Int64) := k.2.1.2
def dm_ip (k : MD) : Int64 := k.2.2.1.1
def dm_stopValue (k : MD) : Int64 := k.2.2.1.2.1
def dm_stepsDone (k : MD) : Int64 := k.2.2.1.2.2.1
def dm_haltValue (k : MD) : Int64 := k.2.2.1.2.2.2.1
def dm_operandAt (k : MD) : Int64 := k.2.2.1.2.2.2.2
def dm_carry (k : MD) : Bool := k.2.2.2.1.1
def dm_parity (k : MD) : Bool := k.2.2.2.1.2.1
def dm_zero (k : MD) : Bool := k.2.2.2.1.2.2.1
def dm_negative (k : MD) : Bool := k.2.2.2.1.2.2.2.1
def dm_over (k : MD) : Bool := k.2.2.2.1.2.2.2.2
def dm_thrown (k : MD) : Int32 := k.2.2.2.2.1
def dm_givenSize (k : MD) : Int32 := k.2.2.2.2.2.1
def dm_shownSize (k : MD) : Int32 := k.2.2.2.2.2.2.1
def dm_stopKind (k : MD) : Int32 := k.2.2.2.2.2.2.2.1
def dm_halt (k : MD) : Int32 := k.2.2.2.2.2.2.2.2.1
def dm_length (k : MD) : Int32 := k.2.2.2.2.2.2.2.2.2
def dm_filled_ (v : (Nat → Int32)) (k : MD) : MD := ((v, k.1.2.1, k.1.2.2.1, k.1.2.2.2.1, k.1.2.2.2.2.1, k.1.2.2.2.2.2), k.2.1, k.2.2.1, k.2.2.2.1, k.2.2.2.2)
def dm_memory_ (v : (Nat → Int32)) (k : MD) : MD := ((k.1.1, v, k.1.2.2.1, k.1.2.2.2.1, k.1.2.2.2.2.1, k.1.2.2.2.2.2), k.2.1, k.2.2.1, k.2.2.2.1, k.2.2.2.2)
def dm_heap_ (v : (Nat → Int32)) (k : MD) : MD := ((k.1.1, k.1.2.1, v, k.1.2.2.2.1, k.1.2.2.2.2.1, k.1.2.2.2.2.2), k.2.1, k.2.2.1, k.2.2.2.1, k.2.2.2.2)
def dm_stack_ (v : (Nat → Int32)) (k : MD) : MD := ((k.1.1, k.1.2.1, k.1.2.2.1, v, k.1.2.2.2.2.1, k.1.2.2.2.2.2), k.2.1, k.2.2.1, k.2.2.2.1, k.2.2.2.2)
def dm_given_ (v : (Nat → Int32)) (k : MD) : MD := ((k.1.1, k.1.2.1, k.1.2.2.1, k.1.2.2.2.1, v, k.1.2.2.2.2.2), k.2.1, k.2.2.1, k.2.2.2.1, k.2.2.2.2)
def dm_shown_ (v : (Nat → Int32)) (k : MD) : MD := ((k.1.1, k.1.2.1, k.1.2.2.1, k.1.2.2.2.1, k.1.2.2.2.2.1, v), k.2.1, k.2.2.1, k.2.2.2.1, k.2.2.2.2)
def dm_regs_ (v : (Nat → Int64)) (k : MD) : MD := (k.1, (v, k.2.1.2), k.2.2.1, k.2.2.2.1, k.2.2.2.2)
def dm_kept_ (v : (Nat → Int64)) (k : MD) : MD := (k.1, (k.2.1.1, v), k.2.2.1, k.2.2.2.1, k.2.2.2.2)
def dm_ip_ (v : Int64) (k : MD) : MD := (k.1, k.2.1, (v, k.2.2.1.2.1, k.2.2.1.2.2.1, k.2.2.1.2.2.2.1, k.2.2.1.2.2.2.2), k.2.2.2.1, k.2.2.2.2)
def dm_stopValue_ (v : Int64) (k : MD) : MD := (k.1, k.2.1, (k.2.2.1.1, v, k.2.2.1.2.2.1, k.2.2.1.2.2.2.1, k.2.2.1.2.2.2.2), k.2.2.2.1, k.2.2.2.2)
def dm_stepsDone_ (v : Int64) (k : MD) : MD := (k.1, k.2.1, (k.2.2.1.1, k.2.2.1.2.1, v, k.2.2.1.2.2.2.1, k.2.2.1.2.2.2.2), k.2.2.2.1, k.2.2.2.2)
def dm_haltValue_ (v : Int64) (k : MD) : MD := (k.1, k.2.1, (k.2.2.1.1, k.2.2.1.2.1, k.2.2.1.2.2.1, v, k.2.2.1.2.2.2.2), k.2.2.2.1, k.2.2.2.2)
def dm_operandAt_ (v : Int64) (k : MD) : MD := (k.1, k.2.1, (k.2.2.1.1, k.2.2.1.2.1, k.2.2.1.2.2.1, k.2.2.1.2.2.2.1, v), k.2.2.2.1, k.2.2.2.2)
def dm_carry_ (v : Bool) (k : MD) : MD := (k.1, k.2.1, k.2.2.1, (v, k.2.2.2.1.2.1, k.2.2.2.1.2.2.1, k.2.2.2.1.2.2.2.1, k.2.2.2.1.2.2.2.2), k.2.2.2.2)
def dm_parity_ (v : Bool) (k : MD) : MD := (k.1, k.2.1, k.2.2.1, (k.2.2.2.1.1, v, k.2.2.2.1.2.2.1, k.2.2.2.1.2.2.2.1, k.2.2.2.1.2.2.2.2), k.2.2.2.2)
def dm_zero_ (v : Bool) (k : MD) : MD := (k.1, k.2.1, k.2.2.1, (k.2.2.2.1.1, k.2.2.2.1.2.1, v, k.2.2.2.1.2.2.2.1, k.2.2.2.1.2.2.2.2), k.2.2.2.2)
def dm_negative_ (v : Bool) (k : MD) : MD := (k.1, k.2.1, k.2.2.1, (k.2.2.2.1.1, k.2.2.2.1.2.1, k.2.2.2.1.2.2.1, v, k.2.2.2.1.2.2.2.2), k.2.2.2.2)
def dm_over_ (v : Bool) (k : MD) : MD := (k.1, k.2.1, k.2.2.1, (k.2.2.2.1.1, k.2.2.2.1.2.1, k.2.2.2.1.2.2.1, k.2.2.2.1.2.2.2.1, v), k.2.2.2.2)
def dm_thrown_ (v : Int32) (k : MD) : MD := (k.1, k.2.1, k.2.2.1, k.2.2.2.1, (v, k.2.2.2.2.2.1, k.2.2.2.2.2.2.1, k.2.2.2.2.2.2.2.1, k.2.2.2.2.2.2.2.2.1, k.2.2.2.2.2.2.2.2.2))
def dm_givenSize_ (v : Int32) (k : MD) : MD := (k.1, k.2.1, k.2.2.1, k.2.2.2.1, (k.2.2.2.2.1, v, k.2.2.2.2.2.2.1, k.2.2.2.2.2.2.2.1, k.2.2.2.2.2.2.2.2.1, k.2.2.2.2.2.2.2.2.2))
def dm_shownSize_ (v : Int32) (k : MD) : MD := (k.1, k.2.1, k.2.2.1, k.2.2.2.1, (k.2.2.2.2.1, k.2.2.2.2.2.1, v, k.2.2.2.2.2.2.2.1, k.2.2.2.2.2.2.2.2.1, k.2.2.2.2.2.2.2.2.2))
def dm_stopKind_ (v : Int32) (k : MD) : MD := (k.1, k.2.1, k.2.2.1, k.2.2.2.1, (k.2.2.2.2.1, k.2.2.2.2.2.1, k.2.2.2.2.2.2.1, v, k.2.2.2.2.2.2.2.2.1, k.2.2.2.2.2.2.2.2.2))
def dm_halt_ (v : Int32) (k : MD) : MD := (k.1, k.2.1, k.2.2.1, k.2.2.2.1, (k.2.2.2.2.1, k.2.2.2.2.2.1, k.2.2.2.2.2.2.1, k.2.2.2.2.2.2.2.1, v, k.2.2.2.2.2.2.2.2.2))
def dm_length_ (v : Int32) (k : MD) : MD := (k.1, k.2.1, k.2.2.1, k.2.2.2.1, (k.2.2.2.2.1, k.2.2.2.2.2.1, k.2.2.2.2.2.2.1, k.2.2.2.2.2.2.2.1, k.2.2.2.2.2.2.2.2.1, v))
def MW (ad : Nat → Nat) (ca : Nat → ClassId) (K : MK) (d : MD) : va_W := [(ad 0, .inr (5, [.int (dm_thrown d), .ref (ad 1), .ref (ad 2), .ref (ad 3), .ref (ad 4), .ref (ad 5), .ref (ad 6), .int (km_fin K), .int (km_textEnd K), .int (km_rodataBegin K), .int (km_rodataEnd K), .int (km_dataBegin K), .int (km_dataEnd K), .int (km_heapSize K), .int (dm_givenSize d), .int (dm_shownSize d), .ref (ad 7), .ref (ad 8), .long (dm_ip d), .long (dm_stopValue d), .long (dm_stepsDone d), .int (b2i (dm_carry d)), .int (b2i (dm_parity d)), .int (b2i (dm_zero d)), .int (b2i (dm_negative d)), .int (b2i (dm_over d)), .int (dm_stopKind d), .int (dm_halt d), .long (dm_haltValue d), .long (dm_operandAt d), .int (km_op K), .int (km_width K), .int (km_condition K), .int (km_base K), .int (km_index K), .int (km_scale K), .int (km_displacement K), .int (dm_length d), .long (km_number K), .ref (ad 9), .ref (ad 10)])), (ad 1, .inl (ca 0, 262144, .inl (dm_filled d))), (ad 2, .inl (ca 1, 262144, .inl (dm_memory d))), (ad 3, .inl (ca 2, 65536, .inl (dm_heap d))), (ad 4, .inl (ca 3, 65536, .inl (dm_stack d))), (ad 5, .inl (ca 4, 65536, .inl (dm_given d))), (ad 6, .inl (ca 5, 65536, .inl (dm_shown d))), (ad 7, .inl (ca 6, 16, .inr (.inl (dm_regs d)))), (ad 8, .inl (ca 7, 16, .inr (.inl (dm_kept d)))), (ad 9, .inl (ca 8, 3, .inl (km_kinds K))), (ad 10, .inl (ca 9, 3, .inl (km_places K)))]
def mtys (ca : Nat → ClassId) : List (ClassId × FieldType) := [(ca 0, .byte), (ca 1, .byte), (ca 2, .byte), (ca 3, .byte), (ca 4, .byte), (ca 5, .byte), (ca 6, .long), (ca 7, .long), (ca 8, .int), (ca 9, .int)]
abbrev mB (D : va_G) (ad : Nat → Nat) (ca : Nat → ClassId) (K : MK) (d : MD) : Heap → Prop := va_P D xcl (MW ad ca K d)
def mA (ad : Nat → Nat) : Nat → Prop := fun q => ∃ k : Nat, k < 11 ∧ q = ad k
def mInj (ad : Nat → Nat) : Prop := ∀ i j : Nat, i < 11 → j < 11 → ad i = ad j → i = j
theorem mW_at {ad : Nat → Nat} {ca : Nat → ClassId} {K : MK} {d : MD} (k : Nat) (q : Nat × va_E) (h : (MW ad ca K d)[k]? = some q) : k < 11 ∧ q.1 = ad k := by
  match k, h with
  | 0, h => cases h; exact ⟨by decide, rfl⟩
  | 1, h => cases h; exact ⟨by decide, rfl⟩
  | 2, h => cases h; exact ⟨by decide, rfl⟩
  | 3, h => cases h; exact ⟨by decide, rfl⟩
  | 4, h => cases h; exact ⟨by decide, rfl⟩
  | 5, h => cases h; exact ⟨by decide, rfl⟩
  | 6, h => cases h; exact ⟨by decide, rfl⟩
  | 7, h => cases h; exact ⟨by decide, rfl⟩
  | 8, h => cases h; exact ⟨by decide, rfl⟩
  | 9, h => cases h; exact ⟨by decide, rfl⟩
  | 10, h => cases h; exact ⟨by decide, rfl⟩
  | k + 11, h => simp [MW] at h
theorem mD {ad : Nat → Nat} {ca : Nat → ClassId} {K : MK} {d : MD} (hI : mInj ad) : va_D (mA ad) (MW ad ca K d) := by
  refine ⟨fun i j p q hi hj h => ?_, fun k q hk => ?_⟩
  · obtain ⟨a1, a2⟩ := mW_at i p hi
    obtain ⟨b1, b2⟩ := mW_at j q hj
    exact hI i j a1 b1 (by rw [← a2, ← b2]; exact h)
  · obtain ⟨a1, a2⟩ := mW_at k q hk
    exact ⟨k, a1, a2⟩
def xKp (D : va_G) (ca : Nat → ClassId) : State → Prop := fun U => va_K D xcl (xtys ca) U ∧ xN U
theorem xKst {D : va_G} {ca : Nat → ClassId} : g_Kst (xKp D ca) := ⟨fun u U h q => ⟨va_K.moved (by rw [h]; exact Vm.Alike.refl _) q.1, fun w hw => va_Nw.same rfl h (q.2 w hw)⟩, fun s U hW q => ⟨va_K.moved hW.alike q.1, fun w hw => (q.2 w hw).warmF hW⟩⟩
def mKp (D : va_G) (ca : Nat → ClassId) : State → Prop := fun U => va_K D xcl (mtys ca) U
theorem mKst {D : va_G} {ca : Nat → ClassId} : g_Kst (mKp D ca) := ⟨fun u U h q => va_K.moved (by rw [h]; exact Vm.Alike.refl _) q, fun s U hW q => va_K.moved hW.alike q⟩
def iushr_ (x y : Int32) : Int32 := (x.toUInt32 >>> (y.toUInt32 &&& Int32.toUInt32 31)).toInt32
def lushr_ (x : Int64) (y : Int32) : Int64 := (x.toUInt64 >>> (y.toInt64.toUInt64 &&& Int64.toUInt64 63)).toInt64
def lshl_ (x : Int64) (y : Int32) : Int64 := x <<< (y.toInt64 &&& 63)
def lshr_ (x : Int64) (y : Int32) : Int64 := x >>> (y.toInt64 &&& 63)
