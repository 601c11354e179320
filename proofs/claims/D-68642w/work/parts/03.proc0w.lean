set_option maxRecDepth 100000
/-! FlagMachine$Processor -/
def RX2 : String := "FlagMachine$Processor"
def TX2 : u_T := fun k => match k with
  | 0 => ("FlagMachine$Processor", "memory", "LFlagMachine$Memory;", true)
  | 1 => ("FlagMachine$Processor", "input", "LFlagMachine$Stream;", true)
  | 2 => ("FlagMachine$Processor", "output", "LFlagMachine$Stream;", true)
  | 3 => ("FlagMachine$Processor", "i", "LFlagMachine$Instruction;", true)
  | 4 => ("FlagMachine$Processor", "\x72", "[J", true)
  | 5 => ("FlagMachine$Processor", "ip", "J", false)
  | 6 => ("FlagMachine$Processor", "next", "J", false)
  | 7 => ("FlagMachine$Processor", "stopValue", "J", false)
  | 8 => ("FlagMachine$Processor", "flags", "I", false)
  | 9 => ("FlagMachine$Processor", "stop", "I", false)
  | _ => ("FlagMachine$Processor", "done", "I", false)
def tyX2 : Nat → FieldType := fun k => match k with
  | 0 => .object "FlagMachine$Memory"
  | 1 => .object "FlagMachine$Stream"
  | 2 => .object "FlagMachine$Stream"
  | 3 => .object "FlagMachine$Instruction"
  | 4 => .array .long
  | 5 => .long
  | 6 => .long
  | 7 => .long
  | 8 => .int
  | 9 => .int
  | _ => .int
abbrev wsX20 : List Cond := u_ws RX2 TX2 11
theorem nmX2 : ∀ a, a < 11 → ∀ b, b < 11 → a ≠ b → (TX2 a).2.1 ≠ (TX2 b).2.1 := by decide +kernel
theorem tyX2_ok : ∀ k, k < 11 → parseFieldDescriptor (TX2 k).2.2.1 = some (tyX2 k) := by decide +kernel
abbrev cX2_init : ByteArray := prog_4_method_1_code
def yX2_init : MethodName := ⟨RX2, "<init>", "(LFlagMachine$Memory;)V"⟩
abbrev cX2_load : ByteArray := prog_4_method_2_code
def yX2_load : MethodName := ⟨RX2, "load", "(J)V"⟩
abbrev cX2_step : ByteArray := prog_4_method_21_code
def yX2_step : MethodName := ⟨RX2, "step", "(I)Z"⟩
abbrev cX2_perform : ByteArray := prog_4_method_22_code
def yX2_perform : MethodName := ⟨RX2, "perform", "()V"⟩
abbrev cX2_arithmetic : ByteArray := prog_4_method_23_code
def yX2_arithmetic : MethodName := ⟨RX2, "arithmetic", "(II)V"⟩
abbrev cX2_get : ByteArray := prog_4_method_9_code
def yX2_get : MethodName := ⟨RX2, "get", "(II)J"⟩
abbrev cX2_address : ByteArray := prog_4_method_6_code
def yX2_address : MethodName := ⟨RX2, "address", "()J"⟩
abbrev cX2_fetch : ByteArray := prog_4_method_7_code
def yX2_fetch : MethodName := ⟨RX2, "fetch", "(JI)J"⟩
abbrev cX2_fail : ByteArray := prog_4_method_3_code
def yX2_fail : MethodName := ⟨RX2, "fail", "(IJ)V"⟩
abbrev cX2_cut : ByteArray := prog_4_method_4_code
def yX2_cut : MethodName := ⟨RX2, "cut", "(JI)J"⟩
abbrev cX2_is : ByteArray := prog_4_method_13_code
def yX2_is : MethodName := ⟨RX2, "is", "(I)Z"⟩
abbrev cX2_sum : ByteArray := prog_4_method_17_code
def yX2_sum : MethodName := ⟨RX2, "sum", "(JJZI)J"⟩
abbrev cX2_bit : ByteArray := prog_4_method_15_code
def yX2_bit : MethodName := ⟨RX2, "bit", "(JI)Z"⟩
abbrev cX2_mark : ByteArray := prog_4_method_12_code
def yX2_mark : MethodName := ⟨RX2, "mark", "(IZ)V"⟩
abbrev cX2_follow : ByteArray := prog_4_method_16_code
def yX2_follow : MethodName := ⟨RX2, "follow", "(JI)V"⟩
abbrev cX2_isNegative : ByteArray := prog_4_method_14_code
def yX2_isNegative : MethodName := ⟨RX2, "isNegative", "(JI)Z"⟩
abbrev cX2_signed : ByteArray := prog_4_method_5_code
def yX2_signed : MethodName := ⟨RX2, "signed", "(JI)J"⟩
abbrev cX2_difference : ByteArray := prog_4_method_18_code
def yX2_difference : MethodName := ⟨RX2, "difference", "(JJZI)J"⟩
abbrev cX2_logic : ByteArray := prog_4_method_19_code
def yX2_logic : MethodName := ⟨RX2, "logic", "(IJJI)J"⟩
abbrev cX2_put : ByteArray := prog_4_method_11_code
def yX2_put : MethodName := ⟨RX2, "put", "(IIJ)V"⟩
abbrev cX2_store : ByteArray := prog_4_method_8_code
def yX2_store : MethodName := ⟨RX2, "store", "(JIJ)V"⟩
abbrev cX2_setRegister : ByteArray := prog_4_method_10_code
def yX2_setRegister : MethodName := ⟨RX2, "setRegister", "(IIJ)V"⟩
abbrev cX2_middle : ByteArray := prog_4_method_24_code
def yX2_middle : MethodName := ⟨RX2, "middle", "(II)V"⟩
abbrev cX2_product : ByteArray := prog_4_method_27_code
def yX2_product : MethodName := ⟨RX2, "product", "(ZIJ)V"⟩
abbrev cX2_upperSigned : ByteArray := prog_4_method_26_code
def yX2_upperSigned : MethodName := ⟨RX2, "upperSigned", "(JJ)J"⟩
abbrev cX2_upper : ByteArray := prog_4_method_25_code
def yX2_upper : MethodName := ⟨RX2, "upper", "(JJ)J"⟩
abbrev cX2_quotient : ByteArray := prog_4_method_29_code
def yX2_quotient : MethodName := ⟨RX2, "quotient", "(ZIJ)V"⟩
abbrev cX2_wide : ByteArray := prog_4_method_31_code
def yX2_wide : MethodName := ⟨RX2, "wide", "(ZJJJ)V"⟩
abbrev cX2_divided : ByteArray := prog_4_method_30_code
def yX2_divided : MethodName := ⟨RX2, "divided", "(IJJ)V"⟩
abbrev cX2_times : ByteArray := prog_4_method_28_code
def yX2_times : MethodName := ⟨RX2, "times", "(I)V"⟩
abbrev cX2_shift : ByteArray := prog_4_method_32_code
def yX2_shift : MethodName := ⟨RX2, "shift", "(IIJI)V"⟩
abbrev cX2_flow : ByteArray := prog_4_method_35_code
def yX2_flow : MethodName := ⟨RX2, "flow", "(II)V"⟩
abbrev cX2_push : ByteArray := prog_4_method_33_code
def yX2_push : MethodName := ⟨RX2, "push", "(J)V"⟩
abbrev cX2_pop : ByteArray := prog_4_method_36_code
def yX2_pop : MethodName := ⟨RX2, "pop", "()V"⟩
abbrev cX2_target : ByteArray := prog_4_method_34_code
def yX2_target : MethodName := ⟨RX2, "target", "()J"⟩
abbrev cX2_holds : ByteArray := prog_4_method_20_code
def yX2_holds : MethodName := ⟨RX2, "holds", "(I)Z"⟩
abbrev cX2_others : ByteArray := prog_4_method_37_code
def yX2_others : MethodName := ⟨RX2, "others", "(II)V"⟩
abbrev cX2_serve : ByteArray := prog_4_method_42_code
def yX2_serve : MethodName := ⟨RX2, "serve", "()V"⟩
abbrev cX2_readInput : ByteArray := prog_4_method_44_code
def yX2_readInput : MethodName := ⟨RX2, "readInput", "()J"⟩
abbrev cX2_all : ByteArray := prog_4_method_43_code
def yX2_all : MethodName := ⟨RX2, "all", "(JJZ)Z"⟩
abbrev cX2_writeOutput : ByteArray := prog_4_method_45_code
def yX2_writeOutput : MethodName := ⟨RX2, "writeOutput", "()J"⟩
abbrev cX2_scan : ByteArray := prog_4_method_40_code
def yX2_scan : MethodName := ⟨RX2, "scan", "(ZIJ)V"⟩
abbrev cX2_exchangeAdd : ByteArray := prog_4_method_38_code
def yX2_exchangeAdd : MethodName := ⟨RX2, "exchangeAdd", "(I)V"⟩
abbrev cX2_compareExchange : ByteArray := prog_4_method_39_code
def yX2_compareExchange : MethodName := ⟨RX2, "compareExchange", "(I)V"⟩
abbrev cX2_string : ByteArray := prog_4_method_41_code
def yX2_string : MethodName := ⟨RX2, "string", "(II)V"⟩
theorem q85 : (Jvm.Cond.initialized "FlagMachine$Processor") ∈ lw_all := lw_g (lw_at lw_m1 3 rfl) rfl
theorem q112 : (Jvm.Cond.fieldLinkNest "FlagMachine$Processor" (298 : Nat) "FlagMachine$Memory" "bytes" "[B" "FlagMachine") ∈ lw_tbl := lw_at lw_m1 30 rfl
theorem q146 : (Jvm.Cond.instantiable "FlagMachine$Processor" (11 : Nat)) ∈ lw_all := lw_g (lw_at lw_m1 64 rfl) rfl
theorem q148 : (Jvm.Cond.instanceMethod ({ cls := "FlagMachine$Processor", name := "<init>", desc := "(LFlagMachine$Memory;)V" } : Jvm.MethodName)) ∈ lw_all := lw_g (lw_at lw_m1 66 rfl) rfl
theorem q149 : (Jvm.Cond.code ({ cls := "FlagMachine$Processor", name := "<init>", desc := "(LFlagMachine$Memory;)V" } : Jvm.MethodName) prog_4_method_1_code (2 : Nat) (Option.none : Option Jvm.ClassFile.FieldType)) ∈ lw_all := lw_g (lw_at lw_m1 67 rfl) rfl
theorem q150 : (Jvm.Cond.methodLink "FlagMachine$Processor" (1 : Nat) ({ cls := "java/lang/Object", name := "<init>", desc := "()V" } : Jvm.MethodName)) ∈ lw_all := lw_g (lw_at lw_m1 68 rfl) rfl
theorem q151 : (Jvm.Cond.classLink "FlagMachine$Processor" (7 : Nat) "FlagMachine$Stream") ∈ lw_all := lw_g (lw_at lw_m1 69 rfl) rfl
theorem q153 : (Jvm.Cond.methodLinkNest "FlagMachine$Processor" (9 : Nat) ({ cls := "FlagMachine$Stream", name := "<init>", desc := "()V" } : Jvm.MethodName) "FlagMachine") ∈ lw_tbl := lw_at lw_m1 71 rfl
theorem q160 : (Jvm.Cond.fieldLinkNest "FlagMachine$Processor" (302 : Nat) "FlagMachine$Stream" "bytes" "[B" "FlagMachine") ∈ lw_tbl := lw_at lw_m1 78 rfl
theorem q162 : (Jvm.Cond.fieldLinkNest "FlagMachine$Processor" (55 : Nat) "FlagMachine$Stream" "size" "I" "FlagMachine") ∈ lw_tbl := lw_at lw_m1 80 rfl
theorem q169 : (Jvm.Cond.classLink "FlagMachine$Processor" (19 : Nat) "FlagMachine$Instruction") ∈ lw_all := lw_g (lw_at lw_m1 87 rfl) rfl
theorem q171 : (Jvm.Cond.methodLinkNest "FlagMachine$Processor" (21 : Nat) ({ cls := "FlagMachine$Instruction", name := "<init>", desc := "()V" } : Jvm.MethodName) "FlagMachine") ∈ lw_tbl := lw_at lw_m1 89 rfl
theorem q177 : (Jvm.Cond.fieldLinkNest "FlagMachine$Processor" (149 : Nat) "FlagMachine$Instruction" "op" "I" "FlagMachine") ∈ lw_tbl := lw_at lw_m1 95 rfl
theorem q180 : (Jvm.Cond.fieldLinkNest "FlagMachine$Processor" (152 : Nat) "FlagMachine$Instruction" "size" "I" "FlagMachine") ∈ lw_tbl := lw_at lw_m1 98 rfl
theorem q183 : (Jvm.Cond.fieldLinkNest "FlagMachine$Processor" (244 : Nat) "FlagMachine$Instruction" "condition" "I" "FlagMachine") ∈ lw_tbl := lw_at lw_m1 101 rfl
theorem q186 : (Jvm.Cond.fieldLinkNest "FlagMachine$Processor" (93 : Nat) "FlagMachine$Instruction" "kinds" "[I" "FlagMachine") ∈ lw_tbl := lw_at lw_m1 104 rfl
theorem q189 : (Jvm.Cond.fieldLinkNest "FlagMachine$Processor" (104 : Nat) "FlagMachine$Instruction" "registers" "[I" "FlagMachine") ∈ lw_tbl := lw_at lw_m1 107 rfl
theorem q191 : (Jvm.Cond.fieldLinkNest "FlagMachine$Processor" (65 : Nat) "FlagMachine$Instruction" "base" "I" "FlagMachine") ∈ lw_tbl := lw_at lw_m1 109 rfl
theorem q194 : (Jvm.Cond.fieldLinkNest "FlagMachine$Processor" (71 : Nat) "FlagMachine$Instruction" "index" "I" "FlagMachine") ∈ lw_tbl := lw_at lw_m1 112 rfl
theorem q197 : (Jvm.Cond.fieldLinkNest "FlagMachine$Processor" (74 : Nat) "FlagMachine$Instruction" "scale" "I" "FlagMachine") ∈ lw_tbl := lw_at lw_m1 115 rfl
theorem q200 : (Jvm.Cond.fieldLinkNest "FlagMachine$Processor" (62 : Nat) "FlagMachine$Instruction" "displacement" "I" "FlagMachine") ∈ lw_tbl := lw_at lw_m1 118 rfl
theorem q203 : (Jvm.Cond.fieldLinkNest "FlagMachine$Processor" (107 : Nat) "FlagMachine$Instruction" "number" "J" "FlagMachine") ∈ lw_tbl := lw_at lw_m1 121 rfl
theorem q226 : (Jvm.Cond.fieldLink "FlagMachine$Processor" (30 : Nat) "FlagMachine$Processor" "memory" "LFlagMachine$Memory;") ∈ lw_all := lw_g (lw_at lw_m1 144 rfl) rfl
theorem q227 : (Jvm.Cond.fieldLink "FlagMachine$Processor" (10 : Nat) "FlagMachine$Processor" "input" "LFlagMachine$Stream;") ∈ lw_all := lw_g (lw_at lw_m1 145 rfl) rfl
theorem q229 : (Jvm.Cond.fieldLink "FlagMachine$Processor" (16 : Nat) "FlagMachine$Processor" "output" "LFlagMachine$Stream;") ∈ lw_all := lw_g (lw_at lw_m1 147 rfl) rfl
theorem q231 : (Jvm.Cond.fieldLink "FlagMachine$Processor" (22 : Nat) "FlagMachine$Processor" "i" "LFlagMachine$Instruction;") ∈ lw_all := lw_g (lw_at lw_m1 149 rfl) rfl
theorem q233 : (Jvm.Cond.fieldLink "FlagMachine$Processor" (26 : Nat) "FlagMachine$Processor" "\x72" "[J") ∈ lw_all := lw_g (lw_at lw_m1 151 rfl) rfl
theorem q235 : (Jvm.Cond.fieldLink "FlagMachine$Processor" (38 : Nat) "FlagMachine$Processor" "ip" "J") ∈ lw_all := lw_g (lw_at lw_m1 153 rfl) rfl
theorem q237 : (Jvm.Cond.fieldLink "FlagMachine$Processor" (68 : Nat) "FlagMachine$Processor" "next" "J") ∈ lw_all := lw_g (lw_at lw_m1 155 rfl) rfl
theorem q238 : (Jvm.Cond.fieldLink "FlagMachine$Processor" (49 : Nat) "FlagMachine$Processor" "stopValue" "J") ∈ lw_all := lw_g (lw_at lw_m1 156 rfl) rfl
theorem q240 : (Jvm.Cond.fieldLink "FlagMachine$Processor" (42 : Nat) "FlagMachine$Processor" "flags" "I") ∈ lw_all := lw_g (lw_at lw_m1 158 rfl) rfl
theorem q242 : (Jvm.Cond.fieldLink "FlagMachine$Processor" (46 : Nat) "FlagMachine$Processor" "stop" "I") ∈ lw_all := lw_g (lw_at lw_m1 160 rfl) rfl
theorem q244 : (Jvm.Cond.fieldLink "FlagMachine$Processor" (52 : Nat) "FlagMachine$Processor" "done" "I") ∈ lw_all := lw_g (lw_at lw_m1 162 rfl) rfl
theorem q246 : (Jvm.Cond.laysFinal "FlagMachine$Processor" "FlagMachine$Processor" "memory" "LFlagMachine$Memory;") ∈ lw_all := lw_g (lw_at lw_m1 164 rfl) rfl
theorem q247 : (Jvm.Cond.soleField "FlagMachine$Processor" "memory") ∈ lw_all := lw_g (lw_at lw_m1 165 rfl) rfl
theorem q248 : (Jvm.Cond.laysFinal "FlagMachine$Processor" "FlagMachine$Processor" "input" "LFlagMachine$Stream;") ∈ lw_all := lw_g (lw_at lw_m1 166 rfl) rfl
theorem q249 : (Jvm.Cond.soleField "FlagMachine$Processor" "input") ∈ lw_all := lw_g (lw_at lw_m1 167 rfl) rfl
theorem q250 : (Jvm.Cond.laysFinal "FlagMachine$Processor" "FlagMachine$Processor" "output" "LFlagMachine$Stream;") ∈ lw_all := lw_g (lw_at lw_m1 168 rfl) rfl
theorem q251 : (Jvm.Cond.soleField "FlagMachine$Processor" "output") ∈ lw_all := lw_g (lw_at lw_m1 169 rfl) rfl
theorem q252 : (Jvm.Cond.laysFinal "FlagMachine$Processor" "FlagMachine$Processor" "i" "LFlagMachine$Instruction;") ∈ lw_all := lw_g (lw_at lw_m1 170 rfl) rfl
theorem q253 : (Jvm.Cond.soleField "FlagMachine$Processor" "i") ∈ lw_all := lw_g (lw_at lw_m1 171 rfl) rfl
theorem q254 : (Jvm.Cond.laysFinal "FlagMachine$Processor" "FlagMachine$Processor" "\x72" "[J") ∈ lw_all := lw_g (lw_at lw_m1 172 rfl) rfl
theorem q255 : (Jvm.Cond.soleField "FlagMachine$Processor" "\x72") ∈ lw_all := lw_g (lw_at lw_m1 173 rfl) rfl
theorem q256 : (Jvm.Cond.lays "FlagMachine$Processor" "FlagMachine$Processor" "ip" "J") ∈ lw_all := lw_g (lw_at lw_m1 174 rfl) rfl
theorem q257 : (Jvm.Cond.soleField "FlagMachine$Processor" "ip") ∈ lw_all := lw_g (lw_at lw_m1 175 rfl) rfl
theorem q258 : (Jvm.Cond.lays "FlagMachine$Processor" "FlagMachine$Processor" "next" "J") ∈ lw_all := lw_g (lw_at lw_m1 176 rfl) rfl
theorem q259 : (Jvm.Cond.soleField "FlagMachine$Processor" "next") ∈ lw_all := lw_g (lw_at lw_m1 177 rfl) rfl
theorem q260 : (Jvm.Cond.lays "FlagMachine$Processor" "FlagMachine$Processor" "stopValue" "J") ∈ lw_all := lw_g (lw_at lw_m1 178 rfl) rfl
theorem q261 : (Jvm.Cond.soleField "FlagMachine$Processor" "stopValue") ∈ lw_all := lw_g (lw_at lw_m1 179 rfl) rfl
theorem q262 : (Jvm.Cond.lays "FlagMachine$Processor" "FlagMachine$Processor" "flags" "I") ∈ lw_all := lw_g (lw_at lw_m1 180 rfl) rfl
theorem q263 : (Jvm.Cond.soleField "FlagMachine$Processor" "flags") ∈ lw_all := lw_g (lw_at lw_m1 181 rfl) rfl
theorem q264 : (Jvm.Cond.lays "FlagMachine$Processor" "FlagMachine$Processor" "stop" "I") ∈ lw_all := lw_g (lw_at lw_m1 182 rfl) rfl
theorem q265 : (Jvm.Cond.soleField "FlagMachine$Processor" "stop") ∈ lw_all := lw_g (lw_at lw_m1 183 rfl) rfl
theorem q266 : (Jvm.Cond.lays "FlagMachine$Processor" "FlagMachine$Processor" "done" "I") ∈ lw_all := lw_g (lw_at lw_m1 184 rfl) rfl
theorem q267 : (Jvm.Cond.soleField "FlagMachine$Processor" "done") ∈ lw_all := lw_g (lw_at lw_m1 185 rfl) rfl
theorem q268 : (Jvm.Cond.superclass "FlagMachine$Processor" "java/lang/Object") ∈ lw_all := lw_g (lw_at lw_m1 186 rfl) rfl
theorem q289 : (Jvm.Cond.instanceMethod ({ cls := "FlagMachine$Processor", name := "load", desc := "(J)V" } : Jvm.MethodName)) ∈ lw_all := lw_g (lw_at lw_m1 207 rfl) rfl
theorem q290 : (Jvm.Cond.selects "FlagMachine$Processor" ({ cls := "FlagMachine$Processor", name := "load", desc := "(J)V" } : Jvm.MethodName) ({ cls := "FlagMachine$Processor", name := "load", desc := "(J)V" } : Jvm.MethodName)) ∈ lw_all := lw_g (lw_at lw_m1 208 rfl) rfl
theorem q291 : (Jvm.Cond.code ({ cls := "FlagMachine$Processor", name := "load", desc := "(J)V" } : Jvm.MethodName) prog_4_method_2_code (4 : Nat) (Option.none : Option Jvm.ClassFile.FieldType)) ∈ lw_all := lw_g (lw_at lw_m1 209 rfl) rfl
theorem q292 : (Jvm.Cond.constantLong "FlagMachine$Processor" (36 : Nat) (2147479552 : Int64)) ∈ lw_all := lw_g (lw_at lw_m1 210 rfl) rfl
theorem q373 : (Jvm.Cond.instanceMethod ({ cls := "FlagMachine$Processor", name := "step", desc := "(I)Z" } : Jvm.MethodName)) ∈ lw_all := lw_g (lw_at lw_m2 51 rfl) rfl
theorem q374 : (Jvm.Cond.selects "FlagMachine$Processor" ({ cls := "FlagMachine$Processor", name := "step", desc := "(I)Z" } : Jvm.MethodName) ({ cls := "FlagMachine$Processor", name := "step", desc := "(I)Z" } : Jvm.MethodName)) ∈ lw_all := lw_g (lw_at lw_m2 52 rfl) rfl
theorem q375 : (Jvm.Cond.code ({ cls := "FlagMachine$Processor", name := "step", desc := "(I)Z" } : Jvm.MethodName) prog_4_method_21_code (3 : Nat) (Option.some Jvm.ClassFile.FieldType.boolean)) ∈ lw_all := lw_g (lw_at lw_m2 53 rfl) rfl
theorem q376 : (Jvm.Cond.methodLink "FlagMachine$Processor" (146 : Nat) ({ cls := "FlagMachine$Processor", name := "perform", desc := "()V" } : Jvm.MethodName)) ∈ lw_all := lw_g (lw_at lw_m2 54 rfl) rfl
theorem q377 : (Jvm.Cond.privateMethod ({ cls := "FlagMachine$Processor", name := "perform", desc := "()V" } : Jvm.MethodName)) ∈ lw_tbl := lw_at lw_m2 55 rfl
theorem q378 : (Jvm.Cond.instanceMethod ({ cls := "FlagMachine$Processor", name := "perform", desc := "()V" } : Jvm.MethodName)) ∈ lw_all := lw_g (lw_at lw_m2 56 rfl) rfl
theorem q379 : (Jvm.Cond.code ({ cls := "FlagMachine$Processor", name := "perform", desc := "()V" } : Jvm.MethodName) prog_4_method_22_code (3 : Nat) (Option.none : Option Jvm.ClassFile.FieldType)) ∈ lw_all := lw_g (lw_at lw_m2 57 rfl) rfl
theorem q380 : (Jvm.Cond.methodLink "FlagMachine$Processor" (153 : Nat) ({ cls := "FlagMachine$Processor", name := "arithmetic", desc := "(II)V" } : Jvm.MethodName)) ∈ lw_all := lw_g (lw_at lw_m2 58 rfl) rfl
theorem q381 : (Jvm.Cond.privateMethod ({ cls := "FlagMachine$Processor", name := "arithmetic", desc := "(II)V" } : Jvm.MethodName)) ∈ lw_tbl := lw_at lw_m2 59 rfl
theorem q382 : (Jvm.Cond.instanceMethod ({ cls := "FlagMachine$Processor", name := "arithmetic", desc := "(II)V" } : Jvm.MethodName)) ∈ lw_all := lw_g (lw_at lw_m2 60 rfl) rfl
theorem q383 : (Jvm.Cond.code ({ cls := "FlagMachine$Processor", name := "arithmetic", desc := "(II)V" } : Jvm.MethodName) prog_4_method_23_code (10 : Nat) (Option.none : Option Jvm.ClassFile.FieldType)) ∈ lw_all := lw_g (lw_at lw_m2 61 rfl) rfl
theorem q384 : (Jvm.Cond.methodLink "FlagMachine$Processor" (160 : Nat) ({ cls := "FlagMachine$Processor", name := "get", desc := "(II)J" } : Jvm.MethodName)) ∈ lw_all := lw_g (lw_at lw_m2 62 rfl) rfl
theorem q385 : (Jvm.Cond.privateMethod ({ cls := "FlagMachine$Processor", name := "get", desc := "(II)J" } : Jvm.MethodName)) ∈ lw_tbl := lw_at lw_m2 63 rfl
theorem q386 : (Jvm.Cond.instanceMethod ({ cls := "FlagMachine$Processor", name := "get", desc := "(II)J" } : Jvm.MethodName)) ∈ lw_all := lw_g (lw_at lw_m2 64 rfl) rfl
theorem q387 : (Jvm.Cond.code ({ cls := "FlagMachine$Processor", name := "get", desc := "(II)J" } : Jvm.MethodName) prog_4_method_9_code (3 : Nat) (Option.some Jvm.ClassFile.FieldType.long)) ∈ lw_all := lw_g (lw_at lw_m2 65 rfl) rfl
theorem q388 : (Jvm.Cond.methodLink "FlagMachine$Processor" (97 : Nat) ({ cls := "FlagMachine$Processor", name := "address", desc := "()J" } : Jvm.MethodName)) ∈ lw_all := lw_g (lw_at lw_m2 66 rfl) rfl
theorem q389 : (Jvm.Cond.privateMethod ({ cls := "FlagMachine$Processor", name := "address", desc := "()J" } : Jvm.MethodName)) ∈ lw_tbl := lw_at lw_m2 67 rfl
theorem q390 : (Jvm.Cond.instanceMethod ({ cls := "FlagMachine$Processor", name := "address", desc := "()J" } : Jvm.MethodName)) ∈ lw_all := lw_g (lw_at lw_m2 68 rfl) rfl
theorem q391 : (Jvm.Cond.code ({ cls := "FlagMachine$Processor", name := "address", desc := "()J" } : Jvm.MethodName) prog_4_method_6_code (3 : Nat) (Option.some Jvm.ClassFile.FieldType.long)) ∈ lw_all := lw_g (lw_at lw_m2 69 rfl) rfl
theorem q392 : (Jvm.Cond.methodLink "FlagMachine$Processor" (101 : Nat) ({ cls := "FlagMachine$Processor", name := "fetch", desc := "(JI)J" } : Jvm.MethodName)) ∈ lw_all := lw_g (lw_at lw_m2 70 rfl) rfl
theorem q393 : (Jvm.Cond.privateMethod ({ cls := "FlagMachine$Processor", name := "fetch", desc := "(JI)J" } : Jvm.MethodName)) ∈ lw_tbl := lw_at lw_m2 71 rfl
theorem q394 : (Jvm.Cond.instanceMethod ({ cls := "FlagMachine$Processor", name := "fetch", desc := "(JI)J" } : Jvm.MethodName)) ∈ lw_all := lw_g (lw_at lw_m2 72 rfl) rfl
theorem q395 : (Jvm.Cond.code ({ cls := "FlagMachine$Processor", name := "fetch", desc := "(JI)J" } : Jvm.MethodName) prog_4_method_7_code (4 : Nat) (Option.some Jvm.ClassFile.FieldType.long)) ∈ lw_all := lw_g (lw_at lw_m2 73 rfl) rfl
theorem q396 : (Jvm.Cond.methodLink "FlagMachine$Processor" (77 : Nat) ({ cls := "FlagMachine$Memory", name := "has", desc := "(JIZ)Z" } : Jvm.MethodName)) ∈ lw_all := lw_g (lw_at lw_m2 74 rfl) rfl
theorem q410 : (Jvm.Cond.methodLink "FlagMachine$Processor" (81 : Nat) ({ cls := "FlagMachine$Memory", name := "read", desc := "(JI)J" } : Jvm.MethodName)) ∈ lw_all := lw_g (lw_at lw_m2 88 rfl) rfl
theorem q415 : (Jvm.Cond.methodLink "FlagMachine$Processor" (85 : Nat) ({ cls := "FlagMachine$Processor", name := "fail", desc := "(IJ)V" } : Jvm.MethodName)) ∈ lw_all := lw_g (lw_at lw_m2 93 rfl) rfl
theorem q416 : (Jvm.Cond.privateMethod ({ cls := "FlagMachine$Processor", name := "fail", desc := "(IJ)V" } : Jvm.MethodName)) ∈ lw_tbl := lw_at lw_m2 94 rfl
theorem q417 : (Jvm.Cond.instanceMethod ({ cls := "FlagMachine$Processor", name := "fail", desc := "(IJ)V" } : Jvm.MethodName)) ∈ lw_all := lw_g (lw_at lw_m2 95 rfl) rfl
theorem q418 : (Jvm.Cond.code ({ cls := "FlagMachine$Processor", name := "fail", desc := "(IJ)V" } : Jvm.MethodName) prog_4_method_3_code (4 : Nat) (Option.none : Option Jvm.ClassFile.FieldType)) ∈ lw_all := lw_g (lw_at lw_m2 96 rfl) rfl
theorem q419 : (Jvm.Cond.methodLink "FlagMachine$Processor" (110 : Nat) ({ cls := "FlagMachine$Processor", name := "cut", desc := "(JI)J" } : Jvm.MethodName)) ∈ lw_all := lw_g (lw_at lw_m2 97 rfl) rfl
theorem q420 : (Jvm.Cond.static ({ cls := "FlagMachine$Processor", name := "cut", desc := "(JI)J" } : Jvm.MethodName)) ∈ lw_all := lw_g (lw_at lw_m2 98 rfl) rfl
theorem q421 : (Jvm.Cond.code ({ cls := "FlagMachine$Processor", name := "cut", desc := "(JI)J" } : Jvm.MethodName) prog_4_method_4_code (3 : Nat) (Option.some Jvm.ClassFile.FieldType.long)) ∈ lw_all := lw_g (lw_at lw_m2 99 rfl) rfl
theorem q422 : (Jvm.Cond.constantLong "FlagMachine$Processor" (58 : Nat) (4294967295 : Int64)) ∈ lw_all := lw_g (lw_at lw_m2 100 rfl) rfl
theorem q423 : (Jvm.Cond.constantLong "FlagMachine$Processor" (60 : Nat) (255 : Int64)) ∈ lw_all := lw_g (lw_at lw_m2 101 rfl) rfl
theorem q424 : (Jvm.Cond.methodLink "FlagMachine$Processor" (142 : Nat) ({ cls := "FlagMachine$Processor", name := "is", desc := "(I)Z" } : Jvm.MethodName)) ∈ lw_all := lw_g (lw_at lw_m2 102 rfl) rfl
theorem q425 : (Jvm.Cond.privateMethod ({ cls := "FlagMachine$Processor", name := "is", desc := "(I)Z" } : Jvm.MethodName)) ∈ lw_tbl := lw_at lw_m2 103 rfl
theorem q426 : (Jvm.Cond.instanceMethod ({ cls := "FlagMachine$Processor", name := "is", desc := "(I)Z" } : Jvm.MethodName)) ∈ lw_all := lw_g (lw_at lw_m2 104 rfl) rfl
theorem q427 : (Jvm.Cond.code ({ cls := "FlagMachine$Processor", name := "is", desc := "(I)Z" } : Jvm.MethodName) prog_4_method_13_code (2 : Nat) (Option.some Jvm.ClassFile.FieldType.boolean)) ∈ lw_all := lw_g (lw_at lw_m2 105 rfl) rfl
theorem q428 : (Jvm.Cond.methodLink "FlagMachine$Processor" (177 : Nat) ({ cls := "FlagMachine$Processor", name := "sum", desc := "(JJZI)J" } : Jvm.MethodName)) ∈ lw_all := lw_g (lw_at lw_m2 106 rfl) rfl
theorem q429 : (Jvm.Cond.privateMethod ({ cls := "FlagMachine$Processor", name := "sum", desc := "(JJZI)J" } : Jvm.MethodName)) ∈ lw_tbl := lw_at lw_m2 107 rfl
theorem q430 : (Jvm.Cond.instanceMethod ({ cls := "FlagMachine$Processor", name := "sum", desc := "(JJZI)J" } : Jvm.MethodName)) ∈ lw_all := lw_g (lw_at lw_m2 108 rfl) rfl
theorem q431 : (Jvm.Cond.code ({ cls := "FlagMachine$Processor", name := "sum", desc := "(JJZI)J" } : Jvm.MethodName) prog_4_method_17_code (9 : Nat) (Option.some Jvm.ClassFile.FieldType.long)) ∈ lw_all := lw_g (lw_at lw_m2 109 rfl) rfl
theorem q432 : (Jvm.Cond.constantLong "FlagMachine$Processor" (133 : Nat) (-1 : Int64)) ∈ lw_all := lw_g (lw_at lw_m2 110 rfl) rfl
theorem q433 : (Jvm.Cond.methodLink "FlagMachine$Processor" (135 : Nat) ({ cls := "FlagMachine$Processor", name := "bit", desc := "(JI)Z" } : Jvm.MethodName)) ∈ lw_all := lw_g (lw_at lw_m2 111 rfl) rfl
theorem q434 : (Jvm.Cond.static ({ cls := "FlagMachine$Processor", name := "bit", desc := "(JI)Z" } : Jvm.MethodName)) ∈ lw_all := lw_g (lw_at lw_m2 112 rfl) rfl
theorem q435 : (Jvm.Cond.code ({ cls := "FlagMachine$Processor", name := "bit", desc := "(JI)Z" } : Jvm.MethodName) prog_4_method_15_code (3 : Nat) (Option.some Jvm.ClassFile.FieldType.boolean)) ∈ lw_all := lw_g (lw_at lw_m2 113 rfl) rfl
theorem q436 : (Jvm.Cond.methodLink "FlagMachine$Processor" (125 : Nat) ({ cls := "FlagMachine$Processor", name := "mark", desc := "(IZ)V" } : Jvm.MethodName)) ∈ lw_all := lw_g (lw_at lw_m2 114 rfl) rfl
theorem q437 : (Jvm.Cond.privateMethod ({ cls := "FlagMachine$Processor", name := "mark", desc := "(IZ)V" } : Jvm.MethodName)) ∈ lw_tbl := lw_at lw_m2 115 rfl
theorem q438 : (Jvm.Cond.instanceMethod ({ cls := "FlagMachine$Processor", name := "mark", desc := "(IZ)V" } : Jvm.MethodName)) ∈ lw_all := lw_g (lw_at lw_m2 116 rfl) rfl
theorem q439 : (Jvm.Cond.code ({ cls := "FlagMachine$Processor", name := "mark", desc := "(IZ)V" } : Jvm.MethodName) prog_4_method_12_code (3 : Nat) (Option.none : Option Jvm.ClassFile.FieldType)) ∈ lw_all := lw_g (lw_at lw_m2 117 rfl) rfl
theorem q440 : (Jvm.Cond.methodLink "FlagMachine$Processor" (138 : Nat) ({ cls := "FlagMachine$Processor", name := "follow", desc := "(JI)V" } : Jvm.MethodName)) ∈ lw_all := lw_g (lw_at lw_m2 118 rfl) rfl
theorem q441 : (Jvm.Cond.privateMethod ({ cls := "FlagMachine$Processor", name := "follow", desc := "(JI)V" } : Jvm.MethodName)) ∈ lw_tbl := lw_at lw_m2 119 rfl
theorem q442 : (Jvm.Cond.instanceMethod ({ cls := "FlagMachine$Processor", name := "follow", desc := "(JI)V" } : Jvm.MethodName)) ∈ lw_all := lw_g (lw_at lw_m2 120 rfl) rfl
theorem q443 : (Jvm.Cond.code ({ cls := "FlagMachine$Processor", name := "follow", desc := "(JI)V" } : Jvm.MethodName) prog_4_method_16_code (5 : Nat) (Option.none : Option Jvm.ClassFile.FieldType)) ∈ lw_all := lw_g (lw_at lw_m2 121 rfl) rfl
theorem q444 : (Jvm.Cond.methodLink "FlagMachine$Processor" (129 : Nat) ({ cls := "FlagMachine$Processor", name := "isNegative", desc := "(JI)Z" } : Jvm.MethodName)) ∈ lw_all := lw_g (lw_at lw_m2 122 rfl) rfl
theorem q445 : (Jvm.Cond.static ({ cls := "FlagMachine$Processor", name := "isNegative", desc := "(JI)Z" } : Jvm.MethodName)) ∈ lw_all := lw_g (lw_at lw_m2 123 rfl) rfl
theorem q446 : (Jvm.Cond.code ({ cls := "FlagMachine$Processor", name := "isNegative", desc := "(JI)Z" } : Jvm.MethodName) prog_4_method_14_code (3 : Nat) (Option.some Jvm.ClassFile.FieldType.boolean)) ∈ lw_all := lw_g (lw_at lw_m2 124 rfl) rfl
theorem q447 : (Jvm.Cond.methodLink "FlagMachine$Processor" (122 : Nat) ({ cls := "FlagMachine$Processor", name := "signed", desc := "(JI)J" } : Jvm.MethodName)) ∈ lw_all := lw_g (lw_at lw_m2 125 rfl) rfl
theorem q448 : (Jvm.Cond.static ({ cls := "FlagMachine$Processor", name := "signed", desc := "(JI)J" } : Jvm.MethodName)) ∈ lw_all := lw_g (lw_at lw_m2 126 rfl) rfl
theorem q449 : (Jvm.Cond.code ({ cls := "FlagMachine$Processor", name := "signed", desc := "(JI)J" } : Jvm.MethodName) prog_4_method_5_code (3 : Nat) (Option.some Jvm.ClassFile.FieldType.long)) ∈ lw_all := lw_g (lw_at lw_m2 127 rfl) rfl
theorem q450 : (Jvm.Cond.methodLink "FlagMachine$Processor" (181 : Nat) ({ cls := "FlagMachine$Processor", name := "difference", desc := "(JJZI)J" } : Jvm.MethodName)) ∈ lw_all := lw_g (lw_at lw_m2 128 rfl) rfl
theorem q451 : (Jvm.Cond.privateMethod ({ cls := "FlagMachine$Processor", name := "difference", desc := "(JJZI)J" } : Jvm.MethodName)) ∈ lw_tbl := lw_at lw_m2 129 rfl
theorem q452 : (Jvm.Cond.instanceMethod ({ cls := "FlagMachine$Processor", name := "difference", desc := "(JJZI)J" } : Jvm.MethodName)) ∈ lw_all := lw_g (lw_at lw_m2 130 rfl) rfl
theorem q453 : (Jvm.Cond.code ({ cls := "FlagMachine$Processor", name := "difference", desc := "(JJZI)J" } : Jvm.MethodName) prog_4_method_18_code (9 : Nat) (Option.some Jvm.ClassFile.FieldType.long)) ∈ lw_all := lw_g (lw_at lw_m2 131 rfl) rfl
theorem q454 : (Jvm.Cond.methodLink "FlagMachine$Processor" (184 : Nat) ({ cls := "FlagMachine$Processor", name := "logic", desc := "(IJJI)J" } : Jvm.MethodName)) ∈ lw_all := lw_g (lw_at lw_m2 132 rfl) rfl
theorem q455 : (Jvm.Cond.privateMethod ({ cls := "FlagMachine$Processor", name := "logic", desc := "(IJJI)J" } : Jvm.MethodName)) ∈ lw_tbl := lw_at lw_m2 133 rfl
theorem q456 : (Jvm.Cond.instanceMethod ({ cls := "FlagMachine$Processor", name := "logic", desc := "(IJJI)J" } : Jvm.MethodName)) ∈ lw_all := lw_g (lw_at lw_m2 134 rfl) rfl
theorem q457 : (Jvm.Cond.code ({ cls := "FlagMachine$Processor", name := "logic", desc := "(IJJI)J" } : Jvm.MethodName) prog_4_method_19_code (9 : Nat) (Option.some Jvm.ClassFile.FieldType.long)) ∈ lw_all := lw_g (lw_at lw_m2 135 rfl) rfl
theorem q458 : (Jvm.Cond.methodLink "FlagMachine$Processor" (188 : Nat) ({ cls := "FlagMachine$Processor", name := "put", desc := "(IIJ)V" } : Jvm.MethodName)) ∈ lw_all := lw_g (lw_at lw_m2 136 rfl) rfl
theorem q459 : (Jvm.Cond.privateMethod ({ cls := "FlagMachine$Processor", name := "put", desc := "(IIJ)V" } : Jvm.MethodName)) ∈ lw_tbl := lw_at lw_m2 137 rfl
theorem q460 : (Jvm.Cond.instanceMethod ({ cls := "FlagMachine$Processor", name := "put", desc := "(IIJ)V" } : Jvm.MethodName)) ∈ lw_all := lw_g (lw_at lw_m2 138 rfl) rfl
theorem q461 : (Jvm.Cond.code ({ cls := "FlagMachine$Processor", name := "put", desc := "(IIJ)V" } : Jvm.MethodName) prog_4_method_11_code (5 : Nat) (Option.none : Option Jvm.ClassFile.FieldType)) ∈ lw_all := lw_g (lw_at lw_m2 139 rfl) rfl
theorem q462 : (Jvm.Cond.methodLink "FlagMachine$Processor" (115 : Nat) ({ cls := "FlagMachine$Processor", name := "store", desc := "(JIJ)V" } : Jvm.MethodName)) ∈ lw_all := lw_g (lw_at lw_m2 140 rfl) rfl
theorem q463 : (Jvm.Cond.privateMethod ({ cls := "FlagMachine$Processor", name := "store", desc := "(JIJ)V" } : Jvm.MethodName)) ∈ lw_tbl := lw_at lw_m2 141 rfl
theorem q464 : (Jvm.Cond.instanceMethod ({ cls := "FlagMachine$Processor", name := "store", desc := "(JIJ)V" } : Jvm.MethodName)) ∈ lw_all := lw_g (lw_at lw_m2 142 rfl) rfl
theorem q465 : (Jvm.Cond.code ({ cls := "FlagMachine$Processor", name := "store", desc := "(JIJ)V" } : Jvm.MethodName) prog_4_method_8_code (6 : Nat) (Option.none : Option Jvm.ClassFile.FieldType)) ∈ lw_all := lw_g (lw_at lw_m2 143 rfl) rfl
theorem q466 : (Jvm.Cond.methodLink "FlagMachine$Processor" (89 : Nat) ({ cls := "FlagMachine$Memory", name := "write", desc := "(JIJ)V" } : Jvm.MethodName)) ∈ lw_all := lw_g (lw_at lw_m2 144 rfl) rfl
theorem q470 : (Jvm.Cond.methodLink "FlagMachine$Processor" (118 : Nat) ({ cls := "FlagMachine$Processor", name := "setRegister", desc := "(IIJ)V" } : Jvm.MethodName)) ∈ lw_all := lw_g (lw_at lw_m2 148 rfl) rfl
theorem q471 : (Jvm.Cond.privateMethod ({ cls := "FlagMachine$Processor", name := "setRegister", desc := "(IIJ)V" } : Jvm.MethodName)) ∈ lw_tbl := lw_at lw_m2 149 rfl
theorem q472 : (Jvm.Cond.instanceMethod ({ cls := "FlagMachine$Processor", name := "setRegister", desc := "(IIJ)V" } : Jvm.MethodName)) ∈ lw_all := lw_g (lw_at lw_m2 150 rfl) rfl
theorem q473 : (Jvm.Cond.code ({ cls := "FlagMachine$Processor", name := "setRegister", desc := "(IIJ)V" } : Jvm.MethodName) prog_4_method_10_code (5 : Nat) (Option.none : Option Jvm.ClassFile.FieldType)) ∈ lw_all := lw_g (lw_at lw_m2 151 rfl) rfl
theorem q474 : (Jvm.Cond.constantLong "FlagMachine$Processor" (113 : Nat) (-256 : Int64)) ∈ lw_all := lw_g (lw_at lw_m2 152 rfl) rfl
theorem q475 : (Jvm.Cond.methodLink "FlagMachine$Processor" (157 : Nat) ({ cls := "FlagMachine$Processor", name := "middle", desc := "(II)V" } : Jvm.MethodName)) ∈ lw_all := lw_g (lw_at lw_m2 153 rfl) rfl
theorem q476 : (Jvm.Cond.privateMethod ({ cls := "FlagMachine$Processor", name := "middle", desc := "(II)V" } : Jvm.MethodName)) ∈ lw_tbl := lw_at lw_m2 154 rfl
theorem q477 : (Jvm.Cond.instanceMethod ({ cls := "FlagMachine$Processor", name := "middle", desc := "(II)V" } : Jvm.MethodName)) ∈ lw_all := lw_g (lw_at lw_m2 155 rfl) rfl
theorem q478 : (Jvm.Cond.code ({ cls := "FlagMachine$Processor", name := "middle", desc := "(II)V" } : Jvm.MethodName) prog_4_method_24_code (10 : Nat) (Option.none : Option Jvm.ClassFile.FieldType)) ∈ lw_all := lw_g (lw_at lw_m2 156 rfl) rfl
theorem q479 : (Jvm.Cond.methodLink "FlagMachine$Processor" (191 : Nat) ({ cls := "FlagMachine$Processor", name := "product", desc := "(ZIJ)V" } : Jvm.MethodName)) ∈ lw_all := lw_g (lw_at lw_m2 157 rfl) rfl
theorem q480 : (Jvm.Cond.privateMethod ({ cls := "FlagMachine$Processor", name := "product", desc := "(ZIJ)V" } : Jvm.MethodName)) ∈ lw_tbl := lw_at lw_m2 158 rfl
theorem q481 : (Jvm.Cond.instanceMethod ({ cls := "FlagMachine$Processor", name := "product", desc := "(ZIJ)V" } : Jvm.MethodName)) ∈ lw_all := lw_g (lw_at lw_m2 159 rfl) rfl
theorem q482 : (Jvm.Cond.code ({ cls := "FlagMachine$Processor", name := "product", desc := "(ZIJ)V" } : Jvm.MethodName) prog_4_method_27_code (11 : Nat) (Option.none : Option Jvm.ClassFile.FieldType)) ∈ lw_all := lw_g (lw_at lw_m2 160 rfl) rfl
theorem q483 : (Jvm.Cond.methodLink "FlagMachine$Processor" (206 : Nat) ({ cls := "FlagMachine$Processor", name := "upperSigned", desc := "(JJ)J" } : Jvm.MethodName)) ∈ lw_all := lw_g (lw_at lw_m2 161 rfl) rfl
theorem q484 : (Jvm.Cond.static ({ cls := "FlagMachine$Processor", name := "upperSigned", desc := "(JJ)J" } : Jvm.MethodName)) ∈ lw_all := lw_g (lw_at lw_m2 162 rfl) rfl
theorem q485 : (Jvm.Cond.code ({ cls := "FlagMachine$Processor", name := "upperSigned", desc := "(JJ)J" } : Jvm.MethodName) prog_4_method_26_code (4 : Nat) (Option.some Jvm.ClassFile.FieldType.long)) ∈ lw_all := lw_g (lw_at lw_m2 163 rfl) rfl
theorem q486 : (Jvm.Cond.methodLink "FlagMachine$Processor" (202 : Nat) ({ cls := "FlagMachine$Processor", name := "upper", desc := "(JJ)J" } : Jvm.MethodName)) ∈ lw_all := lw_g (lw_at lw_m2 164 rfl) rfl
theorem q487 : (Jvm.Cond.static ({ cls := "FlagMachine$Processor", name := "upper", desc := "(JJ)J" } : Jvm.MethodName)) ∈ lw_all := lw_g (lw_at lw_m2 165 rfl) rfl
theorem q488 : (Jvm.Cond.code ({ cls := "FlagMachine$Processor", name := "upper", desc := "(JJ)J" } : Jvm.MethodName) prog_4_method_25_code (16 : Nat) (Option.some Jvm.ClassFile.FieldType.long)) ∈ lw_all := lw_g (lw_at lw_m2 166 rfl) rfl
theorem q489 : (Jvm.Cond.constantLong "FlagMachine$Processor" (209 : Nat) (-65536 : Int64)) ∈ lw_all := lw_g (lw_at lw_m2 167 rfl) rfl
theorem q490 : (Jvm.Cond.constantLong "FlagMachine$Processor" (211 : Nat) (65535 : Int64)) ∈ lw_all := lw_g (lw_at lw_m2 168 rfl) rfl
theorem q491 : (Jvm.Cond.methodLink "FlagMachine$Processor" (195 : Nat) ({ cls := "FlagMachine$Processor", name := "quotient", desc := "(ZIJ)V" } : Jvm.MethodName)) ∈ lw_all := lw_g (lw_at lw_m2 169 rfl) rfl
theorem q492 : (Jvm.Cond.privateMethod ({ cls := "FlagMachine$Processor", name := "quotient", desc := "(ZIJ)V" } : Jvm.MethodName)) ∈ lw_tbl := lw_at lw_m2 170 rfl
theorem q493 : (Jvm.Cond.instanceMethod ({ cls := "FlagMachine$Processor", name := "quotient", desc := "(ZIJ)V" } : Jvm.MethodName)) ∈ lw_all := lw_g (lw_at lw_m2 171 rfl) rfl
theorem q494 : (Jvm.Cond.code ({ cls := "FlagMachine$Processor", name := "quotient", desc := "(ZIJ)V" } : Jvm.MethodName) prog_4_method_29_code (14 : Nat) (Option.none : Option Jvm.ClassFile.FieldType)) ∈ lw_all := lw_g (lw_at lw_m2 172 rfl) rfl
theorem q495 : (Jvm.Cond.methodLink "FlagMachine$Processor" (213 : Nat) ({ cls := "FlagMachine$Processor", name := "wide", desc := "(ZJJJ)V" } : Jvm.MethodName)) ∈ lw_all := lw_g (lw_at lw_m2 173 rfl) rfl
theorem q496 : (Jvm.Cond.privateMethod ({ cls := "FlagMachine$Processor", name := "wide", desc := "(ZJJJ)V" } : Jvm.MethodName)) ∈ lw_tbl := lw_at lw_m2 174 rfl
theorem q497 : (Jvm.Cond.instanceMethod ({ cls := "FlagMachine$Processor", name := "wide", desc := "(ZJJJ)V" } : Jvm.MethodName)) ∈ lw_all := lw_g (lw_at lw_m2 175 rfl) rfl
theorem q498 : (Jvm.Cond.code ({ cls := "FlagMachine$Processor", name := "wide", desc := "(ZJJJ)V" } : Jvm.MethodName) prog_4_method_31_code (21 : Nat) (Option.none : Option Jvm.ClassFile.FieldType)) ∈ lw_all := lw_g (lw_at lw_m2 176 rfl) rfl
theorem q499 : (Jvm.Cond.methodLink "FlagMachine$Processor" (228 : Nat) ({ cls := "java/lang/Long", name := "compareUnsigned", desc := "(JJ)I" } : Jvm.MethodName)) ∈ lw_all := lw_g (lw_at lw_m2 177 rfl) rfl
theorem q506 : (Jvm.Cond.constantLong "FlagMachine$Processor" (222 : Nat) (-9223372036854775808 : Int64)) ∈ lw_all := lw_g (lw_at lw_m2 184 rfl) rfl
theorem q507 : (Jvm.Cond.methodLink "FlagMachine$Processor" (224 : Nat) ({ cls := "FlagMachine$Processor", name := "divided", desc := "(IJJ)V" } : Jvm.MethodName)) ∈ lw_all := lw_g (lw_at lw_m2 185 rfl) rfl
theorem q508 : (Jvm.Cond.privateMethod ({ cls := "FlagMachine$Processor", name := "divided", desc := "(IJJ)V" } : Jvm.MethodName)) ∈ lw_tbl := lw_at lw_m2 186 rfl
theorem q509 : (Jvm.Cond.instanceMethod ({ cls := "FlagMachine$Processor", name := "divided", desc := "(IJJ)V" } : Jvm.MethodName)) ∈ lw_all := lw_g (lw_at lw_m2 187 rfl) rfl
theorem q510 : (Jvm.Cond.code ({ cls := "FlagMachine$Processor", name := "divided", desc := "(IJJ)V" } : Jvm.MethodName) prog_4_method_30_code (6 : Nat) (Option.none : Option Jvm.ClassFile.FieldType)) ∈ lw_all := lw_g (lw_at lw_m2 188 rfl) rfl
theorem q511 : (Jvm.Cond.methodLink "FlagMachine$Processor" (217 : Nat) ({ cls := "java/lang/Long", name := "divideUnsigned", desc := "(JJ)J" } : Jvm.MethodName)) ∈ lw_all := lw_g (lw_at lw_m2 189 rfl) rfl
theorem q515 : (Jvm.Cond.methodLink "FlagMachine$Processor" (198 : Nat) ({ cls := "FlagMachine$Processor", name := "times", desc := "(I)V" } : Jvm.MethodName)) ∈ lw_all := lw_g (lw_at lw_m2 193 rfl) rfl
theorem q516 : (Jvm.Cond.privateMethod ({ cls := "FlagMachine$Processor", name := "times", desc := "(I)V" } : Jvm.MethodName)) ∈ lw_tbl := lw_at lw_m2 194 rfl
theorem q517 : (Jvm.Cond.instanceMethod ({ cls := "FlagMachine$Processor", name := "times", desc := "(I)V" } : Jvm.MethodName)) ∈ lw_all := lw_g (lw_at lw_m2 195 rfl) rfl
theorem q518 : (Jvm.Cond.code ({ cls := "FlagMachine$Processor", name := "times", desc := "(I)V" } : Jvm.MethodName) prog_4_method_28_code (10 : Nat) (Option.none : Option Jvm.ClassFile.FieldType)) ∈ lw_all := lw_g (lw_at lw_m2 196 rfl) rfl
theorem q519 : (Jvm.Cond.methodLink "FlagMachine$Processor" (164 : Nat) ({ cls := "FlagMachine$Processor", name := "shift", desc := "(IIJI)V" } : Jvm.MethodName)) ∈ lw_all := lw_g (lw_at lw_m2 197 rfl) rfl
theorem q520 : (Jvm.Cond.privateMethod ({ cls := "FlagMachine$Processor", name := "shift", desc := "(IIJI)V" } : Jvm.MethodName)) ∈ lw_tbl := lw_at lw_m2 198 rfl
theorem q521 : (Jvm.Cond.instanceMethod ({ cls := "FlagMachine$Processor", name := "shift", desc := "(IIJI)V" } : Jvm.MethodName)) ∈ lw_all := lw_g (lw_at lw_m2 199 rfl) rfl
theorem q522 : (Jvm.Cond.code ({ cls := "FlagMachine$Processor", name := "shift", desc := "(IIJI)V" } : Jvm.MethodName) prog_4_method_32_code (14 : Nat) (Option.none : Option Jvm.ClassFile.FieldType)) ∈ lw_all := lw_g (lw_at lw_m2 200 rfl) rfl
theorem q523 : (Jvm.Cond.methodLink "FlagMachine$Processor" (168 : Nat) ({ cls := "FlagMachine$Processor", name := "flow", desc := "(II)V" } : Jvm.MethodName)) ∈ lw_all := lw_g (lw_at lw_m2 201 rfl) rfl
theorem q524 : (Jvm.Cond.privateMethod ({ cls := "FlagMachine$Processor", name := "flow", desc := "(II)V" } : Jvm.MethodName)) ∈ lw_tbl := lw_at lw_m2 202 rfl
theorem q525 : (Jvm.Cond.instanceMethod ({ cls := "FlagMachine$Processor", name := "flow", desc := "(II)V" } : Jvm.MethodName)) ∈ lw_all := lw_g (lw_at lw_m2 203 rfl) rfl
theorem q526 : (Jvm.Cond.code ({ cls := "FlagMachine$Processor", name := "flow", desc := "(II)V" } : Jvm.MethodName) prog_4_method_35_code (11 : Nat) (Option.none : Option Jvm.ClassFile.FieldType)) ∈ lw_all := lw_g (lw_at lw_m2 204 rfl) rfl
theorem q527 : (Jvm.Cond.methodLink "FlagMachine$Processor" (234 : Nat) ({ cls := "FlagMachine$Processor", name := "push", desc := "(J)V" } : Jvm.MethodName)) ∈ lw_all := lw_g (lw_at lw_m2 205 rfl) rfl
theorem q528 : (Jvm.Cond.privateMethod ({ cls := "FlagMachine$Processor", name := "push", desc := "(J)V" } : Jvm.MethodName)) ∈ lw_tbl := lw_at lw_m2 206 rfl
theorem q529 : (Jvm.Cond.instanceMethod ({ cls := "FlagMachine$Processor", name := "push", desc := "(J)V" } : Jvm.MethodName)) ∈ lw_all := lw_g (lw_at lw_m2 207 rfl) rfl
theorem q530 : (Jvm.Cond.code ({ cls := "FlagMachine$Processor", name := "push", desc := "(J)V" } : Jvm.MethodName) prog_4_method_33_code (3 : Nat) (Option.none : Option Jvm.ClassFile.FieldType)) ∈ lw_all := lw_g (lw_at lw_m2 208 rfl) rfl
theorem q531 : (Jvm.Cond.constantLong "FlagMachine$Processor" (232 : Nat) (8 : Int64)) ∈ lw_all := lw_g (lw_at lw_m2 209 rfl) rfl
theorem q532 : (Jvm.Cond.methodLink "FlagMachine$Processor" (238 : Nat) ({ cls := "FlagMachine$Processor", name := "pop", desc := "()V" } : Jvm.MethodName)) ∈ lw_all := lw_g (lw_at lw_m2 210 rfl) rfl
theorem q533 : (Jvm.Cond.privateMethod ({ cls := "FlagMachine$Processor", name := "pop", desc := "()V" } : Jvm.MethodName)) ∈ lw_tbl := lw_at lw_m2 211 rfl
theorem q534 : (Jvm.Cond.instanceMethod ({ cls := "FlagMachine$Processor", name := "pop", desc := "()V" } : Jvm.MethodName)) ∈ lw_all := lw_g (lw_at lw_m2 212 rfl) rfl
theorem q535 : (Jvm.Cond.code ({ cls := "FlagMachine$Processor", name := "pop", desc := "()V" } : Jvm.MethodName) prog_4_method_36_code (3 : Nat) (Option.none : Option Jvm.ClassFile.FieldType)) ∈ lw_all := lw_g (lw_at lw_m2 213 rfl) rfl
theorem q536 : (Jvm.Cond.methodLink "FlagMachine$Processor" (241 : Nat) ({ cls := "FlagMachine$Processor", name := "target", desc := "()J" } : Jvm.MethodName)) ∈ lw_all := lw_g (lw_at lw_m2 214 rfl) rfl
theorem q537 : (Jvm.Cond.privateMethod ({ cls := "FlagMachine$Processor", name := "target", desc := "()J" } : Jvm.MethodName)) ∈ lw_tbl := lw_at lw_m2 215 rfl
theorem q538 : (Jvm.Cond.instanceMethod ({ cls := "FlagMachine$Processor", name := "target", desc := "()J" } : Jvm.MethodName)) ∈ lw_all := lw_g (lw_at lw_m2 216 rfl) rfl
theorem q539 : (Jvm.Cond.code ({ cls := "FlagMachine$Processor", name := "target", desc := "()J" } : Jvm.MethodName) prog_4_method_34_code (1 : Nat) (Option.some Jvm.ClassFile.FieldType.long)) ∈ lw_all := lw_g (lw_at lw_m2 217 rfl) rfl
theorem q540 : (Jvm.Cond.methodLink "FlagMachine$Processor" (247 : Nat) ({ cls := "FlagMachine$Processor", name := "holds", desc := "(I)Z" } : Jvm.MethodName)) ∈ lw_all := lw_g (lw_at lw_m2 218 rfl) rfl
theorem q541 : (Jvm.Cond.privateMethod ({ cls := "FlagMachine$Processor", name := "holds", desc := "(I)Z" } : Jvm.MethodName)) ∈ lw_tbl := lw_at lw_m2 219 rfl
theorem q542 : (Jvm.Cond.instanceMethod ({ cls := "FlagMachine$Processor", name := "holds", desc := "(I)Z" } : Jvm.MethodName)) ∈ lw_all := lw_g (lw_at lw_m2 220 rfl) rfl
theorem q543 : (Jvm.Cond.code ({ cls := "FlagMachine$Processor", name := "holds", desc := "(I)Z" } : Jvm.MethodName) prog_4_method_20_code (3 : Nat) (Option.some Jvm.ClassFile.FieldType.boolean)) ∈ lw_all := lw_g (lw_at lw_m2 221 rfl) rfl
theorem q544 : (Jvm.Cond.methodLink "FlagMachine$Processor" (171 : Nat) ({ cls := "FlagMachine$Processor", name := "others", desc := "(II)V" } : Jvm.MethodName)) ∈ lw_all := lw_g (lw_at lw_m2 222 rfl) rfl
theorem q545 : (Jvm.Cond.privateMethod ({ cls := "FlagMachine$Processor", name := "others", desc := "(II)V" } : Jvm.MethodName)) ∈ lw_tbl := lw_at lw_m2 223 rfl
theorem q546 : (Jvm.Cond.instanceMethod ({ cls := "FlagMachine$Processor", name := "others", desc := "(II)V" } : Jvm.MethodName)) ∈ lw_all := lw_g (lw_at lw_m2 224 rfl) rfl
theorem q547 : (Jvm.Cond.code ({ cls := "FlagMachine$Processor", name := "others", desc := "(II)V" } : Jvm.MethodName) prog_4_method_37_code (5 : Nat) (Option.none : Option Jvm.ClassFile.FieldType)) ∈ lw_all := lw_g (lw_at lw_m2 225 rfl) rfl
theorem q548 : (Jvm.Cond.methodLink "FlagMachine$Processor" (250 : Nat) ({ cls := "FlagMachine$Processor", name := "serve", desc := "()V" } : Jvm.MethodName)) ∈ lw_all := lw_g (lw_at lw_m2 226 rfl) rfl
theorem q549 : (Jvm.Cond.privateMethod ({ cls := "FlagMachine$Processor", name := "serve", desc := "()V" } : Jvm.MethodName)) ∈ lw_tbl := lw_at lw_m2 227 rfl
theorem q550 : (Jvm.Cond.instanceMethod ({ cls := "FlagMachine$Processor", name := "serve", desc := "()V" } : Jvm.MethodName)) ∈ lw_all := lw_g (lw_at lw_m2 228 rfl) rfl
theorem q551 : (Jvm.Cond.code ({ cls := "FlagMachine$Processor", name := "serve", desc := "()V" } : Jvm.MethodName) prog_4_method_42_code (3 : Nat) (Option.none : Option Jvm.ClassFile.FieldType)) ∈ lw_all := lw_g (lw_at lw_m2 229 rfl) rfl
theorem q552 : (Jvm.Cond.methodLink "FlagMachine$Processor" (273 : Nat) ({ cls := "FlagMachine$Processor", name := "readInput", desc := "()J" } : Jvm.MethodName)) ∈ lw_all := lw_g (lw_at lw_m2 230 rfl) rfl
theorem q553 : (Jvm.Cond.privateMethod ({ cls := "FlagMachine$Processor", name := "readInput", desc := "()J" } : Jvm.MethodName)) ∈ lw_tbl := lw_at lw_m2 231 rfl
theorem q554 : (Jvm.Cond.instanceMethod ({ cls := "FlagMachine$Processor", name := "readInput", desc := "()J" } : Jvm.MethodName)) ∈ lw_all := lw_g (lw_at lw_m2 232 rfl) rfl
theorem q555 : (Jvm.Cond.code ({ cls := "FlagMachine$Processor", name := "readInput", desc := "()J" } : Jvm.MethodName) prog_4_method_44_code (3 : Nat) (Option.some Jvm.ClassFile.FieldType.long)) ∈ lw_all := lw_g (lw_at lw_m2 233 rfl) rfl
theorem q556 : (Jvm.Cond.methodLink "FlagMachine$Processor" (292 : Nat) ({ cls := "FlagMachine$Processor", name := "all", desc := "(JJZ)Z" } : Jvm.MethodName)) ∈ lw_all := lw_g (lw_at lw_m2 234 rfl) rfl
theorem q557 : (Jvm.Cond.privateMethod ({ cls := "FlagMachine$Processor", name := "all", desc := "(JJZ)Z" } : Jvm.MethodName)) ∈ lw_tbl := lw_at lw_m2 235 rfl
theorem q558 : (Jvm.Cond.instanceMethod ({ cls := "FlagMachine$Processor", name := "all", desc := "(JJZ)Z" } : Jvm.MethodName)) ∈ lw_all := lw_g (lw_at lw_m2 236 rfl) rfl
theorem q559 : (Jvm.Cond.code ({ cls := "FlagMachine$Processor", name := "all", desc := "(JJZ)Z" } : Jvm.MethodName) prog_4_method_43_code (9 : Nat) (Option.some Jvm.ClassFile.FieldType.boolean)) ∈ lw_all := lw_g (lw_at lw_m2 237 rfl) rfl
theorem q560 : (Jvm.Cond.methodLink "FlagMachine$Processor" (288 : Nat) ({ cls := "FlagMachine$Memory", name := "where", desc := "(JZ)I" } : Jvm.MethodName)) ∈ lw_all := lw_g (lw_at lw_m2 238 rfl) rfl
theorem q561 : (Jvm.Cond.constantLong "FlagMachine$Processor" (296 : Nat) (-14 : Int64)) ∈ lw_all := lw_g (lw_at lw_m2 239 rfl) rfl
theorem q562 : (Jvm.Cond.methodLink "FlagMachine$Processor" (303 : Nat) ({ cls := "FlagMachine$Stream", name := "drop", desc := "(I)V" } : Jvm.MethodName)) ∈ lw_all := lw_g (lw_at lw_m3 0 rfl) rfl
theorem q566 : (Jvm.Cond.methodLink "FlagMachine$Processor" (276 : Nat) ({ cls := "FlagMachine$Processor", name := "writeOutput", desc := "()J" } : Jvm.MethodName)) ∈ lw_all := lw_g (lw_at lw_m3 4 rfl) rfl
theorem q567 : (Jvm.Cond.privateMethod ({ cls := "FlagMachine$Processor", name := "writeOutput", desc := "()J" } : Jvm.MethodName)) ∈ lw_tbl := lw_at lw_m3 5 rfl
theorem q568 : (Jvm.Cond.instanceMethod ({ cls := "FlagMachine$Processor", name := "writeOutput", desc := "()J" } : Jvm.MethodName)) ∈ lw_all := lw_g (lw_at lw_m3 6 rfl) rfl
theorem q569 : (Jvm.Cond.code ({ cls := "FlagMachine$Processor", name := "writeOutput", desc := "()J" } : Jvm.MethodName) prog_4_method_45_code (5 : Nat) (Option.some Jvm.ClassFile.FieldType.long)) ∈ lw_all := lw_g (lw_at lw_m3 7 rfl) rfl
theorem q570 : (Jvm.Cond.constant "FlagMachine$Processor" (306 : Nat) (65536 : Int32)) ∈ lw_all := lw_g (lw_at lw_m3 8 rfl) rfl
theorem q571 : (Jvm.Cond.constantLong "FlagMachine$Processor" (307 : Nat) (-28 : Int64)) ∈ lw_all := lw_g (lw_at lw_m3 9 rfl) rfl
theorem q572 : (Jvm.Cond.methodLink "FlagMachine$Processor" (309 : Nat) ({ cls := "FlagMachine$Stream", name := "add", desc := "(I)V" } : Jvm.MethodName)) ∈ lw_all := lw_g (lw_at lw_m3 10 rfl) rfl
theorem q576 : (Jvm.Cond.constantLong "FlagMachine$Processor" (279 : Nat) (12 : Int64)) ∈ lw_all := lw_g (lw_at lw_m3 14 rfl) rfl
theorem q577 : (Jvm.Cond.methodLink "FlagMachine$Processor" (281 : Nat) ({ cls := "FlagMachine$Memory", name := "moveBreak", desc := "(J)J" } : Jvm.MethodName)) ∈ lw_all := lw_g (lw_at lw_m3 15 rfl) rfl
theorem q581 : (Jvm.Cond.constantLong "FlagMachine$Processor" (284 : Nat) (60 : Int64)) ∈ lw_all := lw_g (lw_at lw_m3 19 rfl) rfl
theorem q582 : (Jvm.Cond.constantLong "FlagMachine$Processor" (286 : Nat) (-38 : Int64)) ∈ lw_all := lw_g (lw_at lw_m3 20 rfl) rfl
theorem q583 : (Jvm.Cond.methodLink "FlagMachine$Processor" (253 : Nat) ({ cls := "FlagMachine$Processor", name := "scan", desc := "(ZIJ)V" } : Jvm.MethodName)) ∈ lw_all := lw_g (lw_at lw_m3 21 rfl) rfl
theorem q584 : (Jvm.Cond.privateMethod ({ cls := "FlagMachine$Processor", name := "scan", desc := "(ZIJ)V" } : Jvm.MethodName)) ∈ lw_tbl := lw_at lw_m3 22 rfl
theorem q585 : (Jvm.Cond.instanceMethod ({ cls := "FlagMachine$Processor", name := "scan", desc := "(ZIJ)V" } : Jvm.MethodName)) ∈ lw_all := lw_g (lw_at lw_m3 23 rfl) rfl
theorem q586 : (Jvm.Cond.code ({ cls := "FlagMachine$Processor", name := "scan", desc := "(ZIJ)V" } : Jvm.MethodName) prog_4_method_40_code (5 : Nat) (Option.none : Option Jvm.ClassFile.FieldType)) ∈ lw_all := lw_g (lw_at lw_m3 24 rfl) rfl
theorem q587 : (Jvm.Cond.methodLink "FlagMachine$Processor" (266 : Nat) ({ cls := "java/lang/Long", name := "numberOfLeadingZeros", desc := "(J)I" } : Jvm.MethodName)) ∈ lw_all := lw_g (lw_at lw_m3 25 rfl) rfl
theorem q594 : (Jvm.Cond.methodLink "FlagMachine$Processor" (270 : Nat) ({ cls := "java/lang/Long", name := "numberOfTrailingZeros", desc := "(J)I" } : Jvm.MethodName)) ∈ lw_all := lw_g (lw_at lw_m3 32 rfl) rfl
theorem q600 : (Jvm.Cond.methodLink "FlagMachine$Processor" (256 : Nat) ({ cls := "java/lang/Long", name := "reverseBytes", desc := "(J)J" } : Jvm.MethodName)) ∈ lw_all := lw_g (lw_at lw_m3 38 rfl) rfl
theorem q605 : (Jvm.Cond.methodLink "FlagMachine$Processor" (260 : Nat) ({ cls := "FlagMachine$Processor", name := "exchangeAdd", desc := "(I)V" } : Jvm.MethodName)) ∈ lw_all := lw_g (lw_at lw_m3 43 rfl) rfl
theorem q606 : (Jvm.Cond.privateMethod ({ cls := "FlagMachine$Processor", name := "exchangeAdd", desc := "(I)V" } : Jvm.MethodName)) ∈ lw_tbl := lw_at lw_m3 44 rfl
theorem q607 : (Jvm.Cond.instanceMethod ({ cls := "FlagMachine$Processor", name := "exchangeAdd", desc := "(I)V" } : Jvm.MethodName)) ∈ lw_all := lw_g (lw_at lw_m3 45 rfl) rfl
theorem q608 : (Jvm.Cond.code ({ cls := "FlagMachine$Processor", name := "exchangeAdd", desc := "(I)V" } : Jvm.MethodName) prog_4_method_38_code (9 : Nat) (Option.none : Option Jvm.ClassFile.FieldType)) ∈ lw_all := lw_g (lw_at lw_m3 46 rfl) rfl
theorem q609 : (Jvm.Cond.methodLink "FlagMachine$Processor" (263 : Nat) ({ cls := "FlagMachine$Processor", name := "compareExchange", desc := "(I)V" } : Jvm.MethodName)) ∈ lw_all := lw_g (lw_at lw_m3 47 rfl) rfl
theorem q610 : (Jvm.Cond.privateMethod ({ cls := "FlagMachine$Processor", name := "compareExchange", desc := "(I)V" } : Jvm.MethodName)) ∈ lw_tbl := lw_at lw_m3 48 rfl
theorem q611 : (Jvm.Cond.instanceMethod ({ cls := "FlagMachine$Processor", name := "compareExchange", desc := "(I)V" } : Jvm.MethodName)) ∈ lw_all := lw_g (lw_at lw_m3 49 rfl) rfl
theorem q612 : (Jvm.Cond.code ({ cls := "FlagMachine$Processor", name := "compareExchange", desc := "(I)V" } : Jvm.MethodName) prog_4_method_39_code (6 : Nat) (Option.none : Option Jvm.ClassFile.FieldType)) ∈ lw_all := lw_g (lw_at lw_m3 50 rfl) rfl
theorem q613 : (Jvm.Cond.methodLink "FlagMachine$Processor" (174 : Nat) ({ cls := "FlagMachine$Processor", name := "string", desc := "(II)V" } : Jvm.MethodName)) ∈ lw_all := lw_g (lw_at lw_m3 51 rfl) rfl
theorem q614 : (Jvm.Cond.privateMethod ({ cls := "FlagMachine$Processor", name := "string", desc := "(II)V" } : Jvm.MethodName)) ∈ lw_tbl := lw_at lw_m3 52 rfl
theorem q615 : (Jvm.Cond.instanceMethod ({ cls := "FlagMachine$Processor", name := "string", desc := "(II)V" } : Jvm.MethodName)) ∈ lw_all := lw_g (lw_at lw_m3 53 rfl) rfl
theorem q616 : (Jvm.Cond.code ({ cls := "FlagMachine$Processor", name := "string", desc := "(II)V" } : Jvm.MethodName) prog_4_method_41_code (7 : Nat) (Option.none : Option Jvm.ClassFile.FieldType)) ∈ lw_all := lw_g (lw_at lw_m3 54 rfl) rfl
theorem in_X2 : ∀ w ∈ wsX20, w ∈ lw_all := lw_in wsX20 [246, 248, 250, 252, 254, 256, 258, 260, 262, 264, 266] (by decide +kernel) (by decide +kernel)
