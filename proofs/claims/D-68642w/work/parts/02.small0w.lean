set_option maxRecDepth 100000
/-! java/lang/Object -/
def RJ2 : String := "java/lang/Object"
abbrev cJ2_init : ByteArray := object_method_1_code
def yJ2_init : MethodName := ⟨RJ2, "<init>", "()V"⟩
theorem q99 : (Jvm.Cond.instanceMethod ({ cls := "java/lang/Object", name := "<init>", desc := "()V" } : Jvm.MethodName)) ∈ lw_all := lw_g (lw_at lw_m1 17 rfl) rfl
theorem q100 : (Jvm.Cond.code ({ cls := "java/lang/Object", name := "<init>", desc := "()V" } : Jvm.MethodName) object_method_1_code (1 : Nat) (Option.none : Option Jvm.ClassFile.FieldType)) ∈ lw_all := lw_g (lw_at lw_m1 18 rfl) rfl
/-! java/lang/Integer -/
def RJ1 : String := "java/lang/Integer"
abbrev cJ1_numberOfLeadingZeros : ByteArray := prog_9_method_47_code
def yJ1_numberOfLeadingZeros : MethodName := ⟨RJ1, "numberOfLeadingZeros", "(I)I"⟩
abbrev cJ1_numberOfTrailingZeros : ByteArray := prog_9_method_48_code
def yJ1_numberOfTrailingZeros : MethodName := ⟨RJ1, "numberOfTrailingZeros", "(I)I"⟩
theorem q92 : (Jvm.Cond.initialized "java/lang/Integer") ∈ lw_all := lw_g (lw_at lw_m1 10 rfl) rfl
theorem q591 : (Jvm.Cond.static ({ cls := "java/lang/Integer", name := "numberOfLeadingZeros", desc := "(I)I" } : Jvm.MethodName)) ∈ lw_all := lw_g (lw_at lw_m3 29 rfl) rfl
theorem q592 : (Jvm.Cond.code ({ cls := "java/lang/Integer", name := "numberOfLeadingZeros", desc := "(I)I" } : Jvm.MethodName) prog_9_method_47_code (2 : Nat) (Option.some Jvm.ClassFile.FieldType.int)) ∈ lw_all := lw_g (lw_at lw_m3 30 rfl) rfl
theorem q593 : (Jvm.Cond.constant "java/lang/Integer" (264 : Nat) (65536 : Int32)) ∈ lw_all := lw_g (lw_at lw_m3 31 rfl) rfl
theorem q598 : (Jvm.Cond.static ({ cls := "java/lang/Integer", name := "numberOfTrailingZeros", desc := "(I)I" } : Jvm.MethodName)) ∈ lw_all := lw_g (lw_at lw_m3 36 rfl) rfl
theorem q599 : (Jvm.Cond.code ({ cls := "java/lang/Integer", name := "numberOfTrailingZeros", desc := "(I)I" } : Jvm.MethodName) prog_9_method_48_code (2 : Nat) (Option.some Jvm.ClassFile.FieldType.int)) ∈ lw_all := lw_g (lw_at lw_m3 37 rfl) rfl
/-! java/lang/Long -/
def RJ0 : String := "java/lang/Long"
abbrev cJ0_compareUnsigned : ByteArray := prog_10_method_43_code
def yJ0_compareUnsigned : MethodName := ⟨RJ0, "compareUnsigned", "(JJ)I"⟩
abbrev cJ0_compare : ByteArray := prog_10_method_42_code
def yJ0_compare : MethodName := ⟨RJ0, "compare", "(JJ)I"⟩
abbrev cJ0_divideUnsigned : ByteArray := prog_10_method_44_code
def yJ0_divideUnsigned : MethodName := ⟨RJ0, "divideUnsigned", "(JJ)J"⟩
abbrev cJ0_numberOfLeadingZeros : ByteArray := prog_10_method_48_code
def yJ0_numberOfLeadingZeros : MethodName := ⟨RJ0, "numberOfLeadingZeros", "(J)I"⟩
abbrev cJ0_numberOfTrailingZeros : ByteArray := prog_10_method_49_code
def yJ0_numberOfTrailingZeros : MethodName := ⟨RJ0, "numberOfTrailingZeros", "(J)I"⟩
abbrev cJ0_reverseBytes : ByteArray := prog_10_method_58_code
def yJ0_reverseBytes : MethodName := ⟨RJ0, "reverseBytes", "(J)J"⟩
theorem q91 : (Jvm.Cond.initialized "java/lang/Long") ∈ lw_all := lw_g (lw_at lw_m1 9 rfl) rfl
theorem q500 : (Jvm.Cond.static ({ cls := "java/lang/Long", name := "compareUnsigned", desc := "(JJ)I" } : Jvm.MethodName)) ∈ lw_all := lw_g (lw_at lw_m2 178 rfl) rfl
theorem q501 : (Jvm.Cond.code ({ cls := "java/lang/Long", name := "compareUnsigned", desc := "(JJ)I" } : Jvm.MethodName) prog_10_method_43_code (4 : Nat) (Option.some Jvm.ClassFile.FieldType.int)) ∈ lw_all := lw_g (lw_at lw_m2 179 rfl) rfl
theorem q502 : (Jvm.Cond.constantLong "java/lang/Long" (168 : Nat) (-9223372036854775808 : Int64)) ∈ lw_all := lw_g (lw_at lw_m2 180 rfl) rfl
theorem q503 : (Jvm.Cond.methodLink "java/lang/Long" (302 : Nat) ({ cls := "java/lang/Long", name := "compare", desc := "(JJ)I" } : Jvm.MethodName)) ∈ lw_all := lw_g (lw_at lw_m2 181 rfl) rfl
theorem q504 : (Jvm.Cond.static ({ cls := "java/lang/Long", name := "compare", desc := "(JJ)I" } : Jvm.MethodName)) ∈ lw_all := lw_g (lw_at lw_m2 182 rfl) rfl
theorem q505 : (Jvm.Cond.code ({ cls := "java/lang/Long", name := "compare", desc := "(JJ)I" } : Jvm.MethodName) prog_10_method_42_code (4 : Nat) (Option.some Jvm.ClassFile.FieldType.int)) ∈ lw_all := lw_g (lw_at lw_m2 183 rfl) rfl
theorem q512 : (Jvm.Cond.static ({ cls := "java/lang/Long", name := "divideUnsigned", desc := "(JJ)J" } : Jvm.MethodName)) ∈ lw_all := lw_g (lw_at lw_m2 190 rfl) rfl
theorem q513 : (Jvm.Cond.code ({ cls := "java/lang/Long", name := "divideUnsigned", desc := "(JJ)J" } : Jvm.MethodName) prog_10_method_44_code (8 : Nat) (Option.some Jvm.ClassFile.FieldType.long)) ∈ lw_all := lw_g (lw_at lw_m2 191 rfl) rfl
theorem q514 : (Jvm.Cond.constantLong "java/lang/Long" (306 : Nat) (-1 : Int64)) ∈ lw_all := lw_g (lw_at lw_m2 192 rfl) rfl
theorem q588 : (Jvm.Cond.static ({ cls := "java/lang/Long", name := "numberOfLeadingZeros", desc := "(J)I" } : Jvm.MethodName)) ∈ lw_all := lw_g (lw_at lw_m3 26 rfl) rfl
theorem q589 : (Jvm.Cond.code ({ cls := "java/lang/Long", name := "numberOfLeadingZeros", desc := "(J)I" } : Jvm.MethodName) prog_10_method_48_code (3 : Nat) (Option.some Jvm.ClassFile.FieldType.int)) ∈ lw_all := lw_g (lw_at lw_m3 27 rfl) rfl
theorem q590 : (Jvm.Cond.methodLink "java/lang/Long" (308 : Nat) ({ cls := "java/lang/Integer", name := "numberOfLeadingZeros", desc := "(I)I" } : Jvm.MethodName)) ∈ lw_all := lw_g (lw_at lw_m3 28 rfl) rfl
theorem q595 : (Jvm.Cond.static ({ cls := "java/lang/Long", name := "numberOfTrailingZeros", desc := "(J)I" } : Jvm.MethodName)) ∈ lw_all := lw_g (lw_at lw_m3 33 rfl) rfl
theorem q596 : (Jvm.Cond.code ({ cls := "java/lang/Long", name := "numberOfTrailingZeros", desc := "(J)I" } : Jvm.MethodName) prog_10_method_49_code (3 : Nat) (Option.some Jvm.ClassFile.FieldType.int)) ∈ lw_all := lw_g (lw_at lw_m3 34 rfl) rfl
theorem q597 : (Jvm.Cond.methodLink "java/lang/Long" (311 : Nat) ({ cls := "java/lang/Integer", name := "numberOfTrailingZeros", desc := "(I)I" } : Jvm.MethodName)) ∈ lw_all := lw_g (lw_at lw_m3 35 rfl) rfl
theorem q601 : (Jvm.Cond.static ({ cls := "java/lang/Long", name := "reverseBytes", desc := "(J)J" } : Jvm.MethodName)) ∈ lw_all := lw_g (lw_at lw_m3 39 rfl) rfl
theorem q602 : (Jvm.Cond.code ({ cls := "java/lang/Long", name := "reverseBytes", desc := "(J)J" } : Jvm.MethodName) prog_10_method_58_code (2 : Nat) (Option.some Jvm.ClassFile.FieldType.long)) ∈ lw_all := lw_g (lw_at lw_m3 40 rfl) rfl
theorem q603 : (Jvm.Cond.constantLong "java/lang/Long" (327 : Nat) (71777214294589695 : Int64)) ∈ lw_all := lw_g (lw_at lw_m3 41 rfl) rfl
theorem q604 : (Jvm.Cond.constantLong "java/lang/Long" (329 : Nat) (4294901760 : Int64)) ∈ lw_all := lw_g (lw_at lw_m3 42 rfl) rfl
/-! FlagMachine$Stream -/
def RX3 : String := "FlagMachine$Stream"
def TX3 : u_T := fun k => match k with
  | 0 => ("FlagMachine$Stream", "bytes", "[B", true)
  | _ => ("FlagMachine$Stream", "size", "I", false)
def tyX3 : Nat → FieldType := fun k => match k with
  | 0 => .array .byte
  | _ => .int
abbrev wsX30 : List Cond := u_ws RX3 TX3 2
theorem nmX3 : ∀ a, a < 2 → ∀ b, b < 2 → a ≠ b → (TX3 a).2.1 ≠ (TX3 b).2.1 := by decide +kernel
theorem tyX3_ok : ∀ k, k < 2 → parseFieldDescriptor (TX3 k).2.2.1 = some (tyX3 k) := by decide +kernel
abbrev cX3_init : ByteArray := prog_6_method_1_code
def yX3_init : MethodName := ⟨RX3, "<init>", "()V"⟩
abbrev cX3_drop : ByteArray := prog_6_method_2_code
def yX3_drop : MethodName := ⟨RX3, "drop", "(I)V"⟩
abbrev cX3_add : ByteArray := prog_6_method_3_code
def yX3_add : MethodName := ⟨RX3, "add", "(I)V"⟩
theorem q86 : (Jvm.Cond.initialized "FlagMachine$Stream") ∈ lw_all := lw_g (lw_at lw_m1 4 rfl) rfl
theorem q152 : (Jvm.Cond.instantiable "FlagMachine$Stream" (2 : Nat)) ∈ lw_all := lw_g (lw_at lw_m1 70 rfl) rfl
theorem q154 : (Jvm.Cond.instanceMethod ({ cls := "FlagMachine$Stream", name := "<init>", desc := "()V" } : Jvm.MethodName)) ∈ lw_all := lw_g (lw_at lw_m1 72 rfl) rfl
theorem q155 : (Jvm.Cond.code ({ cls := "FlagMachine$Stream", name := "<init>", desc := "()V" } : Jvm.MethodName) prog_6_method_1_code (1 : Nat) (Option.none : Option Jvm.ClassFile.FieldType)) ∈ lw_all := lw_g (lw_at lw_m1 73 rfl) rfl
theorem q156 : (Jvm.Cond.methodLink "FlagMachine$Stream" (1 : Nat) ({ cls := "java/lang/Object", name := "<init>", desc := "()V" } : Jvm.MethodName)) ∈ lw_all := lw_g (lw_at lw_m1 74 rfl) rfl
theorem q157 : (Jvm.Cond.constant "FlagMachine$Stream" (9 : Nat) (65536 : Int32)) ∈ lw_all := lw_g (lw_at lw_m1 75 rfl) rfl
theorem q158 : (Jvm.Cond.fieldLink "FlagMachine$Stream" (10 : Nat) "FlagMachine$Stream" "bytes" "[B") ∈ lw_all := lw_g (lw_at lw_m1 76 rfl) rfl
theorem q161 : (Jvm.Cond.fieldLink "FlagMachine$Stream" (14 : Nat) "FlagMachine$Stream" "size" "I") ∈ lw_all := lw_g (lw_at lw_m1 79 rfl) rfl
theorem q164 : (Jvm.Cond.laysFinal "FlagMachine$Stream" "FlagMachine$Stream" "bytes" "[B") ∈ lw_all := lw_g (lw_at lw_m1 82 rfl) rfl
theorem q165 : (Jvm.Cond.soleField "FlagMachine$Stream" "bytes") ∈ lw_all := lw_g (lw_at lw_m1 83 rfl) rfl
theorem q166 : (Jvm.Cond.lays "FlagMachine$Stream" "FlagMachine$Stream" "size" "I") ∈ lw_all := lw_g (lw_at lw_m1 84 rfl) rfl
theorem q167 : (Jvm.Cond.soleField "FlagMachine$Stream" "size") ∈ lw_all := lw_g (lw_at lw_m1 85 rfl) rfl
theorem q168 : (Jvm.Cond.superclass "FlagMachine$Stream" "java/lang/Object") ∈ lw_all := lw_g (lw_at lw_m1 86 rfl) rfl
theorem q563 : (Jvm.Cond.instanceMethod ({ cls := "FlagMachine$Stream", name := "drop", desc := "(I)V" } : Jvm.MethodName)) ∈ lw_all := lw_g (lw_at lw_m3 1 rfl) rfl
theorem q564 : (Jvm.Cond.selects "FlagMachine$Stream" ({ cls := "FlagMachine$Stream", name := "drop", desc := "(I)V" } : Jvm.MethodName) ({ cls := "FlagMachine$Stream", name := "drop", desc := "(I)V" } : Jvm.MethodName)) ∈ lw_all := lw_g (lw_at lw_m3 2 rfl) rfl
theorem q565 : (Jvm.Cond.code ({ cls := "FlagMachine$Stream", name := "drop", desc := "(I)V" } : Jvm.MethodName) prog_6_method_2_code (3 : Nat) (Option.none : Option Jvm.ClassFile.FieldType)) ∈ lw_all := lw_g (lw_at lw_m3 3 rfl) rfl
theorem q573 : (Jvm.Cond.instanceMethod ({ cls := "FlagMachine$Stream", name := "add", desc := "(I)V" } : Jvm.MethodName)) ∈ lw_all := lw_g (lw_at lw_m3 11 rfl) rfl
theorem q574 : (Jvm.Cond.selects "FlagMachine$Stream" ({ cls := "FlagMachine$Stream", name := "add", desc := "(I)V" } : Jvm.MethodName) ({ cls := "FlagMachine$Stream", name := "add", desc := "(I)V" } : Jvm.MethodName)) ∈ lw_all := lw_g (lw_at lw_m3 12 rfl) rfl
theorem q575 : (Jvm.Cond.code ({ cls := "FlagMachine$Stream", name := "add", desc := "(I)V" } : Jvm.MethodName) prog_6_method_3_code (2 : Nat) (Option.none : Option Jvm.ClassFile.FieldType)) ∈ lw_all := lw_g (lw_at lw_m3 13 rfl) rfl
theorem in_X3 : ∀ w ∈ wsX30, w ∈ lw_all := lw_in wsX30 [164, 166] (by decide +kernel) (by decide +kernel)
/-! FlagMachine$Instruction -/
def RX4 : String := "FlagMachine$Instruction"
def TX4 : u_T := fun k => match k with
  | 0 => ("FlagMachine$Instruction", "op", "I", false)
  | 1 => ("FlagMachine$Instruction", "size", "I", false)
  | 2 => ("FlagMachine$Instruction", "condition", "I", false)
  | 3 => ("FlagMachine$Instruction", "kinds", "[I", true)
  | 4 => ("FlagMachine$Instruction", "registers", "[I", true)
  | 5 => ("FlagMachine$Instruction", "base", "I", false)
  | 6 => ("FlagMachine$Instruction", "index", "I", false)
  | 7 => ("FlagMachine$Instruction", "scale", "I", false)
  | 8 => ("FlagMachine$Instruction", "displacement", "I", false)
  | _ => ("FlagMachine$Instruction", "number", "J", false)
def tyX4 : Nat → FieldType := fun k => match k with
  | 0 => .int
  | 1 => .int
  | 2 => .int
  | 3 => .array .int
  | 4 => .array .int
  | 5 => .int
  | 6 => .int
  | 7 => .int
  | 8 => .int
  | _ => .long
abbrev wsX40 : List Cond := u_ws RX4 TX4 10
theorem nmX4 : ∀ a, a < 10 → ∀ b, b < 10 → a ≠ b → (TX4 a).2.1 ≠ (TX4 b).2.1 := by decide +kernel
theorem tyX4_ok : ∀ k, k < 10 → parseFieldDescriptor (TX4 k).2.2.1 = some (tyX4 k) := by decide +kernel
abbrev cX4_init : ByteArray := prog_2_method_1_code
def yX4_init : MethodName := ⟨RX4, "<init>", "()V"⟩
abbrev cX4_clear : ByteArray := prog_2_method_2_code
def yX4_clear : MethodName := ⟨RX4, "clear", "(III)V"⟩
abbrev cX4_put : ByteArray := prog_2_method_3_code
def yX4_put : MethodName := ⟨RX4, "put", "(III)V"⟩
abbrev cX4_memory : ByteArray := prog_2_method_4_code
def yX4_memory : MethodName := ⟨RX4, "memory", "(IIII)V"⟩
theorem q87 : (Jvm.Cond.initialized "FlagMachine$Instruction") ∈ lw_all := lw_g (lw_at lw_m1 5 rfl) rfl
theorem q170 : (Jvm.Cond.instantiable "FlagMachine$Instruction" (10 : Nat)) ∈ lw_all := lw_g (lw_at lw_m1 88 rfl) rfl
theorem q172 : (Jvm.Cond.instanceMethod ({ cls := "FlagMachine$Instruction", name := "<init>", desc := "()V" } : Jvm.MethodName)) ∈ lw_all := lw_g (lw_at lw_m1 90 rfl) rfl
theorem q173 : (Jvm.Cond.code ({ cls := "FlagMachine$Instruction", name := "<init>", desc := "()V" } : Jvm.MethodName) prog_2_method_1_code (1 : Nat) (Option.none : Option Jvm.ClassFile.FieldType)) ∈ lw_all := lw_g (lw_at lw_m1 91 rfl) rfl
theorem q174 : (Jvm.Cond.methodLink "FlagMachine$Instruction" (1 : Nat) ({ cls := "java/lang/Object", name := "<init>", desc := "()V" } : Jvm.MethodName)) ∈ lw_all := lw_g (lw_at lw_m1 92 rfl) rfl
theorem q175 : (Jvm.Cond.fieldLink "FlagMachine$Instruction" (7 : Nat) "FlagMachine$Instruction" "op" "I") ∈ lw_all := lw_g (lw_at lw_m1 93 rfl) rfl
theorem q178 : (Jvm.Cond.fieldLink "FlagMachine$Instruction" (29 : Nat) "FlagMachine$Instruction" "size" "I") ∈ lw_all := lw_g (lw_at lw_m1 96 rfl) rfl
theorem q181 : (Jvm.Cond.fieldLink "FlagMachine$Instruction" (32 : Nat) "FlagMachine$Instruction" "condition" "I") ∈ lw_all := lw_g (lw_at lw_m1 99 rfl) rfl
theorem q184 : (Jvm.Cond.fieldLink "FlagMachine$Instruction" (13 : Nat) "FlagMachine$Instruction" "kinds" "[I") ∈ lw_all := lw_g (lw_at lw_m1 102 rfl) rfl
theorem q187 : (Jvm.Cond.fieldLink "FlagMachine$Instruction" (17 : Nat) "FlagMachine$Instruction" "registers" "[I") ∈ lw_all := lw_g (lw_at lw_m1 105 rfl) rfl
theorem q190 : (Jvm.Cond.fieldLink "FlagMachine$Instruction" (20 : Nat) "FlagMachine$Instruction" "base" "I") ∈ lw_all := lw_g (lw_at lw_m1 108 rfl) rfl
theorem q193 : (Jvm.Cond.fieldLink "FlagMachine$Instruction" (23 : Nat) "FlagMachine$Instruction" "index" "I") ∈ lw_all := lw_g (lw_at lw_m1 111 rfl) rfl
theorem q196 : (Jvm.Cond.fieldLink "FlagMachine$Instruction" (26 : Nat) "FlagMachine$Instruction" "scale" "I") ∈ lw_all := lw_g (lw_at lw_m1 114 rfl) rfl
theorem q199 : (Jvm.Cond.fieldLink "FlagMachine$Instruction" (35 : Nat) "FlagMachine$Instruction" "displacement" "I") ∈ lw_all := lw_g (lw_at lw_m1 117 rfl) rfl
theorem q204 : (Jvm.Cond.lays "FlagMachine$Instruction" "FlagMachine$Instruction" "op" "I") ∈ lw_all := lw_g (lw_at lw_m1 122 rfl) rfl
theorem q205 : (Jvm.Cond.soleField "FlagMachine$Instruction" "op") ∈ lw_all := lw_g (lw_at lw_m1 123 rfl) rfl
theorem q206 : (Jvm.Cond.lays "FlagMachine$Instruction" "FlagMachine$Instruction" "size" "I") ∈ lw_all := lw_g (lw_at lw_m1 124 rfl) rfl
theorem q207 : (Jvm.Cond.soleField "FlagMachine$Instruction" "size") ∈ lw_all := lw_g (lw_at lw_m1 125 rfl) rfl
theorem q208 : (Jvm.Cond.lays "FlagMachine$Instruction" "FlagMachine$Instruction" "condition" "I") ∈ lw_all := lw_g (lw_at lw_m1 126 rfl) rfl
theorem q209 : (Jvm.Cond.soleField "FlagMachine$Instruction" "condition") ∈ lw_all := lw_g (lw_at lw_m1 127 rfl) rfl
theorem q210 : (Jvm.Cond.laysFinal "FlagMachine$Instruction" "FlagMachine$Instruction" "kinds" "[I") ∈ lw_all := lw_g (lw_at lw_m1 128 rfl) rfl
theorem q211 : (Jvm.Cond.soleField "FlagMachine$Instruction" "kinds") ∈ lw_all := lw_g (lw_at lw_m1 129 rfl) rfl
theorem q212 : (Jvm.Cond.laysFinal "FlagMachine$Instruction" "FlagMachine$Instruction" "registers" "[I") ∈ lw_all := lw_g (lw_at lw_m1 130 rfl) rfl
theorem q213 : (Jvm.Cond.soleField "FlagMachine$Instruction" "registers") ∈ lw_all := lw_g (lw_at lw_m1 131 rfl) rfl
theorem q214 : (Jvm.Cond.lays "FlagMachine$Instruction" "FlagMachine$Instruction" "base" "I") ∈ lw_all := lw_g (lw_at lw_m1 132 rfl) rfl
theorem q215 : (Jvm.Cond.soleField "FlagMachine$Instruction" "base") ∈ lw_all := lw_g (lw_at lw_m1 133 rfl) rfl
theorem q216 : (Jvm.Cond.lays "FlagMachine$Instruction" "FlagMachine$Instruction" "index" "I") ∈ lw_all := lw_g (lw_at lw_m1 134 rfl) rfl
theorem q217 : (Jvm.Cond.soleField "FlagMachine$Instruction" "index") ∈ lw_all := lw_g (lw_at lw_m1 135 rfl) rfl
theorem q218 : (Jvm.Cond.lays "FlagMachine$Instruction" "FlagMachine$Instruction" "scale" "I") ∈ lw_all := lw_g (lw_at lw_m1 136 rfl) rfl
theorem q219 : (Jvm.Cond.soleField "FlagMachine$Instruction" "scale") ∈ lw_all := lw_g (lw_at lw_m1 137 rfl) rfl
theorem q220 : (Jvm.Cond.lays "FlagMachine$Instruction" "FlagMachine$Instruction" "displacement" "I") ∈ lw_all := lw_g (lw_at lw_m1 138 rfl) rfl
theorem q221 : (Jvm.Cond.soleField "FlagMachine$Instruction" "displacement") ∈ lw_all := lw_g (lw_at lw_m1 139 rfl) rfl
theorem q222 : (Jvm.Cond.lays "FlagMachine$Instruction" "FlagMachine$Instruction" "number" "J") ∈ lw_all := lw_g (lw_at lw_m1 140 rfl) rfl
theorem q223 : (Jvm.Cond.soleField "FlagMachine$Instruction" "number") ∈ lw_all := lw_g (lw_at lw_m1 141 rfl) rfl
theorem q224 : (Jvm.Cond.superclass "FlagMachine$Instruction" "java/lang/Object") ∈ lw_all := lw_g (lw_at lw_m1 142 rfl) rfl
theorem q314 : (Jvm.Cond.instanceMethod ({ cls := "FlagMachine$Instruction", name := "clear", desc := "(III)V" } : Jvm.MethodName)) ∈ lw_all := lw_g (lw_at lw_m1 232 rfl) rfl
theorem q315 : (Jvm.Cond.selects "FlagMachine$Instruction" ({ cls := "FlagMachine$Instruction", name := "clear", desc := "(III)V" } : Jvm.MethodName) ({ cls := "FlagMachine$Instruction", name := "clear", desc := "(III)V" } : Jvm.MethodName)) ∈ lw_all := lw_g (lw_at lw_m1 233 rfl) rfl
theorem q316 : (Jvm.Cond.code ({ cls := "FlagMachine$Instruction", name := "clear", desc := "(III)V" } : Jvm.MethodName) prog_2_method_2_code (5 : Nat) (Option.none : Option Jvm.ClassFile.FieldType)) ∈ lw_all := lw_g (lw_at lw_m1 234 rfl) rfl
theorem q322 : (Jvm.Cond.instanceMethod ({ cls := "FlagMachine$Instruction", name := "put", desc := "(III)V" } : Jvm.MethodName)) ∈ lw_all := lw_g (lw_at lw_m2 0 rfl) rfl
theorem q323 : (Jvm.Cond.selects "FlagMachine$Instruction" ({ cls := "FlagMachine$Instruction", name := "put", desc := "(III)V" } : Jvm.MethodName) ({ cls := "FlagMachine$Instruction", name := "put", desc := "(III)V" } : Jvm.MethodName)) ∈ lw_all := lw_g (lw_at lw_m2 1 rfl) rfl
theorem q324 : (Jvm.Cond.code ({ cls := "FlagMachine$Instruction", name := "put", desc := "(III)V" } : Jvm.MethodName) prog_2_method_3_code (4 : Nat) (Option.none : Option Jvm.ClassFile.FieldType)) ∈ lw_all := lw_g (lw_at lw_m2 2 rfl) rfl
theorem q330 : (Jvm.Cond.instanceMethod ({ cls := "FlagMachine$Instruction", name := "memory", desc := "(IIII)V" } : Jvm.MethodName)) ∈ lw_all := lw_g (lw_at lw_m2 8 rfl) rfl
theorem q331 : (Jvm.Cond.selects "FlagMachine$Instruction" ({ cls := "FlagMachine$Instruction", name := "memory", desc := "(IIII)V" } : Jvm.MethodName) ({ cls := "FlagMachine$Instruction", name := "memory", desc := "(IIII)V" } : Jvm.MethodName)) ∈ lw_all := lw_g (lw_at lw_m2 9 rfl) rfl
theorem q332 : (Jvm.Cond.code ({ cls := "FlagMachine$Instruction", name := "memory", desc := "(IIII)V" } : Jvm.MethodName) prog_2_method_4_code (5 : Nat) (Option.none : Option Jvm.ClassFile.FieldType)) ∈ lw_all := lw_g (lw_at lw_m2 10 rfl) rfl
theorem in_X4 : ∀ w ∈ wsX40, w ∈ lw_all := lw_in wsX40 [204, 206, 208, 210, 212, 214, 216, 218, 220, 222] (by decide +kernel) (by decide +kernel)
/-! FlagMachine$Memory -/
def RX1 : String := "FlagMachine$Memory"
def TX1 : u_T := fun k => match k with
  | 0 => ("FlagMachine$Memory", "bytes", "[B", true)
  | 1 => ("FlagMachine$Memory", "heapAt", "I", true)
  | 2 => ("FlagMachine$Memory", "stackAt", "I", true)
  | 3 => ("FlagMachine$Memory", "textEnd", "I", false)
  | 4 => ("FlagMachine$Memory", "rodataBegin", "I", false)
  | 5 => ("FlagMachine$Memory", "rodataEnd", "I", false)
  | 6 => ("FlagMachine$Memory", "dataBegin", "I", false)
  | 7 => ("FlagMachine$Memory", "dataEnd", "I", false)
  | 8 => ("FlagMachine$Memory", "heap", "J", false)
  | _ => ("FlagMachine$Memory", "broken", "J", false)
def tyX1 : Nat → FieldType := fun k => match k with
  | 0 => .array .byte
  | 1 => .int
  | 2 => .int
  | 3 => .int
  | 4 => .int
  | 5 => .int
  | 6 => .int
  | 7 => .int
  | 8 => .long
  | _ => .long
abbrev wsX10 : List Cond := u_ws RX1 TX1 10
theorem nmX1 : ∀ a, a < 10 → ∀ b, b < 10 → a ≠ b → (TX1 a).2.1 ≠ (TX1 b).2.1 := by decide +kernel
theorem tyX1_ok : ∀ k, k < 10 → parseFieldDescriptor (TX1 k).2.2.1 = some (tyX1 k) := by decide +kernel
abbrev cX1_init : ByteArray := prog_3_method_1_code
def yX1_init : MethodName := ⟨RX1, "<init>", "(I)V"⟩
abbrev cX1_load : ByteArray := prog_3_method_2_code
def yX1_load : MethodName := ⟨RX1, "load", "([BI)V"⟩
abbrev cX1_lay : ByteArray := prog_3_method_3_code
def yX1_lay : MethodName := ⟨RX1, "lay", "(IIIII)V"⟩
abbrev cX1_has : ByteArray := prog_3_method_6_code
def yX1_has : MethodName := ⟨RX1, "has", "(JIZ)Z"⟩
abbrev cX1_where : ByteArray := prog_3_method_5_code
def yX1_where : MethodName := ⟨RX1, "where", "(JZ)I"⟩
abbrev cX1_in : ByteArray := prog_3_method_4_code
def yX1_in : MethodName := ⟨RX1, "in", "(JJJ)Z"⟩
abbrev cX1_read : ByteArray := prog_3_method_7_code
def yX1_read : MethodName := ⟨RX1, "read", "(JI)J"⟩
abbrev cX1_write : ByteArray := prog_3_method_8_code
def yX1_write : MethodName := ⟨RX1, "write", "(JIJ)V"⟩
abbrev cX1_moveBreak : ByteArray := prog_3_method_9_code
def yX1_moveBreak : MethodName := ⟨RX1, "moveBreak", "(J)J"⟩
theorem q84 : (Jvm.Cond.initialized "FlagMachine$Memory") ∈ lw_all := lw_g (lw_at lw_m1 2 rfl) rfl
theorem q103 : (Jvm.Cond.instantiable "FlagMachine$Memory" (10 : Nat)) ∈ lw_all := lw_g (lw_at lw_m1 21 rfl) rfl
theorem q105 : (Jvm.Cond.instanceMethod ({ cls := "FlagMachine$Memory", name := "<init>", desc := "(I)V" } : Jvm.MethodName)) ∈ lw_all := lw_g (lw_at lw_m1 23 rfl) rfl
theorem q106 : (Jvm.Cond.code ({ cls := "FlagMachine$Memory", name := "<init>", desc := "(I)V" } : Jvm.MethodName) prog_3_method_1_code (2 : Nat) (Option.none : Option Jvm.ClassFile.FieldType)) ∈ lw_all := lw_g (lw_at lw_m1 24 rfl) rfl
theorem q107 : (Jvm.Cond.methodLink "FlagMachine$Memory" (1 : Nat) ({ cls := "java/lang/Object", name := "<init>", desc := "()V" } : Jvm.MethodName)) ∈ lw_all := lw_g (lw_at lw_m1 25 rfl) rfl
theorem q108 : (Jvm.Cond.constantLong "FlagMachine$Memory" (9 : Nat) (4194304 : Int64)) ∈ lw_all := lw_g (lw_at lw_m1 26 rfl) rfl
theorem q109 : (Jvm.Cond.constant "FlagMachine$Memory" (22 : Nat) (65536 : Int32)) ∈ lw_all := lw_g (lw_at lw_m1 27 rfl) rfl
theorem q110 : (Jvm.Cond.fieldLink "FlagMachine$Memory" (26 : Nat) "FlagMachine$Memory" "bytes" "[B") ∈ lw_all := lw_g (lw_at lw_m1 28 rfl) rfl
theorem q113 : (Jvm.Cond.fieldLink "FlagMachine$Memory" (18 : Nat) "FlagMachine$Memory" "heapAt" "I") ∈ lw_all := lw_g (lw_at lw_m1 31 rfl) rfl
theorem q114 : (Jvm.Cond.fieldLink "FlagMachine$Memory" (23 : Nat) "FlagMachine$Memory" "stackAt" "I") ∈ lw_all := lw_g (lw_at lw_m1 32 rfl) rfl
theorem q115 : (Jvm.Cond.fieldLink "FlagMachine$Memory" (37 : Nat) "FlagMachine$Memory" "textEnd" "I") ∈ lw_all := lw_g (lw_at lw_m1 33 rfl) rfl
theorem q116 : (Jvm.Cond.fieldLink "FlagMachine$Memory" (40 : Nat) "FlagMachine$Memory" "rodataBegin" "I") ∈ lw_all := lw_g (lw_at lw_m1 34 rfl) rfl
theorem q117 : (Jvm.Cond.fieldLink "FlagMachine$Memory" (43 : Nat) "FlagMachine$Memory" "rodataEnd" "I") ∈ lw_all := lw_g (lw_at lw_m1 35 rfl) rfl
theorem q118 : (Jvm.Cond.fieldLink "FlagMachine$Memory" (46 : Nat) "FlagMachine$Memory" "dataBegin" "I") ∈ lw_all := lw_g (lw_at lw_m1 36 rfl) rfl
theorem q119 : (Jvm.Cond.fieldLink "FlagMachine$Memory" (49 : Nat) "FlagMachine$Memory" "dataEnd" "I") ∈ lw_all := lw_g (lw_at lw_m1 37 rfl) rfl
theorem q120 : (Jvm.Cond.fieldLink "FlagMachine$Memory" (11 : Nat) "FlagMachine$Memory" "heap" "J") ∈ lw_all := lw_g (lw_at lw_m1 38 rfl) rfl
theorem q121 : (Jvm.Cond.fieldLink "FlagMachine$Memory" (15 : Nat) "FlagMachine$Memory" "broken" "J") ∈ lw_all := lw_g (lw_at lw_m1 39 rfl) rfl
theorem q123 : (Jvm.Cond.laysFinal "FlagMachine$Memory" "FlagMachine$Memory" "bytes" "[B") ∈ lw_all := lw_g (lw_at lw_m1 41 rfl) rfl
theorem q124 : (Jvm.Cond.soleField "FlagMachine$Memory" "bytes") ∈ lw_all := lw_g (lw_at lw_m1 42 rfl) rfl
theorem q125 : (Jvm.Cond.laysFinal "FlagMachine$Memory" "FlagMachine$Memory" "heapAt" "I") ∈ lw_all := lw_g (lw_at lw_m1 43 rfl) rfl
theorem q126 : (Jvm.Cond.soleField "FlagMachine$Memory" "heapAt") ∈ lw_all := lw_g (lw_at lw_m1 44 rfl) rfl
theorem q127 : (Jvm.Cond.laysFinal "FlagMachine$Memory" "FlagMachine$Memory" "stackAt" "I") ∈ lw_all := lw_g (lw_at lw_m1 45 rfl) rfl
theorem q128 : (Jvm.Cond.soleField "FlagMachine$Memory" "stackAt") ∈ lw_all := lw_g (lw_at lw_m1 46 rfl) rfl
theorem q129 : (Jvm.Cond.lays "FlagMachine$Memory" "FlagMachine$Memory" "textEnd" "I") ∈ lw_all := lw_g (lw_at lw_m1 47 rfl) rfl
theorem q130 : (Jvm.Cond.soleField "FlagMachine$Memory" "textEnd") ∈ lw_all := lw_g (lw_at lw_m1 48 rfl) rfl
theorem q131 : (Jvm.Cond.lays "FlagMachine$Memory" "FlagMachine$Memory" "rodataBegin" "I") ∈ lw_all := lw_g (lw_at lw_m1 49 rfl) rfl
theorem q132 : (Jvm.Cond.soleField "FlagMachine$Memory" "rodataBegin") ∈ lw_all := lw_g (lw_at lw_m1 50 rfl) rfl
theorem q133 : (Jvm.Cond.lays "FlagMachine$Memory" "FlagMachine$Memory" "rodataEnd" "I") ∈ lw_all := lw_g (lw_at lw_m1 51 rfl) rfl
theorem q134 : (Jvm.Cond.soleField "FlagMachine$Memory" "rodataEnd") ∈ lw_all := lw_g (lw_at lw_m1 52 rfl) rfl
theorem q135 : (Jvm.Cond.lays "FlagMachine$Memory" "FlagMachine$Memory" "dataBegin" "I") ∈ lw_all := lw_g (lw_at lw_m1 53 rfl) rfl
theorem q136 : (Jvm.Cond.soleField "FlagMachine$Memory" "dataBegin") ∈ lw_all := lw_g (lw_at lw_m1 54 rfl) rfl
theorem q137 : (Jvm.Cond.lays "FlagMachine$Memory" "FlagMachine$Memory" "dataEnd" "I") ∈ lw_all := lw_g (lw_at lw_m1 55 rfl) rfl
theorem q138 : (Jvm.Cond.soleField "FlagMachine$Memory" "dataEnd") ∈ lw_all := lw_g (lw_at lw_m1 56 rfl) rfl
theorem q139 : (Jvm.Cond.lays "FlagMachine$Memory" "FlagMachine$Memory" "heap" "J") ∈ lw_all := lw_g (lw_at lw_m1 57 rfl) rfl
theorem q140 : (Jvm.Cond.soleField "FlagMachine$Memory" "heap") ∈ lw_all := lw_g (lw_at lw_m1 58 rfl) rfl
theorem q141 : (Jvm.Cond.lays "FlagMachine$Memory" "FlagMachine$Memory" "broken" "J") ∈ lw_all := lw_g (lw_at lw_m1 59 rfl) rfl
theorem q142 : (Jvm.Cond.soleField "FlagMachine$Memory" "broken") ∈ lw_all := lw_g (lw_at lw_m1 60 rfl) rfl
theorem q143 : (Jvm.Cond.superclass "FlagMachine$Memory" "java/lang/Object") ∈ lw_all := lw_g (lw_at lw_m1 61 rfl) rfl
theorem q275 : (Jvm.Cond.instanceMethod ({ cls := "FlagMachine$Memory", name := "load", desc := "([BI)V" } : Jvm.MethodName)) ∈ lw_all := lw_g (lw_at lw_m1 193 rfl) rfl
theorem q276 : (Jvm.Cond.selects "FlagMachine$Memory" ({ cls := "FlagMachine$Memory", name := "load", desc := "([BI)V" } : Jvm.MethodName) ({ cls := "FlagMachine$Memory", name := "load", desc := "([BI)V" } : Jvm.MethodName)) ∈ lw_all := lw_g (lw_at lw_m1 194 rfl) rfl
theorem q277 : (Jvm.Cond.code ({ cls := "FlagMachine$Memory", name := "load", desc := "([BI)V" } : Jvm.MethodName) prog_3_method_2_code (4 : Nat) (Option.none : Option Jvm.ClassFile.FieldType)) ∈ lw_all := lw_g (lw_at lw_m1 195 rfl) rfl
theorem q278 : (Jvm.Cond.methodLink "FlagMachine$Memory" (30 : Nat) ({ cls := "java/lang/System", name := "arraycopy", desc := "(Ljava/lang/Object;ILjava/lang/Object;II)V" } : Jvm.MethodName)) ∈ lw_all := lw_g (lw_at lw_m1 196 rfl) rfl
theorem q281 : (Jvm.Cond.constant "FlagMachine$Memory" (36 : Nat) (4194304 : Int32)) ∈ lw_all := lw_g (lw_at lw_m1 199 rfl) rfl
theorem q284 : (Jvm.Cond.instanceMethod ({ cls := "FlagMachine$Memory", name := "lay", desc := "(IIIII)V" } : Jvm.MethodName)) ∈ lw_all := lw_g (lw_at lw_m1 202 rfl) rfl
theorem q285 : (Jvm.Cond.selects "FlagMachine$Memory" ({ cls := "FlagMachine$Memory", name := "lay", desc := "(IIIII)V" } : Jvm.MethodName) ({ cls := "FlagMachine$Memory", name := "lay", desc := "(IIIII)V" } : Jvm.MethodName)) ∈ lw_all := lw_g (lw_at lw_m1 203 rfl) rfl
theorem q286 : (Jvm.Cond.code ({ cls := "FlagMachine$Memory", name := "lay", desc := "(IIIII)V" } : Jvm.MethodName) prog_3_method_3_code (6 : Nat) (Option.none : Option Jvm.ClassFile.FieldType)) ∈ lw_all := lw_g (lw_at lw_m1 204 rfl) rfl
theorem q397 : (Jvm.Cond.instanceMethod ({ cls := "FlagMachine$Memory", name := "has", desc := "(JIZ)Z" } : Jvm.MethodName)) ∈ lw_all := lw_g (lw_at lw_m2 75 rfl) rfl
theorem q398 : (Jvm.Cond.selects "FlagMachine$Memory" ({ cls := "FlagMachine$Memory", name := "has", desc := "(JIZ)Z" } : Jvm.MethodName) ({ cls := "FlagMachine$Memory", name := "has", desc := "(JIZ)Z" } : Jvm.MethodName)) ∈ lw_all := lw_g (lw_at lw_m2 76 rfl) rfl
theorem q399 : (Jvm.Cond.code ({ cls := "FlagMachine$Memory", name := "has", desc := "(JIZ)Z" } : Jvm.MethodName) prog_3_method_6_code (7 : Nat) (Option.some Jvm.ClassFile.FieldType.boolean)) ∈ lw_all := lw_g (lw_at lw_m2 77 rfl) rfl
theorem q400 : (Jvm.Cond.methodLink "FlagMachine$Memory" (62 : Nat) ({ cls := "FlagMachine$Memory", name := "where", desc := "(JZ)I" } : Jvm.MethodName)) ∈ lw_all := lw_g (lw_at lw_m2 78 rfl) rfl
theorem q401 : (Jvm.Cond.instanceMethod ({ cls := "FlagMachine$Memory", name := "where", desc := "(JZ)I" } : Jvm.MethodName)) ∈ lw_all := lw_g (lw_at lw_m2 79 rfl) rfl
theorem q402 : (Jvm.Cond.selects "FlagMachine$Memory" ({ cls := "FlagMachine$Memory", name := "where", desc := "(JZ)I" } : Jvm.MethodName) ({ cls := "FlagMachine$Memory", name := "where", desc := "(JZ)I" } : Jvm.MethodName)) ∈ lw_all := lw_g (lw_at lw_m2 80 rfl) rfl
theorem q403 : (Jvm.Cond.code ({ cls := "FlagMachine$Memory", name := "where", desc := "(JZ)I" } : Jvm.MethodName) prog_3_method_5_code (5 : Nat) (Option.some Jvm.ClassFile.FieldType.int)) ∈ lw_all := lw_g (lw_at lw_m2 81 rfl) rfl
theorem q404 : (Jvm.Cond.constantLong "FlagMachine$Memory" (52 : Nat) (2147414016 : Int64)) ∈ lw_all := lw_g (lw_at lw_m2 82 rfl) rfl
theorem q405 : (Jvm.Cond.constantLong "FlagMachine$Memory" (54 : Nat) (2147479552 : Int64)) ∈ lw_all := lw_g (lw_at lw_m2 83 rfl) rfl
theorem q406 : (Jvm.Cond.methodLink "FlagMachine$Memory" (56 : Nat) ({ cls := "FlagMachine$Memory", name := "in", desc := "(JJJ)Z" } : Jvm.MethodName)) ∈ lw_all := lw_g (lw_at lw_m2 84 rfl) rfl
theorem q407 : (Jvm.Cond.static ({ cls := "FlagMachine$Memory", name := "in", desc := "(JJJ)Z" } : Jvm.MethodName)) ∈ lw_all := lw_g (lw_at lw_m2 85 rfl) rfl
theorem q408 : (Jvm.Cond.code ({ cls := "FlagMachine$Memory", name := "in", desc := "(JJJ)Z" } : Jvm.MethodName) prog_3_method_4_code (6 : Nat) (Option.some Jvm.ClassFile.FieldType.boolean)) ∈ lw_all := lw_g (lw_at lw_m2 86 rfl) rfl
theorem q409 : (Jvm.Cond.constantLong "FlagMachine$Memory" (60 : Nat) (65536 : Int64)) ∈ lw_all := lw_g (lw_at lw_m2 87 rfl) rfl
theorem q411 : (Jvm.Cond.instanceMethod ({ cls := "FlagMachine$Memory", name := "read", desc := "(JI)J" } : Jvm.MethodName)) ∈ lw_all := lw_g (lw_at lw_m2 89 rfl) rfl
theorem q412 : (Jvm.Cond.selects "FlagMachine$Memory" ({ cls := "FlagMachine$Memory", name := "read", desc := "(JI)J" } : Jvm.MethodName) ({ cls := "FlagMachine$Memory", name := "read", desc := "(JI)J" } : Jvm.MethodName)) ∈ lw_all := lw_g (lw_at lw_m2 90 rfl) rfl
theorem q413 : (Jvm.Cond.code ({ cls := "FlagMachine$Memory", name := "read", desc := "(JI)J" } : Jvm.MethodName) prog_3_method_7_code (7 : Nat) (Option.some Jvm.ClassFile.FieldType.long)) ∈ lw_all := lw_g (lw_at lw_m2 91 rfl) rfl
theorem q414 : (Jvm.Cond.constantLong "FlagMachine$Memory" (66 : Nat) (255 : Int64)) ∈ lw_all := lw_g (lw_at lw_m2 92 rfl) rfl
theorem q467 : (Jvm.Cond.instanceMethod ({ cls := "FlagMachine$Memory", name := "write", desc := "(JIJ)V" } : Jvm.MethodName)) ∈ lw_all := lw_g (lw_at lw_m2 145 rfl) rfl
theorem q468 : (Jvm.Cond.selects "FlagMachine$Memory" ({ cls := "FlagMachine$Memory", name := "write", desc := "(JIJ)V" } : Jvm.MethodName) ({ cls := "FlagMachine$Memory", name := "write", desc := "(JIJ)V" } : Jvm.MethodName)) ∈ lw_all := lw_g (lw_at lw_m2 146 rfl) rfl
theorem q469 : (Jvm.Cond.code ({ cls := "FlagMachine$Memory", name := "write", desc := "(JIJ)V" } : Jvm.MethodName) prog_3_method_8_code (7 : Nat) (Option.none : Option Jvm.ClassFile.FieldType)) ∈ lw_all := lw_g (lw_at lw_m2 147 rfl) rfl
theorem q578 : (Jvm.Cond.instanceMethod ({ cls := "FlagMachine$Memory", name := "moveBreak", desc := "(J)J" } : Jvm.MethodName)) ∈ lw_all := lw_g (lw_at lw_m3 16 rfl) rfl
theorem q579 : (Jvm.Cond.selects "FlagMachine$Memory" ({ cls := "FlagMachine$Memory", name := "moveBreak", desc := "(J)J" } : Jvm.MethodName) ({ cls := "FlagMachine$Memory", name := "moveBreak", desc := "(J)J" } : Jvm.MethodName)) ∈ lw_all := lw_g (lw_at lw_m3 17 rfl) rfl
theorem q580 : (Jvm.Cond.code ({ cls := "FlagMachine$Memory", name := "moveBreak", desc := "(J)J" } : Jvm.MethodName) prog_3_method_9_code (5 : Nat) (Option.some Jvm.ClassFile.FieldType.long)) ∈ lw_all := lw_g (lw_at lw_m3 18 rfl) rfl
theorem in_X1 : ∀ w ∈ wsX10, w ∈ lw_all := lw_in wsX10 [123, 125, 127, 129, 131, 133, 135, 137, 139, 141] (by decide +kernel) (by decide +kernel)
/-! FlagMachine -/
def RX0 : String := "FlagMachine"
def TX0 : u_T := fun k => match k with
  | 0 => ("FlagMachine", "image", "[B", true)
  | 1 => ("FlagMachine", "memory", "LFlagMachine$Memory;", true)
  | _ => ("FlagMachine", "processor", "LFlagMachine$Processor;", true)
def tyX0 : Nat → FieldType := fun k => match k with
  | 0 => .array .byte
  | 1 => .object "FlagMachine$Memory"
  | _ => .object "FlagMachine$Processor"
abbrev wsX00 : List Cond := u_ws RX0 TX0 3
theorem nmX0 : ∀ a, a < 3 → ∀ b, b < 3 → a ≠ b → (TX0 a).2.1 ≠ (TX0 b).2.1 := by decide +kernel
theorem tyX0_ok : ∀ k, k < 3 → parseFieldDescriptor (TX0 k).2.2.1 = some (tyX0 k) := by decide +kernel
abbrev cX0_init : ByteArray := prog_1_method_1_code
def yX0_init : MethodName := ⟨RX0, "<init>", "()V"⟩
abbrev cX0_begin : ByteArray := prog_1_method_2_code
def yX0_begin : MethodName := ⟨RX0, "begin", "(IIIIII)Z"⟩
abbrev cX0_fill : ByteArray := prog_1_method_3_code
def yX0_fill : MethodName := ⟨RX0, "fill", "(IJ)V"⟩
abbrev cX0_op : ByteArray := prog_1_method_4_code
def yX0_op : MethodName := ⟨RX0, "op", "(III)V"⟩
abbrev cX0_operand : ByteArray := prog_1_method_5_code
def yX0_operand : MethodName := ⟨RX0, "operand", "(III)Z"⟩
abbrev cX0_memory : ByteArray := prog_1_method_6_code
def yX0_memory : MethodName := ⟨RX0, "memory", "(IIII)V"⟩
abbrev cX0_number : ByteArray := prog_1_method_7_code
def yX0_number : MethodName := ⟨RX0, "number", "(J)V"⟩
abbrev cX0_step : ByteArray := prog_1_method_8_code
def yX0_step : MethodName := ⟨RX0, "step", "(I)I"⟩
abbrev cX0_value : ByteArray := prog_1_method_9_code
def yX0_value : MethodName := ⟨RX0, "value", "()J"⟩
abbrev cX0_register : ByteArray := prog_1_method_10_code
def yX0_register : MethodName := ⟨RX0, "register", "(I)J"⟩
abbrev cX0_set : ByteArray := prog_1_method_11_code
def yX0_set : MethodName := ⟨RX0, "set", "(IJ)Z"⟩
abbrev cX0_input : ByteArray := prog_1_method_12_code
def yX0_input : MethodName := ⟨RX0, "input", "(JI)Z"⟩
abbrev cX0_output : ByteArray := prog_1_method_13_code
def yX0_output : MethodName := ⟨RX0, "output", "(I)I"⟩
abbrev cX0_peek : ByteArray := prog_1_method_14_code
def yX0_peek : MethodName := ⟨RX0, "peek", "(J)I"⟩
abbrev cX0_poke : ByteArray := prog_1_method_15_code
def yX0_poke : MethodName := ⟨RX0, "poke", "(JI)Z"⟩
theorem q83 : (Jvm.Cond.initialized "FlagMachine") ∈ lw_all := lw_g (lw_at lw_m1 1 rfl) rfl
theorem q94 : (Jvm.Cond.instantiable "FlagMachine" (3 : Nat)) ∈ lw_all := lw_g (lw_at lw_m1 12 rfl) rfl
theorem q96 : (Jvm.Cond.instanceMethod ({ cls := "FlagMachine", name := "<init>", desc := "()V" } : Jvm.MethodName)) ∈ lw_all := lw_g (lw_at lw_m1 14 rfl) rfl
theorem q97 : (Jvm.Cond.code ({ cls := "FlagMachine", name := "<init>", desc := "()V" } : Jvm.MethodName) prog_1_method_1_code (1 : Nat) (Option.none : Option Jvm.ClassFile.FieldType)) ∈ lw_all := lw_g (lw_at lw_m1 15 rfl) rfl
theorem q98 : (Jvm.Cond.methodLink "FlagMachine" (1 : Nat) ({ cls := "java/lang/Object", name := "<init>", desc := "()V" } : Jvm.MethodName)) ∈ lw_all := lw_g (lw_at lw_m1 16 rfl) rfl
theorem q101 : (Jvm.Cond.constant "FlagMachine" (9 : Nat) (262144 : Int32)) ∈ lw_all := lw_g (lw_at lw_m1 19 rfl) rfl
theorem q102 : (Jvm.Cond.classLink "FlagMachine" (14 : Nat) "FlagMachine$Memory") ∈ lw_all := lw_g (lw_at lw_m1 20 rfl) rfl
theorem q104 : (Jvm.Cond.methodLink "FlagMachine" (16 : Nat) ({ cls := "FlagMachine$Memory", name := "<init>", desc := "(I)V" } : Jvm.MethodName)) ∈ lw_all := lw_g (lw_at lw_m1 22 rfl) rfl
theorem q111 : (Jvm.Cond.fieldLinkNest "FlagMachine" (130 : Nat) "FlagMachine$Memory" "bytes" "[B" "FlagMachine") ∈ lw_tbl := lw_at lw_m1 29 rfl
theorem q122 : (Jvm.Cond.fieldLinkNest "FlagMachine" (101 : Nat) "FlagMachine$Memory" "broken" "J" "FlagMachine") ∈ lw_tbl := lw_at lw_m1 40 rfl
theorem q145 : (Jvm.Cond.classLink "FlagMachine" (23 : Nat) "FlagMachine$Processor") ∈ lw_all := lw_g (lw_at lw_m1 63 rfl) rfl
theorem q147 : (Jvm.Cond.methodLink "FlagMachine" (25 : Nat) ({ cls := "FlagMachine$Processor", name := "<init>", desc := "(LFlagMachine$Memory;)V" } : Jvm.MethodName)) ∈ lw_all := lw_g (lw_at lw_m1 65 rfl) rfl
theorem q159 : (Jvm.Cond.fieldLinkNest "FlagMachine" (123 : Nat) "FlagMachine$Stream" "bytes" "[B" "FlagMachine") ∈ lw_tbl := lw_at lw_m1 77 rfl
theorem q163 : (Jvm.Cond.fieldLinkNest "FlagMachine" (111 : Nat) "FlagMachine$Stream" "size" "I" "FlagMachine") ∈ lw_tbl := lw_at lw_m1 81 rfl
theorem q202 : (Jvm.Cond.fieldLinkNest "FlagMachine" (68 : Nat) "FlagMachine$Instruction" "number" "J" "FlagMachine") ∈ lw_tbl := lw_at lw_m1 120 rfl
theorem q228 : (Jvm.Cond.fieldLinkNest "FlagMachine" (107 : Nat) "FlagMachine$Processor" "input" "LFlagMachine$Stream;" "FlagMachine") ∈ lw_tbl := lw_at lw_m1 146 rfl
theorem q230 : (Jvm.Cond.fieldLinkNest "FlagMachine" (120 : Nat) "FlagMachine$Processor" "output" "LFlagMachine$Stream;" "FlagMachine") ∈ lw_tbl := lw_at lw_m1 148 rfl
theorem q232 : (Jvm.Cond.fieldLinkNest "FlagMachine" (52 : Nat) "FlagMachine$Processor" "i" "LFlagMachine$Instruction;" "FlagMachine") ∈ lw_tbl := lw_at lw_m1 150 rfl
theorem q234 : (Jvm.Cond.fieldLinkNest "FlagMachine" (89 : Nat) "FlagMachine$Processor" "\x72" "[J" "FlagMachine") ∈ lw_tbl := lw_at lw_m1 152 rfl
theorem q236 : (Jvm.Cond.fieldLinkNest "FlagMachine" (93 : Nat) "FlagMachine$Processor" "ip" "J" "FlagMachine") ∈ lw_tbl := lw_at lw_m1 154 rfl
theorem q239 : (Jvm.Cond.fieldLinkNest "FlagMachine" (86 : Nat) "FlagMachine$Processor" "stopValue" "J" "FlagMachine") ∈ lw_tbl := lw_at lw_m1 157 rfl
theorem q241 : (Jvm.Cond.fieldLinkNest "FlagMachine" (98 : Nat) "FlagMachine$Processor" "flags" "I" "FlagMachine") ∈ lw_tbl := lw_at lw_m1 159 rfl
theorem q243 : (Jvm.Cond.fieldLinkNest "FlagMachine" (72 : Nat) "FlagMachine$Processor" "stop" "I" "FlagMachine") ∈ lw_tbl := lw_at lw_m1 161 rfl
theorem q245 : (Jvm.Cond.fieldLinkNest "FlagMachine" (104 : Nat) "FlagMachine$Processor" "done" "I" "FlagMachine") ∈ lw_tbl := lw_at lw_m1 163 rfl
theorem q270 : (Jvm.Cond.methodLink "FlagMachine" (32 : Nat) ({ cls := "FlagMachine", name := "begin", desc := "(IIIIII)Z" } : Jvm.MethodName)) ∈ lw_all := lw_g (lw_at lw_m1 188 rfl) rfl
theorem q271 : (Jvm.Cond.instanceMethod ({ cls := "FlagMachine", name := "begin", desc := "(IIIIII)Z" } : Jvm.MethodName)) ∈ lw_all := lw_g (lw_at lw_m1 189 rfl) rfl
theorem q272 : (Jvm.Cond.selects "FlagMachine" ({ cls := "FlagMachine", name := "begin", desc := "(IIIIII)Z" } : Jvm.MethodName) ({ cls := "FlagMachine", name := "begin", desc := "(IIIIII)Z" } : Jvm.MethodName)) ∈ lw_all := lw_g (lw_at lw_m1 190 rfl) rfl
theorem q273 : (Jvm.Cond.code ({ cls := "FlagMachine", name := "begin", desc := "(IIIIII)Z" } : Jvm.MethodName) prog_1_method_2_code (7 : Nat) (Option.some Jvm.ClassFile.FieldType.boolean)) ∈ lw_all := lw_g (lw_at lw_m1 191 rfl) rfl
theorem q274 : (Jvm.Cond.methodLink "FlagMachine" (36 : Nat) ({ cls := "FlagMachine$Memory", name := "load", desc := "([BI)V" } : Jvm.MethodName)) ∈ lw_all := lw_g (lw_at lw_m1 192 rfl) rfl
theorem q282 : (Jvm.Cond.constant "FlagMachine" (40 : Nat) (4194304 : Int32)) ∈ lw_all := lw_g (lw_at lw_m1 200 rfl) rfl
theorem q283 : (Jvm.Cond.methodLink "FlagMachine" (41 : Nat) ({ cls := "FlagMachine$Memory", name := "lay", desc := "(IIIII)V" } : Jvm.MethodName)) ∈ lw_all := lw_g (lw_at lw_m1 201 rfl) rfl
theorem q287 : (Jvm.Cond.constantLong "FlagMachine" (45 : Nat) (4194304 : Int64)) ∈ lw_all := lw_g (lw_at lw_m1 205 rfl) rfl
theorem q288 : (Jvm.Cond.methodLink "FlagMachine" (47 : Nat) ({ cls := "FlagMachine$Processor", name := "load", desc := "(J)V" } : Jvm.MethodName)) ∈ lw_all := lw_g (lw_at lw_m1 206 rfl) rfl
theorem q293 : (Jvm.Cond.fieldLink "FlagMachine" (10 : Nat) "FlagMachine" "image" "[B") ∈ lw_all := lw_g (lw_at lw_m1 211 rfl) rfl
theorem q294 : (Jvm.Cond.fieldLink "FlagMachine" (19 : Nat) "FlagMachine" "memory" "LFlagMachine$Memory;") ∈ lw_all := lw_g (lw_at lw_m1 212 rfl) rfl
theorem q295 : (Jvm.Cond.fieldLink "FlagMachine" (28 : Nat) "FlagMachine" "processor" "LFlagMachine$Processor;") ∈ lw_all := lw_g (lw_at lw_m1 213 rfl) rfl
theorem q296 : (Jvm.Cond.laysFinal "FlagMachine" "FlagMachine" "image" "[B") ∈ lw_all := lw_g (lw_at lw_m1 214 rfl) rfl
theorem q297 : (Jvm.Cond.soleField "FlagMachine" "image") ∈ lw_all := lw_g (lw_at lw_m1 215 rfl) rfl
theorem q298 : (Jvm.Cond.laysFinal "FlagMachine" "FlagMachine" "memory" "LFlagMachine$Memory;") ∈ lw_all := lw_g (lw_at lw_m1 216 rfl) rfl
theorem q299 : (Jvm.Cond.soleField "FlagMachine" "memory") ∈ lw_all := lw_g (lw_at lw_m1 217 rfl) rfl
theorem q300 : (Jvm.Cond.laysFinal "FlagMachine" "FlagMachine" "processor" "LFlagMachine$Processor;") ∈ lw_all := lw_g (lw_at lw_m1 218 rfl) rfl
theorem q301 : (Jvm.Cond.soleField "FlagMachine" "processor") ∈ lw_all := lw_g (lw_at lw_m1 219 rfl) rfl
theorem q302 : (Jvm.Cond.superclass "FlagMachine" "java/lang/Object") ∈ lw_all := lw_g (lw_at lw_m1 220 rfl) rfl
theorem q305 : (Jvm.Cond.instanceMethod ({ cls := "FlagMachine", name := "fill", desc := "(IJ)V" } : Jvm.MethodName)) ∈ lw_all := lw_g (lw_at lw_m1 223 rfl) rfl
theorem q306 : (Jvm.Cond.selects "FlagMachine" ({ cls := "FlagMachine", name := "fill", desc := "(IJ)V" } : Jvm.MethodName) ({ cls := "FlagMachine", name := "fill", desc := "(IJ)V" } : Jvm.MethodName)) ∈ lw_all := lw_g (lw_at lw_m1 224 rfl) rfl
theorem q307 : (Jvm.Cond.code ({ cls := "FlagMachine", name := "fill", desc := "(IJ)V" } : Jvm.MethodName) prog_1_method_3_code (7 : Nat) (Option.none : Option Jvm.ClassFile.FieldType)) ∈ lw_all := lw_g (lw_at lw_m1 225 rfl) rfl
theorem q308 : (Jvm.Cond.constantLong "FlagMachine" (50 : Nat) (262144 : Int64)) ∈ lw_all := lw_g (lw_at lw_m1 226 rfl) rfl
theorem q310 : (Jvm.Cond.instanceMethod ({ cls := "FlagMachine", name := "op", desc := "(III)V" } : Jvm.MethodName)) ∈ lw_all := lw_g (lw_at lw_m1 228 rfl) rfl
theorem q311 : (Jvm.Cond.selects "FlagMachine" ({ cls := "FlagMachine", name := "op", desc := "(III)V" } : Jvm.MethodName) ({ cls := "FlagMachine", name := "op", desc := "(III)V" } : Jvm.MethodName)) ∈ lw_all := lw_g (lw_at lw_m1 229 rfl) rfl
theorem q312 : (Jvm.Cond.code ({ cls := "FlagMachine", name := "op", desc := "(III)V" } : Jvm.MethodName) prog_1_method_4_code (4 : Nat) (Option.none : Option Jvm.ClassFile.FieldType)) ∈ lw_all := lw_g (lw_at lw_m1 230 rfl) rfl
theorem q313 : (Jvm.Cond.methodLink "FlagMachine" (56 : Nat) ({ cls := "FlagMachine$Instruction", name := "clear", desc := "(III)V" } : Jvm.MethodName)) ∈ lw_all := lw_g (lw_at lw_m1 231 rfl) rfl
theorem q318 : (Jvm.Cond.instanceMethod ({ cls := "FlagMachine", name := "operand", desc := "(III)Z" } : Jvm.MethodName)) ∈ lw_all := lw_g (lw_at lw_m1 236 rfl) rfl
theorem q319 : (Jvm.Cond.selects "FlagMachine" ({ cls := "FlagMachine", name := "operand", desc := "(III)Z" } : Jvm.MethodName) ({ cls := "FlagMachine", name := "operand", desc := "(III)Z" } : Jvm.MethodName)) ∈ lw_all := lw_g (lw_at lw_m1 237 rfl) rfl
theorem q320 : (Jvm.Cond.code ({ cls := "FlagMachine", name := "operand", desc := "(III)Z" } : Jvm.MethodName) prog_1_method_5_code (4 : Nat) (Option.some Jvm.ClassFile.FieldType.boolean)) ∈ lw_all := lw_g (lw_at lw_m1 238 rfl) rfl
theorem q321 : (Jvm.Cond.methodLink "FlagMachine" (62 : Nat) ({ cls := "FlagMachine$Instruction", name := "put", desc := "(III)V" } : Jvm.MethodName)) ∈ lw_all := lw_g (lw_at lw_m1 239 rfl) rfl
theorem q326 : (Jvm.Cond.instanceMethod ({ cls := "FlagMachine", name := "memory", desc := "(IIII)V" } : Jvm.MethodName)) ∈ lw_all := lw_g (lw_at lw_m2 4 rfl) rfl
theorem q327 : (Jvm.Cond.selects "FlagMachine" ({ cls := "FlagMachine", name := "memory", desc := "(IIII)V" } : Jvm.MethodName) ({ cls := "FlagMachine", name := "memory", desc := "(IIII)V" } : Jvm.MethodName)) ∈ lw_all := lw_g (lw_at lw_m2 5 rfl) rfl
theorem q328 : (Jvm.Cond.code ({ cls := "FlagMachine", name := "memory", desc := "(IIII)V" } : Jvm.MethodName) prog_1_method_6_code (5 : Nat) (Option.none : Option Jvm.ClassFile.FieldType)) ∈ lw_all := lw_g (lw_at lw_m2 6 rfl) rfl
theorem q329 : (Jvm.Cond.methodLink "FlagMachine" (65 : Nat) ({ cls := "FlagMachine$Instruction", name := "memory", desc := "(IIII)V" } : Jvm.MethodName)) ∈ lw_all := lw_g (lw_at lw_m2 7 rfl) rfl
theorem q334 : (Jvm.Cond.instanceMethod ({ cls := "FlagMachine", name := "number", desc := "(J)V" } : Jvm.MethodName)) ∈ lw_all := lw_g (lw_at lw_m2 12 rfl) rfl
theorem q335 : (Jvm.Cond.selects "FlagMachine" ({ cls := "FlagMachine", name := "number", desc := "(J)V" } : Jvm.MethodName) ({ cls := "FlagMachine", name := "number", desc := "(J)V" } : Jvm.MethodName)) ∈ lw_all := lw_g (lw_at lw_m2 13 rfl) rfl
theorem q336 : (Jvm.Cond.code ({ cls := "FlagMachine", name := "number", desc := "(J)V" } : Jvm.MethodName) prog_1_method_7_code (3 : Nat) (Option.none : Option Jvm.ClassFile.FieldType)) ∈ lw_all := lw_g (lw_at lw_m2 14 rfl) rfl
theorem q338 : (Jvm.Cond.instanceMethod ({ cls := "FlagMachine", name := "step", desc := "(I)I" } : Jvm.MethodName)) ∈ lw_all := lw_g (lw_at lw_m2 16 rfl) rfl
theorem q339 : (Jvm.Cond.selects "FlagMachine" ({ cls := "FlagMachine", name := "step", desc := "(I)I" } : Jvm.MethodName) ({ cls := "FlagMachine", name := "step", desc := "(I)I" } : Jvm.MethodName)) ∈ lw_all := lw_g (lw_at lw_m2 17 rfl) rfl
theorem q340 : (Jvm.Cond.code ({ cls := "FlagMachine", name := "step", desc := "(I)I" } : Jvm.MethodName) prog_1_method_8_code (2 : Nat) (Option.some Jvm.ClassFile.FieldType.int)) ∈ lw_all := lw_g (lw_at lw_m2 18 rfl) rfl
theorem q341 : (Jvm.Cond.methodLink "FlagMachine" (76 : Nat) ({ cls := "FlagMachine$Sound", name := "is", desc := "(LFlagMachine$Instruction;)Z" } : Jvm.MethodName)) ∈ lw_all := lw_g (lw_at lw_m2 19 rfl) rfl
theorem q372 : (Jvm.Cond.methodLink "FlagMachine" (82 : Nat) ({ cls := "FlagMachine$Processor", name := "step", desc := "(I)Z" } : Jvm.MethodName)) ∈ lw_all := lw_g (lw_at lw_m2 50 rfl) rfl
theorem q618 : (Jvm.Cond.instanceMethod ({ cls := "FlagMachine", name := "value", desc := "()J" } : Jvm.MethodName)) ∈ lw_all := lw_g (lw_at lw_m3 56 rfl) rfl
theorem q619 : (Jvm.Cond.selects "FlagMachine" ({ cls := "FlagMachine", name := "value", desc := "()J" } : Jvm.MethodName) ({ cls := "FlagMachine", name := "value", desc := "()J" } : Jvm.MethodName)) ∈ lw_all := lw_g (lw_at lw_m3 57 rfl) rfl
theorem q620 : (Jvm.Cond.code ({ cls := "FlagMachine", name := "value", desc := "()J" } : Jvm.MethodName) prog_1_method_9_code (1 : Nat) (Option.some Jvm.ClassFile.FieldType.long)) ∈ lw_all := lw_g (lw_at lw_m3 58 rfl) rfl
theorem q622 : (Jvm.Cond.instanceMethod ({ cls := "FlagMachine", name := "register", desc := "(I)J" } : Jvm.MethodName)) ∈ lw_all := lw_g (lw_at lw_m3 60 rfl) rfl
theorem q623 : (Jvm.Cond.selects "FlagMachine" ({ cls := "FlagMachine", name := "register", desc := "(I)J" } : Jvm.MethodName) ({ cls := "FlagMachine", name := "register", desc := "(I)J" } : Jvm.MethodName)) ∈ lw_all := lw_g (lw_at lw_m3 61 rfl) rfl
theorem q624 : (Jvm.Cond.code ({ cls := "FlagMachine", name := "register", desc := "(I)J" } : Jvm.MethodName) prog_1_method_10_code (2 : Nat) (Option.some Jvm.ClassFile.FieldType.long)) ∈ lw_all := lw_g (lw_at lw_m3 62 rfl) rfl
theorem q625 : (Jvm.Cond.constantLong "FlagMachine" (96 : Nat) (2 : Int64)) ∈ lw_all := lw_g (lw_at lw_m3 63 rfl) rfl
theorem q627 : (Jvm.Cond.instanceMethod ({ cls := "FlagMachine", name := "set", desc := "(IJ)Z" } : Jvm.MethodName)) ∈ lw_all := lw_g (lw_at lw_m3 65 rfl) rfl
theorem q628 : (Jvm.Cond.selects "FlagMachine" ({ cls := "FlagMachine", name := "set", desc := "(IJ)Z" } : Jvm.MethodName) ({ cls := "FlagMachine", name := "set", desc := "(IJ)Z" } : Jvm.MethodName)) ∈ lw_all := lw_g (lw_at lw_m3 66 rfl) rfl
theorem q629 : (Jvm.Cond.code ({ cls := "FlagMachine", name := "set", desc := "(IJ)Z" } : Jvm.MethodName) prog_1_method_11_code (4 : Nat) (Option.some Jvm.ClassFile.FieldType.boolean)) ∈ lw_all := lw_g (lw_at lw_m3 67 rfl) rfl
theorem q631 : (Jvm.Cond.instanceMethod ({ cls := "FlagMachine", name := "input", desc := "(JI)Z" } : Jvm.MethodName)) ∈ lw_all := lw_g (lw_at lw_m3 69 rfl) rfl
theorem q632 : (Jvm.Cond.selects "FlagMachine" ({ cls := "FlagMachine", name := "input", desc := "(JI)Z" } : Jvm.MethodName) ({ cls := "FlagMachine", name := "input", desc := "(JI)Z" } : Jvm.MethodName)) ∈ lw_all := lw_g (lw_at lw_m3 70 rfl) rfl
theorem q633 : (Jvm.Cond.code ({ cls := "FlagMachine", name := "input", desc := "(JI)Z" } : Jvm.MethodName) prog_1_method_12_code (5 : Nat) (Option.some Jvm.ClassFile.FieldType.boolean)) ∈ lw_all := lw_g (lw_at lw_m3 71 rfl) rfl
theorem q634 : (Jvm.Cond.constant "FlagMachine" (116 : Nat) (65536 : Int32)) ∈ lw_all := lw_g (lw_at lw_m3 72 rfl) rfl
theorem q635 : (Jvm.Cond.methodLink "FlagMachine" (117 : Nat) ({ cls := "FlagMachine$Stream", name := "add", desc := "(I)V" } : Jvm.MethodName)) ∈ lw_all := lw_g (lw_at lw_m3 73 rfl) rfl
theorem q637 : (Jvm.Cond.instanceMethod ({ cls := "FlagMachine", name := "output", desc := "(I)I" } : Jvm.MethodName)) ∈ lw_all := lw_g (lw_at lw_m3 75 rfl) rfl
theorem q638 : (Jvm.Cond.selects "FlagMachine" ({ cls := "FlagMachine", name := "output", desc := "(I)I" } : Jvm.MethodName) ({ cls := "FlagMachine", name := "output", desc := "(I)I" } : Jvm.MethodName)) ∈ lw_all := lw_g (lw_at lw_m3 76 rfl) rfl
theorem q639 : (Jvm.Cond.code ({ cls := "FlagMachine", name := "output", desc := "(I)I" } : Jvm.MethodName) prog_1_method_13_code (2 : Nat) (Option.some Jvm.ClassFile.FieldType.int)) ∈ lw_all := lw_g (lw_at lw_m3 77 rfl) rfl
theorem q641 : (Jvm.Cond.instanceMethod ({ cls := "FlagMachine", name := "peek", desc := "(J)I" } : Jvm.MethodName)) ∈ lw_all := lw_g (lw_at lw_m3 79 rfl) rfl
theorem q642 : (Jvm.Cond.selects "FlagMachine" ({ cls := "FlagMachine", name := "peek", desc := "(J)I" } : Jvm.MethodName) ({ cls := "FlagMachine", name := "peek", desc := "(J)I" } : Jvm.MethodName)) ∈ lw_all := lw_g (lw_at lw_m3 80 rfl) rfl
theorem q643 : (Jvm.Cond.code ({ cls := "FlagMachine", name := "peek", desc := "(J)I" } : Jvm.MethodName) prog_1_method_14_code (4 : Nat) (Option.some Jvm.ClassFile.FieldType.int)) ∈ lw_all := lw_g (lw_at lw_m3 81 rfl) rfl
theorem q644 : (Jvm.Cond.methodLink "FlagMachine" (126 : Nat) ({ cls := "FlagMachine$Memory", name := "where", desc := "(JZ)I" } : Jvm.MethodName)) ∈ lw_all := lw_g (lw_at lw_m3 82 rfl) rfl
theorem q646 : (Jvm.Cond.instanceMethod ({ cls := "FlagMachine", name := "poke", desc := "(JI)Z" } : Jvm.MethodName)) ∈ lw_all := lw_g (lw_at lw_m3 84 rfl) rfl
theorem q647 : (Jvm.Cond.selects "FlagMachine" ({ cls := "FlagMachine", name := "poke", desc := "(JI)Z" } : Jvm.MethodName) ({ cls := "FlagMachine", name := "poke", desc := "(JI)Z" } : Jvm.MethodName)) ∈ lw_all := lw_g (lw_at lw_m3 85 rfl) rfl
theorem q648 : (Jvm.Cond.code ({ cls := "FlagMachine", name := "poke", desc := "(JI)Z" } : Jvm.MethodName) prog_1_method_15_code (5 : Nat) (Option.some Jvm.ClassFile.FieldType.boolean)) ∈ lw_all := lw_g (lw_at lw_m3 86 rfl) rfl
theorem in_X0 : ∀ w ∈ wsX00, w ∈ lw_all := lw_in wsX00 [296, 298, 300] (by decide +kernel) (by decide +kernel)
/-! FlagMachine$Sound -/
def RX6 : String := "FlagMachine$Sound"
abbrev cX6_is : ByteArray := prog_5_method_3_code
def yX6_is : MethodName := ⟨RX6, "is", "(LFlagMachine$Instruction;)Z"⟩
abbrev cX6_in : ByteArray := prog_5_method_2_code
def yX6_in : MethodName := ⟨RX6, "in", "(JJJ)Z"⟩
abbrev cX6_isSize : ByteArray := prog_5_method_4_code
def yX6_isSize : MethodName := ⟨RX6, "isSize", "(II)Z"⟩
abbrev cX6_operands : ByteArray := prog_5_method_8_code
def yX6_operands : MethodName := ⟨RX6, "operands", "(LFlagMachine$Instruction;)Z"⟩
abbrev cX6_isMemory : ByteArray := prog_5_method_7_code
def yX6_isMemory : MethodName := ⟨RX6, "isMemory", "(LFlagMachine$Instruction;)Z"⟩
abbrev cX6_isNumber : ByteArray := prog_5_method_5_code
def yX6_isNumber : MethodName := ⟨RX6, "isNumber", "(LFlagMachine$Instruction;)Z"⟩
abbrev cX6_fits : ByteArray := prog_5_method_6_code
def yX6_fits : MethodName := ⟨RX6, "fits", "(LFlagMachine$Instruction;)Z"⟩
theorem q90 : (Jvm.Cond.initialized "FlagMachine$Sound") ∈ lw_all := lw_g (lw_at lw_m1 8 rfl) rfl
theorem q176 : (Jvm.Cond.fieldLinkNest "FlagMachine$Sound" (7 : Nat) "FlagMachine$Instruction" "op" "I" "FlagMachine") ∈ lw_tbl := lw_at lw_m1 94 rfl
theorem q179 : (Jvm.Cond.fieldLinkNest "FlagMachine$Sound" (21 : Nat) "FlagMachine$Instruction" "size" "I" "FlagMachine") ∈ lw_tbl := lw_at lw_m1 97 rfl
theorem q182 : (Jvm.Cond.fieldLinkNest "FlagMachine$Sound" (28 : Nat) "FlagMachine$Instruction" "condition" "I" "FlagMachine") ∈ lw_tbl := lw_at lw_m1 100 rfl
theorem q185 : (Jvm.Cond.fieldLinkNest "FlagMachine$Sound" (33 : Nat) "FlagMachine$Instruction" "kinds" "[I" "FlagMachine") ∈ lw_tbl := lw_at lw_m1 103 rfl
theorem q188 : (Jvm.Cond.fieldLinkNest "FlagMachine$Sound" (81 : Nat) "FlagMachine$Instruction" "registers" "[I" "FlagMachine") ∈ lw_tbl := lw_at lw_m1 106 rfl
theorem q192 : (Jvm.Cond.fieldLinkNest "FlagMachine$Sound" (71 : Nat) "FlagMachine$Instruction" "base" "I" "FlagMachine") ∈ lw_tbl := lw_at lw_m1 110 rfl
theorem q195 : (Jvm.Cond.fieldLinkNest "FlagMachine$Sound" (68 : Nat) "FlagMachine$Instruction" "index" "I" "FlagMachine") ∈ lw_tbl := lw_at lw_m1 113 rfl
theorem q198 : (Jvm.Cond.fieldLinkNest "FlagMachine$Sound" (78 : Nat) "FlagMachine$Instruction" "scale" "I" "FlagMachine") ∈ lw_tbl := lw_at lw_m1 116 rfl
theorem q201 : (Jvm.Cond.fieldLinkNest "FlagMachine$Sound" (50 : Nat) "FlagMachine$Instruction" "number" "J" "FlagMachine") ∈ lw_tbl := lw_at lw_m1 119 rfl
theorem q342 : (Jvm.Cond.static ({ cls := "FlagMachine$Sound", name := "is", desc := "(LFlagMachine$Instruction;)Z" } : Jvm.MethodName)) ∈ lw_all := lw_g (lw_at lw_m2 20 rfl) rfl
theorem q343 : (Jvm.Cond.code ({ cls := "FlagMachine$Sound", name := "is", desc := "(LFlagMachine$Instruction;)Z" } : Jvm.MethodName) prog_5_method_3_code (2 : Nat) (Option.some Jvm.ClassFile.FieldType.boolean)) ∈ lw_all := lw_g (lw_at lw_m2 21 rfl) rfl
theorem q344 : (Jvm.Cond.constantLong "FlagMachine$Sound" (13 : Nat) (53 : Int64)) ∈ lw_all := lw_g (lw_at lw_m2 22 rfl) rfl
theorem q345 : (Jvm.Cond.methodLink "FlagMachine$Sound" (15 : Nat) ({ cls := "FlagMachine$Sound", name := "in", desc := "(JJJ)Z" } : Jvm.MethodName)) ∈ lw_all := lw_g (lw_at lw_m2 23 rfl) rfl
theorem q346 : (Jvm.Cond.static ({ cls := "FlagMachine$Sound", name := "in", desc := "(JJJ)Z" } : Jvm.MethodName)) ∈ lw_all := lw_g (lw_at lw_m2 24 rfl) rfl
theorem q347 : (Jvm.Cond.code ({ cls := "FlagMachine$Sound", name := "in", desc := "(JJJ)Z" } : Jvm.MethodName) prog_5_method_2_code (6 : Nat) (Option.some Jvm.ClassFile.FieldType.boolean)) ∈ lw_all := lw_g (lw_at lw_m2 25 rfl) rfl
theorem q348 : (Jvm.Cond.methodLink "FlagMachine$Sound" (24 : Nat) ({ cls := "FlagMachine$Sound", name := "isSize", desc := "(II)Z" } : Jvm.MethodName)) ∈ lw_all := lw_g (lw_at lw_m2 26 rfl) rfl
theorem q349 : (Jvm.Cond.static ({ cls := "FlagMachine$Sound", name := "isSize", desc := "(II)Z" } : Jvm.MethodName)) ∈ lw_all := lw_g (lw_at lw_m2 27 rfl) rfl
theorem q350 : (Jvm.Cond.code ({ cls := "FlagMachine$Sound", name := "isSize", desc := "(II)Z" } : Jvm.MethodName) prog_5_method_4_code (5 : Nat) (Option.some Jvm.ClassFile.FieldType.boolean)) ∈ lw_all := lw_g (lw_at lw_m2 28 rfl) rfl
theorem q351 : (Jvm.Cond.constantLong "FlagMachine$Sound" (31 : Nat) (15 : Int64)) ∈ lw_all := lw_g (lw_at lw_m2 29 rfl) rfl
theorem q352 : (Jvm.Cond.methodLink "FlagMachine$Sound" (37 : Nat) ({ cls := "FlagMachine$Sound", name := "operands", desc := "(LFlagMachine$Instruction;)Z" } : Jvm.MethodName)) ∈ lw_all := lw_g (lw_at lw_m2 30 rfl) rfl
theorem q353 : (Jvm.Cond.static ({ cls := "FlagMachine$Sound", name := "operands", desc := "(LFlagMachine$Instruction;)Z" } : Jvm.MethodName)) ∈ lw_all := lw_g (lw_at lw_m2 31 rfl) rfl
theorem q354 : (Jvm.Cond.code ({ cls := "FlagMachine$Sound", name := "operands", desc := "(LFlagMachine$Instruction;)Z" } : Jvm.MethodName) prog_5_method_8_code (9 : Nat) (Option.some Jvm.ClassFile.FieldType.boolean)) ∈ lw_all := lw_g (lw_at lw_m2 32 rfl) rfl
theorem q355 : (Jvm.Cond.methodLink "FlagMachine$Sound" (41 : Nat) ({ cls := "FlagMachine$Sound", name := "isMemory", desc := "(LFlagMachine$Instruction;)Z" } : Jvm.MethodName)) ∈ lw_all := lw_g (lw_at lw_m2 33 rfl) rfl
theorem q356 : (Jvm.Cond.static ({ cls := "FlagMachine$Sound", name := "isMemory", desc := "(LFlagMachine$Instruction;)Z" } : Jvm.MethodName)) ∈ lw_all := lw_g (lw_at lw_m2 34 rfl) rfl
theorem q357 : (Jvm.Cond.code ({ cls := "FlagMachine$Sound", name := "isMemory", desc := "(LFlagMachine$Instruction;)Z" } : Jvm.MethodName) prog_5_method_7_code (2 : Nat) (Option.some Jvm.ClassFile.FieldType.boolean)) ∈ lw_all := lw_g (lw_at lw_m2 35 rfl) rfl
theorem q358 : (Jvm.Cond.constantLong "FlagMachine$Sound" (74 : Nat) (-1 : Int64)) ∈ lw_all := lw_g (lw_at lw_m2 36 rfl) rfl
theorem q359 : (Jvm.Cond.constantLong "FlagMachine$Sound" (76 : Nat) (16 : Int64)) ∈ lw_all := lw_g (lw_at lw_m2 37 rfl) rfl
theorem q360 : (Jvm.Cond.methodLink "FlagMachine$Sound" (44 : Nat) ({ cls := "FlagMachine$Sound", name := "isNumber", desc := "(LFlagMachine$Instruction;)Z" } : Jvm.MethodName)) ∈ lw_all := lw_g (lw_at lw_m2 38 rfl) rfl
theorem q361 : (Jvm.Cond.static ({ cls := "FlagMachine$Sound", name := "isNumber", desc := "(LFlagMachine$Instruction;)Z" } : Jvm.MethodName)) ∈ lw_all := lw_g (lw_at lw_m2 39 rfl) rfl
theorem q362 : (Jvm.Cond.code ({ cls := "FlagMachine$Sound", name := "isNumber", desc := "(LFlagMachine$Instruction;)Z" } : Jvm.MethodName) prog_5_method_5_code (1 : Nat) (Option.some Jvm.ClassFile.FieldType.boolean)) ∈ lw_all := lw_g (lw_at lw_m2 40 rfl) rfl
theorem q363 : (Jvm.Cond.methodLink "FlagMachine$Sound" (47 : Nat) ({ cls := "FlagMachine$Sound", name := "fits", desc := "(LFlagMachine$Instruction;)Z" } : Jvm.MethodName)) ∈ lw_all := lw_g (lw_at lw_m2 41 rfl) rfl
theorem q364 : (Jvm.Cond.static ({ cls := "FlagMachine$Sound", name := "fits", desc := "(LFlagMachine$Instruction;)Z" } : Jvm.MethodName)) ∈ lw_all := lw_g (lw_at lw_m2 42 rfl) rfl
theorem q365 : (Jvm.Cond.code ({ cls := "FlagMachine$Sound", name := "fits", desc := "(LFlagMachine$Instruction;)Z" } : Jvm.MethodName) prog_5_method_6_code (1 : Nat) (Option.some Jvm.ClassFile.FieldType.boolean)) ∈ lw_all := lw_g (lw_at lw_m2 43 rfl) rfl
theorem q366 : (Jvm.Cond.constantLong "FlagMachine$Sound" (54 : Nat) (255 : Int64)) ∈ lw_all := lw_g (lw_at lw_m2 44 rfl) rfl
theorem q367 : (Jvm.Cond.constantLong "FlagMachine$Sound" (56 : Nat) (65535 : Int64)) ∈ lw_all := lw_g (lw_at lw_m2 45 rfl) rfl
theorem q368 : (Jvm.Cond.constantLong "FlagMachine$Sound" (58 : Nat) (-128 : Int64)) ∈ lw_all := lw_g (lw_at lw_m2 46 rfl) rfl
theorem q369 : (Jvm.Cond.constantLong "FlagMachine$Sound" (60 : Nat) (127 : Int64)) ∈ lw_all := lw_g (lw_at lw_m2 47 rfl) rfl
theorem q370 : (Jvm.Cond.constantLong "FlagMachine$Sound" (64 : Nat) (-2147483648 : Int64)) ∈ lw_all := lw_g (lw_at lw_m2 48 rfl) rfl
theorem q371 : (Jvm.Cond.constantLong "FlagMachine$Sound" (66 : Nat) (2147483647 : Int64)) ∈ lw_all := lw_g (lw_at lw_m2 49 rfl) rfl
theorem q82 : (Jvm.Cond.initialized "FlagMachineLaw") ∈ lw_all := lw_g (lw_at lw_m1 0 rfl) rfl
theorem q93 : (Jvm.Cond.classLink "FlagMachineLaw" (7 : Nat) "FlagMachine") ∈ lw_all := lw_g (lw_at lw_m1 11 rfl) rfl
theorem q95 : (Jvm.Cond.methodLink "FlagMachineLaw" (9 : Nat) ({ cls := "FlagMachine", name := "<init>", desc := "()V" } : Jvm.MethodName)) ∈ lw_all := lw_g (lw_at lw_m1 13 rfl) rfl
theorem q303 : (Jvm.Cond.methodLink "FlagMachineLaw" (13 : Nat) ({ cls := "FlagMachine", name := "begin", desc := "(IIIIII)Z" } : Jvm.MethodName)) ∈ lw_all := lw_g (lw_at lw_m1 221 rfl) rfl
theorem q304 : (Jvm.Cond.methodLink "FlagMachineLaw" (20 : Nat) ({ cls := "FlagMachine", name := "fill", desc := "(IJ)V" } : Jvm.MethodName)) ∈ lw_all := lw_g (lw_at lw_m1 222 rfl) rfl
theorem q309 : (Jvm.Cond.methodLink "FlagMachineLaw" (25 : Nat) ({ cls := "FlagMachine", name := "op", desc := "(III)V" } : Jvm.MethodName)) ∈ lw_all := lw_g (lw_at lw_m1 227 rfl) rfl
theorem q317 : (Jvm.Cond.methodLink "FlagMachineLaw" (30 : Nat) ({ cls := "FlagMachine", name := "operand", desc := "(III)Z" } : Jvm.MethodName)) ∈ lw_all := lw_g (lw_at lw_m1 235 rfl) rfl
theorem q325 : (Jvm.Cond.methodLink "FlagMachineLaw" (35 : Nat) ({ cls := "FlagMachine", name := "memory", desc := "(IIII)V" } : Jvm.MethodName)) ∈ lw_all := lw_g (lw_at lw_m2 3 rfl) rfl
theorem q333 : (Jvm.Cond.methodLink "FlagMachineLaw" (40 : Nat) ({ cls := "FlagMachine", name := "number", desc := "(J)V" } : Jvm.MethodName)) ∈ lw_all := lw_g (lw_at lw_m2 11 rfl) rfl
theorem q337 : (Jvm.Cond.methodLink "FlagMachineLaw" (45 : Nat) ({ cls := "FlagMachine", name := "step", desc := "(I)I" } : Jvm.MethodName)) ∈ lw_all := lw_g (lw_at lw_m2 15 rfl) rfl
theorem q617 : (Jvm.Cond.methodLink "FlagMachineLaw" (50 : Nat) ({ cls := "FlagMachine", name := "value", desc := "()J" } : Jvm.MethodName)) ∈ lw_all := lw_g (lw_at lw_m3 55 rfl) rfl
theorem q621 : (Jvm.Cond.methodLink "FlagMachineLaw" (55 : Nat) ({ cls := "FlagMachine", name := "register", desc := "(I)J" } : Jvm.MethodName)) ∈ lw_all := lw_g (lw_at lw_m3 59 rfl) rfl
theorem q626 : (Jvm.Cond.methodLink "FlagMachineLaw" (60 : Nat) ({ cls := "FlagMachine", name := "set", desc := "(IJ)Z" } : Jvm.MethodName)) ∈ lw_all := lw_g (lw_at lw_m3 64 rfl) rfl
theorem q630 : (Jvm.Cond.methodLink "FlagMachineLaw" (65 : Nat) ({ cls := "FlagMachine", name := "input", desc := "(JI)Z" } : Jvm.MethodName)) ∈ lw_all := lw_g (lw_at lw_m3 68 rfl) rfl
theorem q636 : (Jvm.Cond.methodLink "FlagMachineLaw" (70 : Nat) ({ cls := "FlagMachine", name := "output", desc := "(I)I" } : Jvm.MethodName)) ∈ lw_all := lw_g (lw_at lw_m3 74 rfl) rfl
theorem q640 : (Jvm.Cond.methodLink "FlagMachineLaw" (74 : Nat) ({ cls := "FlagMachine", name := "peek", desc := "(J)I" } : Jvm.MethodName)) ∈ lw_all := lw_g (lw_at lw_m3 78 rfl) rfl
theorem q645 : (Jvm.Cond.methodLink "FlagMachineLaw" (79 : Nat) ({ cls := "FlagMachine", name := "poke", desc := "(JI)Z" } : Jvm.MethodName)) ∈ lw_all := lw_g (lw_at lw_m3 83 rfl) rfl
theorem q649 : (Jvm.Cond.classLink "FlagMachineLaw" (10 : Nat) "FlagMachineModel") ∈ lw_all := lw_g (lw_at lw_m3 87 rfl) rfl
theorem q651 : (Jvm.Cond.methodLink "FlagMachineLaw" (12 : Nat) ({ cls := "FlagMachineModel", name := "<init>", desc := "()V" } : Jvm.MethodName)) ∈ lw_all := lw_g (lw_at lw_m3 89 rfl) rfl
theorem q795 : (Jvm.Cond.methodLink "FlagMachineLaw" (17 : Nat) ({ cls := "FlagMachineModel", name := "begin", desc := "(IIIIII)Z" } : Jvm.MethodName)) ∈ lw_all := lw_g (lw_at lw_m3 233 rfl) rfl
theorem q799 : (Jvm.Cond.methodLink "FlagMachineLaw" (24 : Nat) ({ cls := "FlagMachineModel", name := "fill", desc := "(IJ)V" } : Jvm.MethodName)) ∈ lw_all := lw_g (lw_at lw_m3 237 rfl) rfl
theorem q804 : (Jvm.Cond.methodLink "FlagMachineLaw" (29 : Nat) ({ cls := "FlagMachineModel", name := "op", desc := "(III)V" } : Jvm.MethodName)) ∈ lw_all := lw_g (lw_at lw_m4 2 rfl) rfl
theorem q808 : (Jvm.Cond.methodLink "FlagMachineLaw" (34 : Nat) ({ cls := "FlagMachineModel", name := "operand", desc := "(III)Z" } : Jvm.MethodName)) ∈ lw_all := lw_g (lw_at lw_m4 6 rfl) rfl
theorem q812 : (Jvm.Cond.methodLink "FlagMachineLaw" (39 : Nat) ({ cls := "FlagMachineModel", name := "memory", desc := "(IIII)V" } : Jvm.MethodName)) ∈ lw_all := lw_g (lw_at lw_m4 10 rfl) rfl
theorem q816 : (Jvm.Cond.methodLink "FlagMachineLaw" (44 : Nat) ({ cls := "FlagMachineModel", name := "number", desc := "(J)V" } : Jvm.MethodName)) ∈ lw_all := lw_g (lw_at lw_m4 14 rfl) rfl
theorem q820 : (Jvm.Cond.methodLink "FlagMachineLaw" (49 : Nat) ({ cls := "FlagMachineModel", name := "step", desc := "(I)I" } : Jvm.MethodName)) ∈ lw_all := lw_g (lw_at lw_m4 18 rfl) rfl
theorem q1042 : (Jvm.Cond.methodLink "FlagMachineLaw" (54 : Nat) ({ cls := "FlagMachineModel", name := "value", desc := "()J" } : Jvm.MethodName)) ∈ lw_all := lw_g (lw_at lw_m5 0 rfl) rfl
theorem q1046 : (Jvm.Cond.methodLink "FlagMachineLaw" (59 : Nat) ({ cls := "FlagMachineModel", name := "register", desc := "(I)J" } : Jvm.MethodName)) ∈ lw_all := lw_g (lw_at lw_m5 4 rfl) rfl
theorem q1050 : (Jvm.Cond.methodLink "FlagMachineLaw" (64 : Nat) ({ cls := "FlagMachineModel", name := "set", desc := "(IJ)Z" } : Jvm.MethodName)) ∈ lw_all := lw_g (lw_at lw_m5 8 rfl) rfl
theorem q1054 : (Jvm.Cond.methodLink "FlagMachineLaw" (69 : Nat) ({ cls := "FlagMachineModel", name := "input", desc := "(JI)Z" } : Jvm.MethodName)) ∈ lw_all := lw_g (lw_at lw_m5 12 rfl) rfl
theorem q1058 : (Jvm.Cond.methodLink "FlagMachineLaw" (73 : Nat) ({ cls := "FlagMachineModel", name := "output", desc := "(I)I" } : Jvm.MethodName)) ∈ lw_all := lw_g (lw_at lw_m5 16 rfl) rfl
theorem q1062 : (Jvm.Cond.methodLink "FlagMachineLaw" (78 : Nat) ({ cls := "FlagMachineModel", name := "peek", desc := "(J)I" } : Jvm.MethodName)) ∈ lw_all := lw_g (lw_at lw_m5 20 rfl) rfl
theorem q1066 : (Jvm.Cond.methodLink "FlagMachineLaw" (82 : Nat) ({ cls := "FlagMachineModel", name := "poke", desc := "(JI)Z" } : Jvm.MethodName)) ∈ lw_all := lw_g (lw_at lw_m5 24 rfl) rfl
theorem q1070 : (Jvm.Cond.constantLong "FlagMachineLaw" (18 : Nat) (4294967295 : Int64)) ∈ lw_all := lw_g (lw_at lw_m5 28 rfl) rfl
theorem q88 : (Jvm.Cond.initialized "java/lang/System") ∈ lw_all := lw_g (lw_at lw_m1 6 rfl) rfl
theorem q279 : (Jvm.Cond.static ({ cls := "java/lang/System", name := "arraycopy", desc := "(Ljava/lang/Object;ILjava/lang/Object;II)V" } : Jvm.MethodName)) ∈ lw_all := lw_g (lw_at lw_m1 197 rfl) rfl
theorem q280 : (Jvm.Cond.native ({ cls := "java/lang/System", name := "arraycopy", desc := "(Ljava/lang/Object;ILjava/lang/Object;II)V" } : Jvm.MethodName)) ∈ lw_all := lw_g (lw_at lw_m1 198 rfl) rfl
theorem q144 : (Jvm.Cond.arrayClass Jvm.ClassFile.FieldType.byte) ∈ lw_all := lw_g (lw_at lw_m1 62 rfl) rfl
theorem q225 : (Jvm.Cond.arrayClass Jvm.ClassFile.FieldType.int) ∈ lw_all := lw_g (lw_at lw_m1 143 rfl) rfl
theorem q269 : (Jvm.Cond.arrayClass Jvm.ClassFile.FieldType.long) ∈ lw_all := lw_g (lw_at lw_m1 187 rfl) rfl
