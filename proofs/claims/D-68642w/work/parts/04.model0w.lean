set_option maxRecDepth 100000
/-! FlagMachineModel -/
def RX5 : String := "FlagMachineModel"
def TX5 : u_T := fun k => match k with
  | 0 => ("FlagMachineModel", "thrown", "I", false)
  | 1 => ("FlagMachineModel", "filled", "[B", true)
  | 2 => ("FlagMachineModel", "memory", "[B", true)
  | 3 => ("FlagMachineModel", "heap", "[B", true)
  | 4 => ("FlagMachineModel", "stack", "[B", true)
  | 5 => ("FlagMachineModel", "given", "[B", true)
  | 6 => ("FlagMachineModel", "shown", "[B", true)
  | 7 => ("FlagMachineModel", "end", "I", false)
  | 8 => ("FlagMachineModel", "textEnd", "I", false)
  | 9 => ("FlagMachineModel", "rodataBegin", "I", false)
  | 10 => ("FlagMachineModel", "rodataEnd", "I", false)
  | 11 => ("FlagMachineModel", "dataBegin", "I", false)
  | 12 => ("FlagMachineModel", "dataEnd", "I", false)
  | 13 => ("FlagMachineModel", "heapSize", "I", false)
  | 14 => ("FlagMachineModel", "givenSize", "I", false)
  | 15 => ("FlagMachineModel", "shownSize", "I", false)
  | 16 => ("FlagMachineModel", "registers0", "[J", true)
  | 17 => ("FlagMachineModel", "kept0", "[J", true)
  | 18 => ("FlagMachineModel", "ip", "J", false)
  | 19 => ("FlagMachineModel", "stopValue", "J", false)
  | 20 => ("FlagMachineModel", "stepsDone", "J", false)
  | 21 => ("FlagMachineModel", "carry", "Z", false)
  | 22 => ("FlagMachineModel", "parity", "Z", false)
  | 23 => ("FlagMachineModel", "zero", "Z", false)
  | 24 => ("FlagMachineModel", "negative", "Z", false)
  | 25 => ("FlagMachineModel", "over", "Z", false)
  | 26 => ("FlagMachineModel", "stopKind", "I", false)
  | 27 => ("FlagMachineModel", "halt", "I", false)
  | 28 => ("FlagMachineModel", "haltValue", "J", false)
  | 29 => ("FlagMachineModel", "operandAt", "J", false)
  | 30 => ("FlagMachineModel", "op", "I", false)
  | 31 => ("FlagMachineModel", "width", "I", false)
  | 32 => ("FlagMachineModel", "condition", "I", false)
  | 33 => ("FlagMachineModel", "base", "I", false)
  | 34 => ("FlagMachineModel", "index", "I", false)
  | 35 => ("FlagMachineModel", "scale", "I", false)
  | 36 => ("FlagMachineModel", "displacement", "I", false)
  | 37 => ("FlagMachineModel", "length", "I", false)
  | 38 => ("FlagMachineModel", "number", "J", false)
  | 39 => ("FlagMachineModel", "kinds", "[I", true)
  | _ => ("FlagMachineModel", "places", "[I", true)
def tyX5 : Nat → FieldType := fun k => match k with
  | 0 => .int
  | 1 => .array .byte
  | 2 => .array .byte
  | 3 => .array .byte
  | 4 => .array .byte
  | 5 => .array .byte
  | 6 => .array .byte
  | 7 => .int
  | 8 => .int
  | 9 => .int
  | 10 => .int
  | 11 => .int
  | 12 => .int
  | 13 => .int
  | 14 => .int
  | 15 => .int
  | 16 => .array .long
  | 17 => .array .long
  | 18 => .long
  | 19 => .long
  | 20 => .long
  | 21 => .boolean
  | 22 => .boolean
  | 23 => .boolean
  | 24 => .boolean
  | 25 => .boolean
  | 26 => .int
  | 27 => .int
  | 28 => .long
  | 29 => .long
  | 30 => .int
  | 31 => .int
  | 32 => .int
  | 33 => .int
  | 34 => .int
  | 35 => .int
  | 36 => .int
  | 37 => .int
  | 38 => .long
  | 39 => .array .int
  | _ => .array .int
abbrev wsX50 : List Cond := u_ws RX5 TX5 41
set_option maxRecDepth 100000 in
theorem nmX5 : ∀ a, a < 41 → ∀ b, b < 41 → a ≠ b → (TX5 a).2.1 ≠ (TX5 b).2.1 := by decide +kernel
set_option maxRecDepth 100000 in
theorem tyX5_ok : ∀ k, k < 41 → parseFieldDescriptor (TX5 k).2.2.1 = some (tyX5 k) := by decide +kernel
abbrev cX5_init : ByteArray := prog_8_method_1_code
def yX5_init : MethodName := ⟨RX5, "<init>", "()V"⟩
abbrev cX5_anew : ByteArray := prog_8_method_3_code
def yX5_anew : MethodName := ⟨RX5, "anew", "(IIIIII)V"⟩
abbrev cX5_setFlags : ByteArray := prog_8_method_38_code
def yX5_setFlags : MethodName := ⟨RX5, "setFlags", "(J)V"⟩
abbrev cX5_begin : ByteArray := prog_8_method_4_code
def yX5_begin : MethodName := ⟨RX5, "begin", "(IIIIII)Z"⟩
abbrev cX5_fill : ByteArray := prog_8_method_5_code
def yX5_fill : MethodName := ⟨RX5, "fill", "(IJ)V"⟩
abbrev cX5_op : ByteArray := prog_8_method_6_code
def yX5_op : MethodName := ⟨RX5, "op", "(III)V"⟩
abbrev cX5_operand : ByteArray := prog_8_method_7_code
def yX5_operand : MethodName := ⟨RX5, "operand", "(III)Z"⟩
abbrev cX5_memory : ByteArray := prog_8_method_8_code
def yX5_memory : MethodName := ⟨RX5, "memory", "(IIII)V"⟩
abbrev cX5_number : ByteArray := prog_8_method_9_code
def yX5_number : MethodName := ⟨RX5, "number", "(J)V"⟩
abbrev cX5_step : ByteArray := prog_8_method_61_code
def yX5_step : MethodName := ⟨RX5, "step", "(I)I"⟩
abbrev cX5_isSound : ByteArray := prog_8_method_16_code
def yX5_isSound : MethodName := ⟨RX5, "isSound", "()Z"⟩
abbrev cX5_sizeFits : ByteArray := prog_8_method_14_code
def yX5_sizeFits : MethodName := ⟨RX5, "sizeFits", "()Z"⟩
abbrev cX5_operandsFit : ByteArray := prog_8_method_13_code
def yX5_operandsFit : MethodName := ⟨RX5, "operandsFit", "()Z"⟩
abbrev cX5_isEither : ByteArray := prog_8_method_10_code
def yX5_isEither : MethodName := ⟨RX5, "isEither", "(I)Z"⟩
abbrev cX5_isPlain : ByteArray := prog_8_method_12_code
def yX5_isPlain : MethodName := ⟨RX5, "isPlain", "(I)Z"⟩
abbrev cX5_isNumber : ByteArray := prog_8_method_11_code
def yX5_isNumber : MethodName := ⟨RX5, "isNumber", "(IJJ)Z"⟩
abbrev cX5_memoryFits : ByteArray := prog_8_method_15_code
def yX5_memoryFits : MethodName := ⟨RX5, "memoryFits", "()Z"⟩
abbrev cX5_flags : ByteArray := prog_8_method_37_code
def yX5_flags : MethodName := ⟨RX5, "flags", "()J"⟩
abbrev cX5_addressNow : ByteArray := prog_8_method_26_code
def yX5_addressNow : MethodName := ⟨RX5, "addressNow", "()J"⟩
abbrev cX5_perform : ByteArray := prog_8_method_59_code
def yX5_perform : MethodName := ⟨RX5, "perform", "()V"⟩
abbrev cX5_arithmetic : ByteArray := prog_8_method_39_code
def yX5_arithmetic : MethodName := ⟨RX5, "arithmetic", "(II)V"⟩
abbrev cX5_take : ByteArray := prog_8_method_29_code
def yX5_take : MethodName := ⟨RX5, "take", "(II)J"⟩
abbrev cX5_kindAt : ByteArray := prog_8_method_27_code
def yX5_kindAt : MethodName := ⟨RX5, "kindAt", "(I)I"⟩
abbrev cX5_registerAt : ByteArray := prog_8_method_28_code
def yX5_registerAt : MethodName := ⟨RX5, "registerAt", "(I)I"⟩
abbrev cX5_cut : ByteArray := prog_8_method_24_code
def yX5_cut : MethodName := ⟨RX5, "cut", "(JI)J"⟩
abbrev cX5_load : ByteArray := prog_8_method_22_code
def yX5_load : MethodName := ⟨RX5, "load", "(JI)J"⟩
abbrev cX5_find : ByteArray := prog_8_method_18_code
def yX5_find : MethodName := ⟨RX5, "find", "(JZ)I"⟩
abbrev cX5_heapBegin : ByteArray := prog_8_method_17_code
def yX5_heapBegin : MethodName := ⟨RX5, "heapBegin", "()J"⟩
abbrev cX5_stopWith : ByteArray := prog_8_method_21_code
def yX5_stopWith : MethodName := ⟨RX5, "stopWith", "(IJ)V"⟩
abbrev cX5_byteAtPlace : ByteArray := prog_8_method_19_code
def yX5_byteAtPlace : MethodName := ⟨RX5, "byteAtPlace", "(I)I"⟩
abbrev cX5_add : ByteArray := prog_8_method_34_code
def yX5_add : MethodName := ⟨RX5, "add", "(JJZI)J"⟩
abbrev cX5_below : ByteArray := prog_8_method_42_code
def yX5_below : MethodName := ⟨RX5, "below", "(JJ)Z"⟩
abbrev cX5_upper : ByteArray := prog_8_method_32_code
def yX5_upper : MethodName := ⟨RX5, "upper", "(JI)J"⟩
abbrev cX5_zsp : ByteArray := prog_8_method_33_code
def yX5_zsp : MethodName := ⟨RX5, "zsp", "(JI)V"⟩
abbrev cX5_subtract : ByteArray := prog_8_method_35_code
def yX5_subtract : MethodName := ⟨RX5, "subtract", "(JJZI)J"⟩
abbrev cX5_put : ByteArray := prog_8_method_31_code
def yX5_put : MethodName := ⟨RX5, "put", "(IIJ)V"⟩
abbrev cX5_setRegister : ByteArray := prog_8_method_30_code
def yX5_setRegister : MethodName := ⟨RX5, "setRegister", "(IIJ)V"⟩
abbrev cX5_store : ByteArray := prog_8_method_23_code
def yX5_store : MethodName := ⟨RX5, "store", "(JIJ)V"⟩
abbrev cX5_setPlace : ByteArray := prog_8_method_20_code
def yX5_setPlace : MethodName := ⟨RX5, "setPlace", "(II)V"⟩
abbrev cX5_moves : ByteArray := prog_8_method_40_code
def yX5_moves : MethodName := ⟨RX5, "moves", "(II)V"⟩
abbrev cX5_signed : ByteArray := prog_8_method_25_code
def yX5_signed : MethodName := ⟨RX5, "signed", "(JI)J"⟩
abbrev cX5_single : ByteArray := prog_8_method_41_code
def yX5_single : MethodName := ⟨RX5, "single", "(II)V"⟩
abbrev cX5_multiply : ByteArray := prog_8_method_45_code
def yX5_multiply : MethodName := ⟨RX5, "multiply", "(ZI)V"⟩
abbrev cX5_highSigned : ByteArray := prog_8_method_44_code
def yX5_highSigned : MethodName := ⟨RX5, "highSigned", "(JJ)J"⟩
abbrev cX5_highUnsigned : ByteArray := prog_8_method_43_code
def yX5_highUnsigned : MethodName := ⟨RX5, "highUnsigned", "(JJ)J"⟩
abbrev cX5_divide : ByteArray := prog_8_method_47_code
def yX5_divide : MethodName := ⟨RX5, "divide", "(ZI)V"⟩
abbrev cX5_divideSmall : ByteArray := prog_8_method_46_code
def yX5_divideSmall : MethodName := ⟨RX5, "divideSmall", "(ZIJ)V"⟩
abbrev cX5_product : ByteArray := prog_8_method_48_code
def yX5_product : MethodName := ⟨RX5, "product", "(I)V"⟩
abbrev cX5_shift : ByteArray := prog_8_method_49_code
def yX5_shift : MethodName := ⟨RX5, "shift", "(II)V"⟩
abbrev cX5_goes : ByteArray := prog_8_method_52_code
def yX5_goes : MethodName := ⟨RX5, "goes", "(I)V"⟩
abbrev cX5_push : ByteArray := prog_8_method_50_code
def yX5_push : MethodName := ⟨RX5, "push", "(J)V"⟩
abbrev cX5_pop : ByteArray := prog_8_method_51_code
def yX5_pop : MethodName := ⟨RX5, "pop", "()J"⟩
abbrev cX5_isMet : ByteArray := prog_8_method_36_code
def yX5_isMet : MethodName := ⟨RX5, "isMet", "(I)Z"⟩
abbrev cX5_choose : ByteArray := prog_8_method_60_code
def yX5_choose : MethodName := ⟨RX5, "choose", "(I)V"⟩
abbrev cX5_spread : ByteArray := prog_8_method_53_code
def yX5_spread : MethodName := ⟨RX5, "spread", "(II)V"⟩
abbrev cX5_service : ByteArray := prog_8_method_58_code
def yX5_service : MethodName := ⟨RX5, "service", "()V"⟩
abbrev cX5_may : ByteArray := prog_8_method_57_code
def yX5_may : MethodName := ⟨RX5, "may", "(JJZ)Z"⟩
abbrev cX5_bits : ByteArray := prog_8_method_54_code
def yX5_bits : MethodName := ⟨RX5, "bits", "(II)V"⟩
abbrev cX5_together : ByteArray := prog_8_method_55_code
def yX5_together : MethodName := ⟨RX5, "together", "(II)V"⟩
abbrev cX5_strings : ByteArray := prog_8_method_56_code
def yX5_strings : MethodName := ⟨RX5, "strings", "(II)V"⟩
abbrev cX5_value : ByteArray := prog_8_method_62_code
def yX5_value : MethodName := ⟨RX5, "value", "()J"⟩
abbrev cX5_register : ByteArray := prog_8_method_63_code
def yX5_register : MethodName := ⟨RX5, "register", "(I)J"⟩
abbrev cX5_set : ByteArray := prog_8_method_64_code
def yX5_set : MethodName := ⟨RX5, "set", "(IJ)Z"⟩
abbrev cX5_input : ByteArray := prog_8_method_65_code
def yX5_input : MethodName := ⟨RX5, "input", "(JI)Z"⟩
abbrev cX5_output : ByteArray := prog_8_method_66_code
def yX5_output : MethodName := ⟨RX5, "output", "(I)I"⟩
abbrev cX5_peek : ByteArray := prog_8_method_67_code
def yX5_peek : MethodName := ⟨RX5, "peek", "(J)I"⟩
abbrev cX5_poke : ByteArray := prog_8_method_68_code
def yX5_poke : MethodName := ⟨RX5, "poke", "(JI)Z"⟩
theorem q89 : (Jvm.Cond.initialized "FlagMachineModel") ∈ lw_all := lw_g (lw_at lw_m1 7 rfl) rfl
theorem q650 : (Jvm.Cond.instantiable "FlagMachineModel" (41 : Nat)) ∈ lw_all := lw_g (lw_at lw_m3 88 rfl) rfl
theorem q652 : (Jvm.Cond.instanceMethod ({ cls := "FlagMachineModel", name := "<init>", desc := "()V" } : Jvm.MethodName)) ∈ lw_all := lw_g (lw_at lw_m3 90 rfl) rfl
theorem q653 : (Jvm.Cond.code ({ cls := "FlagMachineModel", name := "<init>", desc := "()V" } : Jvm.MethodName) prog_8_method_1_code (1 : Nat) (Option.none : Option Jvm.ClassFile.FieldType)) ∈ lw_all := lw_g (lw_at lw_m3 91 rfl) rfl
theorem q654 : (Jvm.Cond.methodLink "FlagMachineModel" (1 : Nat) ({ cls := "java/lang/Object", name := "<init>", desc := "()V" } : Jvm.MethodName)) ∈ lw_all := lw_g (lw_at lw_m3 92 rfl) rfl
theorem q655 : (Jvm.Cond.constant "FlagMachineModel" (9 : Nat) (262144 : Int32)) ∈ lw_all := lw_g (lw_at lw_m3 93 rfl) rfl
theorem q656 : (Jvm.Cond.constant "FlagMachineModel" (17 : Nat) (65536 : Int32)) ∈ lw_all := lw_g (lw_at lw_m3 94 rfl) rfl
theorem q657 : (Jvm.Cond.methodLink "FlagMachineModel" (57 : Nat) ({ cls := "FlagMachineModel", name := "anew", desc := "(IIIIII)V" } : Jvm.MethodName)) ∈ lw_all := lw_g (lw_at lw_m3 95 rfl) rfl
theorem q658 : (Jvm.Cond.privateMethod ({ cls := "FlagMachineModel", name := "anew", desc := "(IIIIII)V" } : Jvm.MethodName)) ∈ lw_tbl := lw_at lw_m3 96 rfl
theorem q659 : (Jvm.Cond.instanceMethod ({ cls := "FlagMachineModel", name := "anew", desc := "(IIIIII)V" } : Jvm.MethodName)) ∈ lw_all := lw_g (lw_at lw_m3 97 rfl) rfl
theorem q660 : (Jvm.Cond.code ({ cls := "FlagMachineModel", name := "anew", desc := "(IIIIII)V" } : Jvm.MethodName) prog_8_method_3_code (8 : Nat) (Option.none : Option Jvm.ClassFile.FieldType)) ∈ lw_all := lw_g (lw_at lw_m3 98 rfl) rfl
theorem q661 : (Jvm.Cond.constantLong "FlagMachineModel" (82 : Nat) (2147479552 : Int64)) ∈ lw_all := lw_g (lw_at lw_m3 99 rfl) rfl
theorem q662 : (Jvm.Cond.methodLink "FlagMachineModel" (84 : Nat) ({ cls := "FlagMachineModel", name := "setFlags", desc := "(J)V" } : Jvm.MethodName)) ∈ lw_all := lw_g (lw_at lw_m3 100 rfl) rfl
theorem q663 : (Jvm.Cond.privateMethod ({ cls := "FlagMachineModel", name := "setFlags", desc := "(J)V" } : Jvm.MethodName)) ∈ lw_tbl := lw_at lw_m3 101 rfl
theorem q664 : (Jvm.Cond.instanceMethod ({ cls := "FlagMachineModel", name := "setFlags", desc := "(J)V" } : Jvm.MethodName)) ∈ lw_all := lw_g (lw_at lw_m3 102 rfl) rfl
theorem q665 : (Jvm.Cond.code ({ cls := "FlagMachineModel", name := "setFlags", desc := "(J)V" } : Jvm.MethodName) prog_8_method_38_code (3 : Nat) (Option.none : Option Jvm.ClassFile.FieldType)) ∈ lw_all := lw_g (lw_at lw_m3 103 rfl) rfl
theorem q666 : (Jvm.Cond.constantLong "FlagMachineModel" (249 : Nat) (4 : Int64)) ∈ lw_all := lw_g (lw_at lw_m3 104 rfl) rfl
theorem q667 : (Jvm.Cond.constantLong "FlagMachineModel" (251 : Nat) (64 : Int64)) ∈ lw_all := lw_g (lw_at lw_m3 105 rfl) rfl
theorem q668 : (Jvm.Cond.constantLong "FlagMachineModel" (253 : Nat) (128 : Int64)) ∈ lw_all := lw_g (lw_at lw_m3 106 rfl) rfl
theorem q669 : (Jvm.Cond.constantLong "FlagMachineModel" (255 : Nat) (2048 : Int64)) ∈ lw_all := lw_g (lw_at lw_m3 107 rfl) rfl
theorem q670 : (Jvm.Cond.constantLong "FlagMachineModel" (88 : Nat) (4194304 : Int64)) ∈ lw_all := lw_g (lw_at lw_m3 108 rfl) rfl
theorem q671 : (Jvm.Cond.fieldLink "FlagMachineModel" (61 : Nat) "FlagMachineModel" "thrown" "I") ∈ lw_all := lw_g (lw_at lw_m3 109 rfl) rfl
theorem q672 : (Jvm.Cond.fieldLink "FlagMachineModel" (10 : Nat) "FlagMachineModel" "filled" "[B") ∈ lw_all := lw_g (lw_at lw_m3 110 rfl) rfl
theorem q673 : (Jvm.Cond.fieldLink "FlagMachineModel" (14 : Nat) "FlagMachineModel" "memory" "[B") ∈ lw_all := lw_g (lw_at lw_m3 111 rfl) rfl
theorem q674 : (Jvm.Cond.fieldLink "FlagMachineModel" (18 : Nat) "FlagMachineModel" "heap" "[B") ∈ lw_all := lw_g (lw_at lw_m3 112 rfl) rfl
theorem q675 : (Jvm.Cond.fieldLink "FlagMachineModel" (21 : Nat) "FlagMachineModel" "stack" "[B") ∈ lw_all := lw_g (lw_at lw_m3 113 rfl) rfl
theorem q676 : (Jvm.Cond.fieldLink "FlagMachineModel" (24 : Nat) "FlagMachineModel" "given" "[B") ∈ lw_all := lw_g (lw_at lw_m3 114 rfl) rfl
theorem q677 : (Jvm.Cond.fieldLink "FlagMachineModel" (27 : Nat) "FlagMachineModel" "shown" "[B") ∈ lw_all := lw_g (lw_at lw_m3 115 rfl) rfl
theorem q678 : (Jvm.Cond.fieldLink "FlagMachineModel" (64 : Nat) "FlagMachineModel" "end" "I") ∈ lw_all := lw_g (lw_at lw_m3 116 rfl) rfl
theorem q679 : (Jvm.Cond.fieldLink "FlagMachineModel" (67 : Nat) "FlagMachineModel" "textEnd" "I") ∈ lw_all := lw_g (lw_at lw_m3 117 rfl) rfl
theorem q680 : (Jvm.Cond.fieldLink "FlagMachineModel" (70 : Nat) "FlagMachineModel" "rodataBegin" "I") ∈ lw_all := lw_g (lw_at lw_m3 118 rfl) rfl
theorem q681 : (Jvm.Cond.fieldLink "FlagMachineModel" (73 : Nat) "FlagMachineModel" "rodataEnd" "I") ∈ lw_all := lw_g (lw_at lw_m3 119 rfl) rfl
theorem q682 : (Jvm.Cond.fieldLink "FlagMachineModel" (76 : Nat) "FlagMachineModel" "dataBegin" "I") ∈ lw_all := lw_g (lw_at lw_m3 120 rfl) rfl
theorem q683 : (Jvm.Cond.fieldLink "FlagMachineModel" (79 : Nat) "FlagMachineModel" "dataEnd" "I") ∈ lw_all := lw_g (lw_at lw_m3 121 rfl) rfl
theorem q684 : (Jvm.Cond.fieldLink "FlagMachineModel" (94 : Nat) "FlagMachineModel" "heapSize" "I") ∈ lw_all := lw_g (lw_at lw_m3 122 rfl) rfl
theorem q685 : (Jvm.Cond.fieldLink "FlagMachineModel" (97 : Nat) "FlagMachineModel" "givenSize" "I") ∈ lw_all := lw_g (lw_at lw_m3 123 rfl) rfl
theorem q686 : (Jvm.Cond.fieldLink "FlagMachineModel" (100 : Nat) "FlagMachineModel" "shownSize" "I") ∈ lw_all := lw_g (lw_at lw_m3 124 rfl) rfl
theorem q687 : (Jvm.Cond.fieldLink "FlagMachineModel" (30 : Nat) "FlagMachineModel" "registers0" "[J") ∈ lw_all := lw_g (lw_at lw_m3 125 rfl) rfl
theorem q688 : (Jvm.Cond.fieldLink "FlagMachineModel" (34 : Nat) "FlagMachineModel" "kept0" "[J") ∈ lw_all := lw_g (lw_at lw_m3 126 rfl) rfl
theorem q689 : (Jvm.Cond.fieldLink "FlagMachineModel" (90 : Nat) "FlagMachineModel" "ip" "J") ∈ lw_all := lw_g (lw_at lw_m3 127 rfl) rfl
theorem q690 : (Jvm.Cond.fieldLink "FlagMachineModel" (106 : Nat) "FlagMachineModel" "stopValue" "J") ∈ lw_all := lw_g (lw_at lw_m3 128 rfl) rfl
theorem q691 : (Jvm.Cond.fieldLink "FlagMachineModel" (109 : Nat) "FlagMachineModel" "stepsDone" "J") ∈ lw_all := lw_g (lw_at lw_m3 129 rfl) rfl
theorem q692 : (Jvm.Cond.fieldLink "FlagMachineModel" (237 : Nat) "FlagMachineModel" "carry" "Z") ∈ lw_all := lw_g (lw_at lw_m3 130 rfl) rfl
theorem q693 : (Jvm.Cond.fieldLink "FlagMachineModel" (230 : Nat) "FlagMachineModel" "parity" "Z") ∈ lw_all := lw_g (lw_at lw_m3 131 rfl) rfl
theorem q694 : (Jvm.Cond.fieldLink "FlagMachineModel" (220 : Nat) "FlagMachineModel" "zero" "Z") ∈ lw_all := lw_g (lw_at lw_m3 132 rfl) rfl
theorem q695 : (Jvm.Cond.fieldLink "FlagMachineModel" (227 : Nat) "FlagMachineModel" "negative" "Z") ∈ lw_all := lw_g (lw_at lw_m3 133 rfl) rfl
theorem q696 : (Jvm.Cond.fieldLink "FlagMachineModel" (240 : Nat) "FlagMachineModel" "over" "Z") ∈ lw_all := lw_g (lw_at lw_m3 134 rfl) rfl
theorem q697 : (Jvm.Cond.fieldLink "FlagMachineModel" (103 : Nat) "FlagMachineModel" "stopKind" "I") ∈ lw_all := lw_g (lw_at lw_m3 135 rfl) rfl
theorem q698 : (Jvm.Cond.fieldLink "FlagMachineModel" (170 : Nat) "FlagMachineModel" "halt" "I") ∈ lw_all := lw_g (lw_at lw_m3 136 rfl) rfl
theorem q699 : (Jvm.Cond.fieldLink "FlagMachineModel" (173 : Nat) "FlagMachineModel" "haltValue" "J") ∈ lw_all := lw_g (lw_at lw_m3 137 rfl) rfl
theorem q700 : (Jvm.Cond.fieldLink "FlagMachineModel" (204 : Nat) "FlagMachineModel" "operandAt" "J") ∈ lw_all := lw_g (lw_at lw_m3 138 rfl) rfl
theorem q701 : (Jvm.Cond.fieldLink "FlagMachineModel" (37 : Nat) "FlagMachineModel" "op" "I") ∈ lw_all := lw_g (lw_at lw_m3 139 rfl) rfl
theorem q702 : (Jvm.Cond.fieldLink "FlagMachineModel" (114 : Nat) "FlagMachineModel" "width" "I") ∈ lw_all := lw_g (lw_at lw_m3 140 rfl) rfl
theorem q703 : (Jvm.Cond.fieldLink "FlagMachineModel" (117 : Nat) "FlagMachineModel" "condition" "I") ∈ lw_all := lw_g (lw_at lw_m3 141 rfl) rfl
theorem q704 : (Jvm.Cond.fieldLink "FlagMachineModel" (41 : Nat) "FlagMachineModel" "base" "I") ∈ lw_all := lw_g (lw_at lw_m3 142 rfl) rfl
theorem q705 : (Jvm.Cond.fieldLink "FlagMachineModel" (44 : Nat) "FlagMachineModel" "index" "I") ∈ lw_all := lw_g (lw_at lw_m3 143 rfl) rfl
theorem q706 : (Jvm.Cond.fieldLink "FlagMachineModel" (47 : Nat) "FlagMachineModel" "scale" "I") ∈ lw_all := lw_g (lw_at lw_m3 144 rfl) rfl
theorem q707 : (Jvm.Cond.fieldLink "FlagMachineModel" (120 : Nat) "FlagMachineModel" "displacement" "I") ∈ lw_all := lw_g (lw_at lw_m3 145 rfl) rfl
theorem q708 : (Jvm.Cond.fieldLink "FlagMachineModel" (305 : Nat) "FlagMachineModel" "length" "I") ∈ lw_all := lw_g (lw_at lw_m3 146 rfl) rfl
theorem q709 : (Jvm.Cond.fieldLink "FlagMachineModel" (123 : Nat) "FlagMachineModel" "number" "J") ∈ lw_all := lw_g (lw_at lw_m3 147 rfl) rfl
theorem q710 : (Jvm.Cond.fieldLink "FlagMachineModel" (50 : Nat) "FlagMachineModel" "kinds" "[I") ∈ lw_all := lw_g (lw_at lw_m3 148 rfl) rfl
theorem q711 : (Jvm.Cond.fieldLink "FlagMachineModel" (54 : Nat) "FlagMachineModel" "places" "[I") ∈ lw_all := lw_g (lw_at lw_m3 149 rfl) rfl
theorem q712 : (Jvm.Cond.lays "FlagMachineModel" "FlagMachineModel" "thrown" "I") ∈ lw_all := lw_g (lw_at lw_m3 150 rfl) rfl
theorem q713 : (Jvm.Cond.soleField "FlagMachineModel" "thrown") ∈ lw_all := lw_g (lw_at lw_m3 151 rfl) rfl
theorem q714 : (Jvm.Cond.laysFinal "FlagMachineModel" "FlagMachineModel" "filled" "[B") ∈ lw_all := lw_g (lw_at lw_m3 152 rfl) rfl
theorem q715 : (Jvm.Cond.soleField "FlagMachineModel" "filled") ∈ lw_all := lw_g (lw_at lw_m3 153 rfl) rfl
theorem q716 : (Jvm.Cond.laysFinal "FlagMachineModel" "FlagMachineModel" "memory" "[B") ∈ lw_all := lw_g (lw_at lw_m3 154 rfl) rfl
theorem q717 : (Jvm.Cond.soleField "FlagMachineModel" "memory") ∈ lw_all := lw_g (lw_at lw_m3 155 rfl) rfl
theorem q718 : (Jvm.Cond.laysFinal "FlagMachineModel" "FlagMachineModel" "heap" "[B") ∈ lw_all := lw_g (lw_at lw_m3 156 rfl) rfl
theorem q719 : (Jvm.Cond.soleField "FlagMachineModel" "heap") ∈ lw_all := lw_g (lw_at lw_m3 157 rfl) rfl
theorem q720 : (Jvm.Cond.laysFinal "FlagMachineModel" "FlagMachineModel" "stack" "[B") ∈ lw_all := lw_g (lw_at lw_m3 158 rfl) rfl
theorem q721 : (Jvm.Cond.soleField "FlagMachineModel" "stack") ∈ lw_all := lw_g (lw_at lw_m3 159 rfl) rfl
theorem q722 : (Jvm.Cond.laysFinal "FlagMachineModel" "FlagMachineModel" "given" "[B") ∈ lw_all := lw_g (lw_at lw_m3 160 rfl) rfl
theorem q723 : (Jvm.Cond.soleField "FlagMachineModel" "given") ∈ lw_all := lw_g (lw_at lw_m3 161 rfl) rfl
theorem q724 : (Jvm.Cond.laysFinal "FlagMachineModel" "FlagMachineModel" "shown" "[B") ∈ lw_all := lw_g (lw_at lw_m3 162 rfl) rfl
theorem q725 : (Jvm.Cond.soleField "FlagMachineModel" "shown") ∈ lw_all := lw_g (lw_at lw_m3 163 rfl) rfl
theorem q726 : (Jvm.Cond.lays "FlagMachineModel" "FlagMachineModel" "end" "I") ∈ lw_all := lw_g (lw_at lw_m3 164 rfl) rfl
theorem q727 : (Jvm.Cond.soleField "FlagMachineModel" "end") ∈ lw_all := lw_g (lw_at lw_m3 165 rfl) rfl
theorem q728 : (Jvm.Cond.lays "FlagMachineModel" "FlagMachineModel" "textEnd" "I") ∈ lw_all := lw_g (lw_at lw_m3 166 rfl) rfl
theorem q729 : (Jvm.Cond.soleField "FlagMachineModel" "textEnd") ∈ lw_all := lw_g (lw_at lw_m3 167 rfl) rfl
theorem q730 : (Jvm.Cond.lays "FlagMachineModel" "FlagMachineModel" "rodataBegin" "I") ∈ lw_all := lw_g (lw_at lw_m3 168 rfl) rfl
theorem q731 : (Jvm.Cond.soleField "FlagMachineModel" "rodataBegin") ∈ lw_all := lw_g (lw_at lw_m3 169 rfl) rfl
theorem q732 : (Jvm.Cond.lays "FlagMachineModel" "FlagMachineModel" "rodataEnd" "I") ∈ lw_all := lw_g (lw_at lw_m3 170 rfl) rfl
theorem q733 : (Jvm.Cond.soleField "FlagMachineModel" "rodataEnd") ∈ lw_all := lw_g (lw_at lw_m3 171 rfl) rfl
theorem q734 : (Jvm.Cond.lays "FlagMachineModel" "FlagMachineModel" "dataBegin" "I") ∈ lw_all := lw_g (lw_at lw_m3 172 rfl) rfl
theorem q735 : (Jvm.Cond.soleField "FlagMachineModel" "dataBegin") ∈ lw_all := lw_g (lw_at lw_m3 173 rfl) rfl
theorem q736 : (Jvm.Cond.lays "FlagMachineModel" "FlagMachineModel" "dataEnd" "I") ∈ lw_all := lw_g (lw_at lw_m3 174 rfl) rfl
theorem q737 : (Jvm.Cond.soleField "FlagMachineModel" "dataEnd") ∈ lw_all := lw_g (lw_at lw_m3 175 rfl) rfl
theorem q738 : (Jvm.Cond.lays "FlagMachineModel" "FlagMachineModel" "heapSize" "I") ∈ lw_all := lw_g (lw_at lw_m3 176 rfl) rfl
theorem q739 : (Jvm.Cond.soleField "FlagMachineModel" "heapSize") ∈ lw_all := lw_g (lw_at lw_m3 177 rfl) rfl
theorem q740 : (Jvm.Cond.lays "FlagMachineModel" "FlagMachineModel" "givenSize" "I") ∈ lw_all := lw_g (lw_at lw_m3 178 rfl) rfl
theorem q741 : (Jvm.Cond.soleField "FlagMachineModel" "givenSize") ∈ lw_all := lw_g (lw_at lw_m3 179 rfl) rfl
theorem q742 : (Jvm.Cond.lays "FlagMachineModel" "FlagMachineModel" "shownSize" "I") ∈ lw_all := lw_g (lw_at lw_m3 180 rfl) rfl
theorem q743 : (Jvm.Cond.soleField "FlagMachineModel" "shownSize") ∈ lw_all := lw_g (lw_at lw_m3 181 rfl) rfl
theorem q744 : (Jvm.Cond.laysFinal "FlagMachineModel" "FlagMachineModel" "registers0" "[J") ∈ lw_all := lw_g (lw_at lw_m3 182 rfl) rfl
theorem q745 : (Jvm.Cond.soleField "FlagMachineModel" "registers0") ∈ lw_all := lw_g (lw_at lw_m3 183 rfl) rfl
theorem q746 : (Jvm.Cond.laysFinal "FlagMachineModel" "FlagMachineModel" "kept0" "[J") ∈ lw_all := lw_g (lw_at lw_m3 184 rfl) rfl
theorem q747 : (Jvm.Cond.soleField "FlagMachineModel" "kept0") ∈ lw_all := lw_g (lw_at lw_m3 185 rfl) rfl
theorem q748 : (Jvm.Cond.lays "FlagMachineModel" "FlagMachineModel" "ip" "J") ∈ lw_all := lw_g (lw_at lw_m3 186 rfl) rfl
theorem q749 : (Jvm.Cond.soleField "FlagMachineModel" "ip") ∈ lw_all := lw_g (lw_at lw_m3 187 rfl) rfl
theorem q750 : (Jvm.Cond.lays "FlagMachineModel" "FlagMachineModel" "stopValue" "J") ∈ lw_all := lw_g (lw_at lw_m3 188 rfl) rfl
theorem q751 : (Jvm.Cond.soleField "FlagMachineModel" "stopValue") ∈ lw_all := lw_g (lw_at lw_m3 189 rfl) rfl
theorem q752 : (Jvm.Cond.lays "FlagMachineModel" "FlagMachineModel" "stepsDone" "J") ∈ lw_all := lw_g (lw_at lw_m3 190 rfl) rfl
theorem q753 : (Jvm.Cond.soleField "FlagMachineModel" "stepsDone") ∈ lw_all := lw_g (lw_at lw_m3 191 rfl) rfl
theorem q754 : (Jvm.Cond.lays "FlagMachineModel" "FlagMachineModel" "carry" "Z") ∈ lw_all := lw_g (lw_at lw_m3 192 rfl) rfl
theorem q755 : (Jvm.Cond.soleField "FlagMachineModel" "carry") ∈ lw_all := lw_g (lw_at lw_m3 193 rfl) rfl
theorem q756 : (Jvm.Cond.lays "FlagMachineModel" "FlagMachineModel" "parity" "Z") ∈ lw_all := lw_g (lw_at lw_m3 194 rfl) rfl
theorem q757 : (Jvm.Cond.soleField "FlagMachineModel" "parity") ∈ lw_all := lw_g (lw_at lw_m3 195 rfl) rfl
theorem q758 : (Jvm.Cond.lays "FlagMachineModel" "FlagMachineModel" "zero" "Z") ∈ lw_all := lw_g (lw_at lw_m3 196 rfl) rfl
theorem q759 : (Jvm.Cond.soleField "FlagMachineModel" "zero") ∈ lw_all := lw_g (lw_at lw_m3 197 rfl) rfl
theorem q760 : (Jvm.Cond.lays "FlagMachineModel" "FlagMachineModel" "negative" "Z") ∈ lw_all := lw_g (lw_at lw_m3 198 rfl) rfl
theorem q761 : (Jvm.Cond.soleField "FlagMachineModel" "negative") ∈ lw_all := lw_g (lw_at lw_m3 199 rfl) rfl
theorem q762 : (Jvm.Cond.lays "FlagMachineModel" "FlagMachineModel" "over" "Z") ∈ lw_all := lw_g (lw_at lw_m3 200 rfl) rfl
theorem q763 : (Jvm.Cond.soleField "FlagMachineModel" "over") ∈ lw_all := lw_g (lw_at lw_m3 201 rfl) rfl
theorem q764 : (Jvm.Cond.lays "FlagMachineModel" "FlagMachineModel" "stopKind" "I") ∈ lw_all := lw_g (lw_at lw_m3 202 rfl) rfl
theorem q765 : (Jvm.Cond.soleField "FlagMachineModel" "stopKind") ∈ lw_all := lw_g (lw_at lw_m3 203 rfl) rfl
theorem q766 : (Jvm.Cond.lays "FlagMachineModel" "FlagMachineModel" "halt" "I") ∈ lw_all := lw_g (lw_at lw_m3 204 rfl) rfl
theorem q767 : (Jvm.Cond.soleField "FlagMachineModel" "halt") ∈ lw_all := lw_g (lw_at lw_m3 205 rfl) rfl
theorem q768 : (Jvm.Cond.lays "FlagMachineModel" "FlagMachineModel" "haltValue" "J") ∈ lw_all := lw_g (lw_at lw_m3 206 rfl) rfl
theorem q769 : (Jvm.Cond.soleField "FlagMachineModel" "haltValue") ∈ lw_all := lw_g (lw_at lw_m3 207 rfl) rfl
theorem q770 : (Jvm.Cond.lays "FlagMachineModel" "FlagMachineModel" "operandAt" "J") ∈ lw_all := lw_g (lw_at lw_m3 208 rfl) rfl
theorem q771 : (Jvm.Cond.soleField "FlagMachineModel" "operandAt") ∈ lw_all := lw_g (lw_at lw_m3 209 rfl) rfl
theorem q772 : (Jvm.Cond.lays "FlagMachineModel" "FlagMachineModel" "op" "I") ∈ lw_all := lw_g (lw_at lw_m3 210 rfl) rfl
theorem q773 : (Jvm.Cond.soleField "FlagMachineModel" "op") ∈ lw_all := lw_g (lw_at lw_m3 211 rfl) rfl
theorem q774 : (Jvm.Cond.lays "FlagMachineModel" "FlagMachineModel" "width" "I") ∈ lw_all := lw_g (lw_at lw_m3 212 rfl) rfl
theorem q775 : (Jvm.Cond.soleField "FlagMachineModel" "width") ∈ lw_all := lw_g (lw_at lw_m3 213 rfl) rfl
theorem q776 : (Jvm.Cond.lays "FlagMachineModel" "FlagMachineModel" "condition" "I") ∈ lw_all := lw_g (lw_at lw_m3 214 rfl) rfl
theorem q777 : (Jvm.Cond.soleField "FlagMachineModel" "condition") ∈ lw_all := lw_g (lw_at lw_m3 215 rfl) rfl
theorem q778 : (Jvm.Cond.lays "FlagMachineModel" "FlagMachineModel" "base" "I") ∈ lw_all := lw_g (lw_at lw_m3 216 rfl) rfl
theorem q779 : (Jvm.Cond.soleField "FlagMachineModel" "base") ∈ lw_all := lw_g (lw_at lw_m3 217 rfl) rfl
theorem q780 : (Jvm.Cond.lays "FlagMachineModel" "FlagMachineModel" "index" "I") ∈ lw_all := lw_g (lw_at lw_m3 218 rfl) rfl
theorem q781 : (Jvm.Cond.soleField "FlagMachineModel" "index") ∈ lw_all := lw_g (lw_at lw_m3 219 rfl) rfl
theorem q782 : (Jvm.Cond.lays "FlagMachineModel" "FlagMachineModel" "scale" "I") ∈ lw_all := lw_g (lw_at lw_m3 220 rfl) rfl
theorem q783 : (Jvm.Cond.soleField "FlagMachineModel" "scale") ∈ lw_all := lw_g (lw_at lw_m3 221 rfl) rfl
theorem q784 : (Jvm.Cond.lays "FlagMachineModel" "FlagMachineModel" "displacement" "I") ∈ lw_all := lw_g (lw_at lw_m3 222 rfl) rfl
theorem q785 : (Jvm.Cond.soleField "FlagMachineModel" "displacement") ∈ lw_all := lw_g (lw_at lw_m3 223 rfl) rfl
theorem q786 : (Jvm.Cond.lays "FlagMachineModel" "FlagMachineModel" "length" "I") ∈ lw_all := lw_g (lw_at lw_m3 224 rfl) rfl
theorem q787 : (Jvm.Cond.soleField "FlagMachineModel" "length") ∈ lw_all := lw_g (lw_at lw_m3 225 rfl) rfl
theorem q788 : (Jvm.Cond.lays "FlagMachineModel" "FlagMachineModel" "number" "J") ∈ lw_all := lw_g (lw_at lw_m3 226 rfl) rfl
theorem q789 : (Jvm.Cond.soleField "FlagMachineModel" "number") ∈ lw_all := lw_g (lw_at lw_m3 227 rfl) rfl
theorem q790 : (Jvm.Cond.laysFinal "FlagMachineModel" "FlagMachineModel" "kinds" "[I") ∈ lw_all := lw_g (lw_at lw_m3 228 rfl) rfl
theorem q791 : (Jvm.Cond.soleField "FlagMachineModel" "kinds") ∈ lw_all := lw_g (lw_at lw_m3 229 rfl) rfl
theorem q792 : (Jvm.Cond.laysFinal "FlagMachineModel" "FlagMachineModel" "places" "[I") ∈ lw_all := lw_g (lw_at lw_m3 230 rfl) rfl
theorem q793 : (Jvm.Cond.soleField "FlagMachineModel" "places") ∈ lw_all := lw_g (lw_at lw_m3 231 rfl) rfl
theorem q794 : (Jvm.Cond.superclass "FlagMachineModel" "java/lang/Object") ∈ lw_all := lw_g (lw_at lw_m3 232 rfl) rfl
theorem q796 : (Jvm.Cond.instanceMethod ({ cls := "FlagMachineModel", name := "begin", desc := "(IIIIII)Z" } : Jvm.MethodName)) ∈ lw_all := lw_g (lw_at lw_m3 234 rfl) rfl
theorem q797 : (Jvm.Cond.selects "FlagMachineModel" ({ cls := "FlagMachineModel", name := "begin", desc := "(IIIIII)Z" } : Jvm.MethodName) ({ cls := "FlagMachineModel", name := "begin", desc := "(IIIIII)Z" } : Jvm.MethodName)) ∈ lw_all := lw_g (lw_at lw_m3 235 rfl) rfl
theorem q798 : (Jvm.Cond.code ({ cls := "FlagMachineModel", name := "begin", desc := "(IIIIII)Z" } : Jvm.MethodName) prog_8_method_4_code (8 : Nat) (Option.some Jvm.ClassFile.FieldType.boolean)) ∈ lw_all := lw_g (lw_at lw_m3 236 rfl) rfl
theorem q800 : (Jvm.Cond.instanceMethod ({ cls := "FlagMachineModel", name := "fill", desc := "(IJ)V" } : Jvm.MethodName)) ∈ lw_all := lw_g (lw_at lw_m3 238 rfl) rfl
theorem q801 : (Jvm.Cond.selects "FlagMachineModel" ({ cls := "FlagMachineModel", name := "fill", desc := "(IJ)V" } : Jvm.MethodName) ({ cls := "FlagMachineModel", name := "fill", desc := "(IJ)V" } : Jvm.MethodName)) ∈ lw_all := lw_g (lw_at lw_m3 239 rfl) rfl
theorem q802 : (Jvm.Cond.code ({ cls := "FlagMachineModel", name := "fill", desc := "(IJ)V" } : Jvm.MethodName) prog_8_method_5_code (7 : Nat) (Option.none : Option Jvm.ClassFile.FieldType)) ∈ lw_all := lw_g (lw_at lw_m4 0 rfl) rfl
theorem q803 : (Jvm.Cond.constantLong "FlagMachineModel" (112 : Nat) (262144 : Int64)) ∈ lw_all := lw_g (lw_at lw_m4 1 rfl) rfl
theorem q805 : (Jvm.Cond.instanceMethod ({ cls := "FlagMachineModel", name := "op", desc := "(III)V" } : Jvm.MethodName)) ∈ lw_all := lw_g (lw_at lw_m4 3 rfl) rfl
theorem q806 : (Jvm.Cond.selects "FlagMachineModel" ({ cls := "FlagMachineModel", name := "op", desc := "(III)V" } : Jvm.MethodName) ({ cls := "FlagMachineModel", name := "op", desc := "(III)V" } : Jvm.MethodName)) ∈ lw_all := lw_g (lw_at lw_m4 4 rfl) rfl
theorem q807 : (Jvm.Cond.code ({ cls := "FlagMachineModel", name := "op", desc := "(III)V" } : Jvm.MethodName) prog_8_method_6_code (5 : Nat) (Option.none : Option Jvm.ClassFile.FieldType)) ∈ lw_all := lw_g (lw_at lw_m4 5 rfl) rfl
theorem q809 : (Jvm.Cond.instanceMethod ({ cls := "FlagMachineModel", name := "operand", desc := "(III)Z" } : Jvm.MethodName)) ∈ lw_all := lw_g (lw_at lw_m4 7 rfl) rfl
theorem q810 : (Jvm.Cond.selects "FlagMachineModel" ({ cls := "FlagMachineModel", name := "operand", desc := "(III)Z" } : Jvm.MethodName) ({ cls := "FlagMachineModel", name := "operand", desc := "(III)Z" } : Jvm.MethodName)) ∈ lw_all := lw_g (lw_at lw_m4 8 rfl) rfl
theorem q811 : (Jvm.Cond.code ({ cls := "FlagMachineModel", name := "operand", desc := "(III)Z" } : Jvm.MethodName) prog_8_method_7_code (4 : Nat) (Option.some Jvm.ClassFile.FieldType.boolean)) ∈ lw_all := lw_g (lw_at lw_m4 9 rfl) rfl
theorem q813 : (Jvm.Cond.instanceMethod ({ cls := "FlagMachineModel", name := "memory", desc := "(IIII)V" } : Jvm.MethodName)) ∈ lw_all := lw_g (lw_at lw_m4 11 rfl) rfl
theorem q814 : (Jvm.Cond.selects "FlagMachineModel" ({ cls := "FlagMachineModel", name := "memory", desc := "(IIII)V" } : Jvm.MethodName) ({ cls := "FlagMachineModel", name := "memory", desc := "(IIII)V" } : Jvm.MethodName)) ∈ lw_all := lw_g (lw_at lw_m4 12 rfl) rfl
theorem q815 : (Jvm.Cond.code ({ cls := "FlagMachineModel", name := "memory", desc := "(IIII)V" } : Jvm.MethodName) prog_8_method_8_code (5 : Nat) (Option.none : Option Jvm.ClassFile.FieldType)) ∈ lw_all := lw_g (lw_at lw_m4 13 rfl) rfl
theorem q817 : (Jvm.Cond.instanceMethod ({ cls := "FlagMachineModel", name := "number", desc := "(J)V" } : Jvm.MethodName)) ∈ lw_all := lw_g (lw_at lw_m4 15 rfl) rfl
theorem q818 : (Jvm.Cond.selects "FlagMachineModel" ({ cls := "FlagMachineModel", name := "number", desc := "(J)V" } : Jvm.MethodName) ({ cls := "FlagMachineModel", name := "number", desc := "(J)V" } : Jvm.MethodName)) ∈ lw_all := lw_g (lw_at lw_m4 16 rfl) rfl
theorem q819 : (Jvm.Cond.code ({ cls := "FlagMachineModel", name := "number", desc := "(J)V" } : Jvm.MethodName) prog_8_method_9_code (3 : Nat) (Option.none : Option Jvm.ClassFile.FieldType)) ∈ lw_all := lw_g (lw_at lw_m4 17 rfl) rfl
theorem q821 : (Jvm.Cond.instanceMethod ({ cls := "FlagMachineModel", name := "step", desc := "(I)I" } : Jvm.MethodName)) ∈ lw_all := lw_g (lw_at lw_m4 19 rfl) rfl
theorem q822 : (Jvm.Cond.selects "FlagMachineModel" ({ cls := "FlagMachineModel", name := "step", desc := "(I)I" } : Jvm.MethodName) ({ cls := "FlagMachineModel", name := "step", desc := "(I)I" } : Jvm.MethodName)) ∈ lw_all := lw_g (lw_at lw_m4 20 rfl) rfl
theorem q823 : (Jvm.Cond.code ({ cls := "FlagMachineModel", name := "step", desc := "(I)I" } : Jvm.MethodName) prog_8_method_61_code (7 : Nat) (Option.some Jvm.ClassFile.FieldType.int)) ∈ lw_all := lw_g (lw_at lw_m4 21 rfl) rfl
theorem q824 : (Jvm.Cond.methodLink "FlagMachineModel" (371 : Nat) ({ cls := "FlagMachineModel", name := "isSound", desc := "()Z" } : Jvm.MethodName)) ∈ lw_all := lw_g (lw_at lw_m4 22 rfl) rfl
theorem q825 : (Jvm.Cond.privateMethod ({ cls := "FlagMachineModel", name := "isSound", desc := "()Z" } : Jvm.MethodName)) ∈ lw_tbl := lw_at lw_m4 23 rfl
theorem q826 : (Jvm.Cond.instanceMethod ({ cls := "FlagMachineModel", name := "isSound", desc := "()Z" } : Jvm.MethodName)) ∈ lw_all := lw_g (lw_at lw_m4 24 rfl) rfl
theorem q827 : (Jvm.Cond.code ({ cls := "FlagMachineModel", name := "isSound", desc := "()Z" } : Jvm.MethodName) prog_8_method_16_code (4 : Nat) (Option.some Jvm.ClassFile.FieldType.boolean)) ∈ lw_all := lw_g (lw_at lw_m4 25 rfl) rfl
theorem q828 : (Jvm.Cond.methodLink "FlagMachineModel" (149 : Nat) ({ cls := "FlagMachineModel", name := "sizeFits", desc := "()Z" } : Jvm.MethodName)) ∈ lw_all := lw_g (lw_at lw_m4 26 rfl) rfl
theorem q829 : (Jvm.Cond.privateMethod ({ cls := "FlagMachineModel", name := "sizeFits", desc := "()Z" } : Jvm.MethodName)) ∈ lw_tbl := lw_at lw_m4 27 rfl
theorem q830 : (Jvm.Cond.instanceMethod ({ cls := "FlagMachineModel", name := "sizeFits", desc := "()Z" } : Jvm.MethodName)) ∈ lw_all := lw_g (lw_at lw_m4 28 rfl) rfl
theorem q831 : (Jvm.Cond.code ({ cls := "FlagMachineModel", name := "sizeFits", desc := "()Z" } : Jvm.MethodName) prog_8_method_14_code (4 : Nat) (Option.some Jvm.ClassFile.FieldType.boolean)) ∈ lw_all := lw_g (lw_at lw_m4 29 rfl) rfl
theorem q832 : (Jvm.Cond.methodLink "FlagMachineModel" (153 : Nat) ({ cls := "FlagMachineModel", name := "operandsFit", desc := "()Z" } : Jvm.MethodName)) ∈ lw_all := lw_g (lw_at lw_m4 30 rfl) rfl
theorem q833 : (Jvm.Cond.privateMethod ({ cls := "FlagMachineModel", name := "operandsFit", desc := "()Z" } : Jvm.MethodName)) ∈ lw_tbl := lw_at lw_m4 31 rfl
theorem q834 : (Jvm.Cond.instanceMethod ({ cls := "FlagMachineModel", name := "operandsFit", desc := "()Z" } : Jvm.MethodName)) ∈ lw_all := lw_g (lw_at lw_m4 32 rfl) rfl
theorem q835 : (Jvm.Cond.code ({ cls := "FlagMachineModel", name := "operandsFit", desc := "()Z" } : Jvm.MethodName) prog_8_method_13_code (5 : Nat) (Option.some Jvm.ClassFile.FieldType.boolean)) ∈ lw_all := lw_g (lw_at lw_m4 33 rfl) rfl
theorem q836 : (Jvm.Cond.methodLink "FlagMachineModel" (138 : Nat) ({ cls := "FlagMachineModel", name := "isEither", desc := "(I)Z" } : Jvm.MethodName)) ∈ lw_all := lw_g (lw_at lw_m4 34 rfl) rfl
theorem q837 : (Jvm.Cond.privateMethod ({ cls := "FlagMachineModel", name := "isEither", desc := "(I)Z" } : Jvm.MethodName)) ∈ lw_tbl := lw_at lw_m4 35 rfl
theorem q838 : (Jvm.Cond.instanceMethod ({ cls := "FlagMachineModel", name := "isEither", desc := "(I)Z" } : Jvm.MethodName)) ∈ lw_all := lw_g (lw_at lw_m4 36 rfl) rfl
theorem q839 : (Jvm.Cond.code ({ cls := "FlagMachineModel", name := "isEither", desc := "(I)Z" } : Jvm.MethodName) prog_8_method_10_code (2 : Nat) (Option.some Jvm.ClassFile.FieldType.boolean)) ∈ lw_all := lw_g (lw_at lw_m4 37 rfl) rfl
theorem q840 : (Jvm.Cond.methodLink "FlagMachineModel" (142 : Nat) ({ cls := "FlagMachineModel", name := "isPlain", desc := "(I)Z" } : Jvm.MethodName)) ∈ lw_all := lw_g (lw_at lw_m4 38 rfl) rfl
theorem q841 : (Jvm.Cond.privateMethod ({ cls := "FlagMachineModel", name := "isPlain", desc := "(I)Z" } : Jvm.MethodName)) ∈ lw_tbl := lw_at lw_m4 39 rfl
theorem q842 : (Jvm.Cond.instanceMethod ({ cls := "FlagMachineModel", name := "isPlain", desc := "(I)Z" } : Jvm.MethodName)) ∈ lw_all := lw_g (lw_at lw_m4 40 rfl) rfl
theorem q843 : (Jvm.Cond.code ({ cls := "FlagMachineModel", name := "isPlain", desc := "(I)Z" } : Jvm.MethodName) prog_8_method_12_code (2 : Nat) (Option.some Jvm.ClassFile.FieldType.boolean)) ∈ lw_all := lw_g (lw_at lw_m4 41 rfl) rfl
theorem q844 : (Jvm.Cond.constantLong "FlagMachineModel" (126 : Nat) (-128 : Int64)) ∈ lw_all := lw_g (lw_at lw_m4 42 rfl) rfl
theorem q845 : (Jvm.Cond.constantLong "FlagMachineModel" (128 : Nat) (127 : Int64)) ∈ lw_all := lw_g (lw_at lw_m4 43 rfl) rfl
theorem q846 : (Jvm.Cond.methodLink "FlagMachineModel" (130 : Nat) ({ cls := "FlagMachineModel", name := "isNumber", desc := "(IJJ)Z" } : Jvm.MethodName)) ∈ lw_all := lw_g (lw_at lw_m4 44 rfl) rfl
theorem q847 : (Jvm.Cond.privateMethod ({ cls := "FlagMachineModel", name := "isNumber", desc := "(IJJ)Z" } : Jvm.MethodName)) ∈ lw_tbl := lw_at lw_m4 45 rfl
theorem q848 : (Jvm.Cond.instanceMethod ({ cls := "FlagMachineModel", name := "isNumber", desc := "(IJJ)Z" } : Jvm.MethodName)) ∈ lw_all := lw_g (lw_at lw_m4 46 rfl) rfl
theorem q849 : (Jvm.Cond.code ({ cls := "FlagMachineModel", name := "isNumber", desc := "(IJJ)Z" } : Jvm.MethodName) prog_8_method_11_code (6 : Nat) (Option.some Jvm.ClassFile.FieldType.boolean)) ∈ lw_all := lw_g (lw_at lw_m4 47 rfl) rfl
theorem q850 : (Jvm.Cond.constantLong "FlagMachineModel" (134 : Nat) (-2147483648 : Int64)) ∈ lw_all := lw_g (lw_at lw_m4 48 rfl) rfl
theorem q851 : (Jvm.Cond.constantLong "FlagMachineModel" (136 : Nat) (2147483647 : Int64)) ∈ lw_all := lw_g (lw_at lw_m4 49 rfl) rfl
theorem q852 : (Jvm.Cond.constantLong "FlagMachineModel" (145 : Nat) (255 : Int64)) ∈ lw_all := lw_g (lw_at lw_m4 50 rfl) rfl
theorem q853 : (Jvm.Cond.constantLong "FlagMachineModel" (147 : Nat) (65535 : Int64)) ∈ lw_all := lw_g (lw_at lw_m4 51 rfl) rfl
theorem q854 : (Jvm.Cond.methodLink "FlagMachineModel" (156 : Nat) ({ cls := "FlagMachineModel", name := "memoryFits", desc := "()Z" } : Jvm.MethodName)) ∈ lw_all := lw_g (lw_at lw_m4 52 rfl) rfl
theorem q855 : (Jvm.Cond.privateMethod ({ cls := "FlagMachineModel", name := "memoryFits", desc := "()Z" } : Jvm.MethodName)) ∈ lw_tbl := lw_at lw_m4 53 rfl
theorem q856 : (Jvm.Cond.instanceMethod ({ cls := "FlagMachineModel", name := "memoryFits", desc := "()Z" } : Jvm.MethodName)) ∈ lw_all := lw_g (lw_at lw_m4 54 rfl) rfl
theorem q857 : (Jvm.Cond.code ({ cls := "FlagMachineModel", name := "memoryFits", desc := "()Z" } : Jvm.MethodName) prog_8_method_15_code (2 : Nat) (Option.some Jvm.ClassFile.FieldType.boolean)) ∈ lw_all := lw_g (lw_at lw_m4 55 rfl) rfl
theorem q858 : (Jvm.Cond.methodLink "FlagMachineModel" (310 : Nat) ({ cls := "FlagMachineModel", name := "flags", desc := "()J" } : Jvm.MethodName)) ∈ lw_all := lw_g (lw_at lw_m4 56 rfl) rfl
theorem q859 : (Jvm.Cond.privateMethod ({ cls := "FlagMachineModel", name := "flags", desc := "()J" } : Jvm.MethodName)) ∈ lw_tbl := lw_at lw_m4 57 rfl
theorem q860 : (Jvm.Cond.instanceMethod ({ cls := "FlagMachineModel", name := "flags", desc := "()J" } : Jvm.MethodName)) ∈ lw_all := lw_g (lw_at lw_m4 58 rfl) rfl
theorem q861 : (Jvm.Cond.code ({ cls := "FlagMachineModel", name := "flags", desc := "()J" } : Jvm.MethodName) prog_8_method_37_code (1 : Nat) (Option.some Jvm.ClassFile.FieldType.long)) ∈ lw_all := lw_g (lw_at lw_m4 59 rfl) rfl
theorem q862 : (Jvm.Cond.constantLong "FlagMachineModel" (247 : Nat) (2 : Int64)) ∈ lw_all := lw_g (lw_at lw_m4 60 rfl) rfl
theorem q863 : (Jvm.Cond.methodLink "FlagMachineModel" (271 : Nat) ({ cls := "FlagMachineModel", name := "addressNow", desc := "()J" } : Jvm.MethodName)) ∈ lw_all := lw_g (lw_at lw_m4 61 rfl) rfl
theorem q864 : (Jvm.Cond.privateMethod ({ cls := "FlagMachineModel", name := "addressNow", desc := "()J" } : Jvm.MethodName)) ∈ lw_tbl := lw_at lw_m4 62 rfl
theorem q865 : (Jvm.Cond.instanceMethod ({ cls := "FlagMachineModel", name := "addressNow", desc := "()J" } : Jvm.MethodName)) ∈ lw_all := lw_g (lw_at lw_m4 63 rfl) rfl
theorem q866 : (Jvm.Cond.code ({ cls := "FlagMachineModel", name := "addressNow", desc := "()J" } : Jvm.MethodName) prog_8_method_26_code (3 : Nat) (Option.some Jvm.ClassFile.FieldType.long)) ∈ lw_all := lw_g (lw_at lw_m4 64 rfl) rfl
theorem q867 : (Jvm.Cond.methodLink "FlagMachineModel" (374 : Nat) ({ cls := "FlagMachineModel", name := "perform", desc := "()V" } : Jvm.MethodName)) ∈ lw_all := lw_g (lw_at lw_m4 65 rfl) rfl
theorem q868 : (Jvm.Cond.privateMethod ({ cls := "FlagMachineModel", name := "perform", desc := "()V" } : Jvm.MethodName)) ∈ lw_tbl := lw_at lw_m4 66 rfl
theorem q869 : (Jvm.Cond.instanceMethod ({ cls := "FlagMachineModel", name := "perform", desc := "()V" } : Jvm.MethodName)) ∈ lw_all := lw_g (lw_at lw_m4 67 rfl) rfl
theorem q870 : (Jvm.Cond.code ({ cls := "FlagMachineModel", name := "perform", desc := "()V" } : Jvm.MethodName) prog_8_method_59_code (3 : Nat) (Option.none : Option Jvm.ClassFile.FieldType)) ∈ lw_all := lw_g (lw_at lw_m4 68 rfl) rfl
theorem q871 : (Jvm.Cond.methodLink "FlagMachineModel" (327 : Nat) ({ cls := "FlagMachineModel", name := "arithmetic", desc := "(II)V" } : Jvm.MethodName)) ∈ lw_all := lw_g (lw_at lw_m4 69 rfl) rfl
theorem q872 : (Jvm.Cond.privateMethod ({ cls := "FlagMachineModel", name := "arithmetic", desc := "(II)V" } : Jvm.MethodName)) ∈ lw_tbl := lw_at lw_m4 70 rfl
theorem q873 : (Jvm.Cond.instanceMethod ({ cls := "FlagMachineModel", name := "arithmetic", desc := "(II)V" } : Jvm.MethodName)) ∈ lw_all := lw_g (lw_at lw_m4 71 rfl) rfl
theorem q874 : (Jvm.Cond.code ({ cls := "FlagMachineModel", name := "arithmetic", desc := "(II)V" } : Jvm.MethodName) prog_8_method_39_code (9 : Nat) (Option.none : Option Jvm.ClassFile.FieldType)) ∈ lw_all := lw_g (lw_at lw_m4 72 rfl) rfl
theorem q875 : (Jvm.Cond.methodLink "FlagMachineModel" (257 : Nat) ({ cls := "FlagMachineModel", name := "take", desc := "(II)J" } : Jvm.MethodName)) ∈ lw_all := lw_g (lw_at lw_m4 73 rfl) rfl
theorem q876 : (Jvm.Cond.privateMethod ({ cls := "FlagMachineModel", name := "take", desc := "(II)J" } : Jvm.MethodName)) ∈ lw_tbl := lw_at lw_m4 74 rfl
theorem q877 : (Jvm.Cond.instanceMethod ({ cls := "FlagMachineModel", name := "take", desc := "(II)J" } : Jvm.MethodName)) ∈ lw_all := lw_g (lw_at lw_m4 75 rfl) rfl
theorem q878 : (Jvm.Cond.code ({ cls := "FlagMachineModel", name := "take", desc := "(II)J" } : Jvm.MethodName) prog_8_method_29_code (4 : Nat) (Option.some Jvm.ClassFile.FieldType.long)) ∈ lw_all := lw_g (lw_at lw_m4 76 rfl) rfl
theorem q879 : (Jvm.Cond.methodLink "FlagMachineModel" (194 : Nat) ({ cls := "FlagMachineModel", name := "kindAt", desc := "(I)I" } : Jvm.MethodName)) ∈ lw_all := lw_g (lw_at lw_m4 77 rfl) rfl
theorem q880 : (Jvm.Cond.privateMethod ({ cls := "FlagMachineModel", name := "kindAt", desc := "(I)I" } : Jvm.MethodName)) ∈ lw_tbl := lw_at lw_m4 78 rfl
theorem q881 : (Jvm.Cond.instanceMethod ({ cls := "FlagMachineModel", name := "kindAt", desc := "(I)I" } : Jvm.MethodName)) ∈ lw_all := lw_g (lw_at lw_m4 79 rfl) rfl
theorem q882 : (Jvm.Cond.code ({ cls := "FlagMachineModel", name := "kindAt", desc := "(I)I" } : Jvm.MethodName) prog_8_method_27_code (2 : Nat) (Option.some Jvm.ClassFile.FieldType.int)) ∈ lw_all := lw_g (lw_at lw_m4 80 rfl) rfl
theorem q883 : (Jvm.Cond.methodLink "FlagMachineModel" (197 : Nat) ({ cls := "FlagMachineModel", name := "registerAt", desc := "(I)I" } : Jvm.MethodName)) ∈ lw_all := lw_g (lw_at lw_m4 81 rfl) rfl
theorem q884 : (Jvm.Cond.privateMethod ({ cls := "FlagMachineModel", name := "registerAt", desc := "(I)I" } : Jvm.MethodName)) ∈ lw_tbl := lw_at lw_m4 82 rfl
theorem q885 : (Jvm.Cond.instanceMethod ({ cls := "FlagMachineModel", name := "registerAt", desc := "(I)I" } : Jvm.MethodName)) ∈ lw_all := lw_g (lw_at lw_m4 83 rfl) rfl
theorem q886 : (Jvm.Cond.code ({ cls := "FlagMachineModel", name := "registerAt", desc := "(I)I" } : Jvm.MethodName) prog_8_method_28_code (2 : Nat) (Option.some Jvm.ClassFile.FieldType.int)) ∈ lw_all := lw_g (lw_at lw_m4 84 rfl) rfl
theorem q887 : (Jvm.Cond.methodLink "FlagMachineModel" (200 : Nat) ({ cls := "FlagMachineModel", name := "cut", desc := "(JI)J" } : Jvm.MethodName)) ∈ lw_all := lw_g (lw_at lw_m4 85 rfl) rfl
theorem q888 : (Jvm.Cond.static ({ cls := "FlagMachineModel", name := "cut", desc := "(JI)J" } : Jvm.MethodName)) ∈ lw_all := lw_g (lw_at lw_m4 86 rfl) rfl
theorem q889 : (Jvm.Cond.code ({ cls := "FlagMachineModel", name := "cut", desc := "(JI)J" } : Jvm.MethodName) prog_8_method_24_code (3 : Nat) (Option.some Jvm.ClassFile.FieldType.long)) ∈ lw_all := lw_g (lw_at lw_m4 87 rfl) rfl
theorem q890 : (Jvm.Cond.constantLong "FlagMachineModel" (192 : Nat) (4294967295 : Int64)) ∈ lw_all := lw_g (lw_at lw_m4 88 rfl) rfl
theorem q891 : (Jvm.Cond.methodLink "FlagMachineModel" (207 : Nat) ({ cls := "FlagMachineModel", name := "load", desc := "(JI)J" } : Jvm.MethodName)) ∈ lw_all := lw_g (lw_at lw_m4 89 rfl) rfl
theorem q892 : (Jvm.Cond.privateMethod ({ cls := "FlagMachineModel", name := "load", desc := "(JI)J" } : Jvm.MethodName)) ∈ lw_tbl := lw_at lw_m4 90 rfl
theorem q893 : (Jvm.Cond.instanceMethod ({ cls := "FlagMachineModel", name := "load", desc := "(JI)J" } : Jvm.MethodName)) ∈ lw_all := lw_g (lw_at lw_m4 91 rfl) rfl
theorem q894 : (Jvm.Cond.code ({ cls := "FlagMachineModel", name := "load", desc := "(JI)J" } : Jvm.MethodName) prog_8_method_22_code (8 : Nat) (Option.some Jvm.ClassFile.FieldType.long)) ∈ lw_all := lw_g (lw_at lw_m4 92 rfl) rfl
theorem q895 : (Jvm.Cond.methodLink "FlagMachineModel" (176 : Nat) ({ cls := "FlagMachineModel", name := "find", desc := "(JZ)I" } : Jvm.MethodName)) ∈ lw_all := lw_g (lw_at lw_m4 93 rfl) rfl
theorem q896 : (Jvm.Cond.privateMethod ({ cls := "FlagMachineModel", name := "find", desc := "(JZ)I" } : Jvm.MethodName)) ∈ lw_tbl := lw_at lw_m4 94 rfl
theorem q897 : (Jvm.Cond.instanceMethod ({ cls := "FlagMachineModel", name := "find", desc := "(JZ)I" } : Jvm.MethodName)) ∈ lw_all := lw_g (lw_at lw_m4 95 rfl) rfl
theorem q898 : (Jvm.Cond.code ({ cls := "FlagMachineModel", name := "find", desc := "(JZ)I" } : Jvm.MethodName) prog_8_method_18_code (10 : Nat) (Option.some Jvm.ClassFile.FieldType.int)) ∈ lw_all := lw_g (lw_at lw_m4 96 rfl) rfl
theorem q899 : (Jvm.Cond.methodLink "FlagMachineModel" (159 : Nat) ({ cls := "FlagMachineModel", name := "heapBegin", desc := "()J" } : Jvm.MethodName)) ∈ lw_all := lw_g (lw_at lw_m4 97 rfl) rfl
theorem q900 : (Jvm.Cond.privateMethod ({ cls := "FlagMachineModel", name := "heapBegin", desc := "()J" } : Jvm.MethodName)) ∈ lw_tbl := lw_at lw_m4 98 rfl
theorem q901 : (Jvm.Cond.instanceMethod ({ cls := "FlagMachineModel", name := "heapBegin", desc := "()J" } : Jvm.MethodName)) ∈ lw_all := lw_g (lw_at lw_m4 99 rfl) rfl
theorem q902 : (Jvm.Cond.code ({ cls := "FlagMachineModel", name := "heapBegin", desc := "()J" } : Jvm.MethodName) prog_8_method_17_code (1 : Nat) (Option.some Jvm.ClassFile.FieldType.long)) ∈ lw_all := lw_g (lw_at lw_m4 100 rfl) rfl
theorem q903 : (Jvm.Cond.constant "FlagMachineModel" (163 : Nat) (1048576 : Int32)) ∈ lw_all := lw_g (lw_at lw_m4 101 rfl) rfl
theorem q904 : (Jvm.Cond.constantLong "FlagMachineModel" (164 : Nat) (2147414016 : Int64)) ∈ lw_all := lw_g (lw_at lw_m4 102 rfl) rfl
theorem q905 : (Jvm.Cond.constantLong "FlagMachineModel" (166 : Nat) (65536 : Int64)) ∈ lw_all := lw_g (lw_at lw_m4 103 rfl) rfl
theorem q906 : (Jvm.Cond.constant "FlagMachineModel" (168 : Nat) (2097152 : Int32)) ∈ lw_all := lw_g (lw_at lw_m4 104 rfl) rfl
theorem q907 : (Jvm.Cond.methodLink "FlagMachineModel" (180 : Nat) ({ cls := "FlagMachineModel", name := "stopWith", desc := "(IJ)V" } : Jvm.MethodName)) ∈ lw_all := lw_g (lw_at lw_m4 105 rfl) rfl
theorem q908 : (Jvm.Cond.privateMethod ({ cls := "FlagMachineModel", name := "stopWith", desc := "(IJ)V" } : Jvm.MethodName)) ∈ lw_tbl := lw_at lw_m4 106 rfl
theorem q909 : (Jvm.Cond.instanceMethod ({ cls := "FlagMachineModel", name := "stopWith", desc := "(IJ)V" } : Jvm.MethodName)) ∈ lw_all := lw_g (lw_at lw_m4 107 rfl) rfl
theorem q910 : (Jvm.Cond.code ({ cls := "FlagMachineModel", name := "stopWith", desc := "(IJ)V" } : Jvm.MethodName) prog_8_method_21_code (4 : Nat) (Option.none : Option Jvm.ClassFile.FieldType)) ∈ lw_all := lw_g (lw_at lw_m4 108 rfl) rfl
theorem q911 : (Jvm.Cond.methodLink "FlagMachineModel" (184 : Nat) ({ cls := "FlagMachineModel", name := "byteAtPlace", desc := "(I)I" } : Jvm.MethodName)) ∈ lw_all := lw_g (lw_at lw_m4 109 rfl) rfl
theorem q912 : (Jvm.Cond.privateMethod ({ cls := "FlagMachineModel", name := "byteAtPlace", desc := "(I)I" } : Jvm.MethodName)) ∈ lw_tbl := lw_at lw_m4 110 rfl
theorem q913 : (Jvm.Cond.instanceMethod ({ cls := "FlagMachineModel", name := "byteAtPlace", desc := "(I)I" } : Jvm.MethodName)) ∈ lw_all := lw_g (lw_at lw_m4 111 rfl) rfl
theorem q914 : (Jvm.Cond.code ({ cls := "FlagMachineModel", name := "byteAtPlace", desc := "(I)I" } : Jvm.MethodName) prog_8_method_19_code (2 : Nat) (Option.some Jvm.ClassFile.FieldType.int)) ∈ lw_all := lw_g (lw_at lw_m4 112 rfl) rfl
theorem q915 : (Jvm.Cond.constant "FlagMachineModel" (169 : Nat) (65535 : Int32)) ∈ lw_all := lw_g (lw_at lw_m4 113 rfl) rfl
theorem q916 : (Jvm.Cond.methodLink "FlagMachineModel" (261 : Nat) ({ cls := "FlagMachineModel", name := "add", desc := "(JJZI)J" } : Jvm.MethodName)) ∈ lw_all := lw_g (lw_at lw_m4 114 rfl) rfl
theorem q917 : (Jvm.Cond.privateMethod ({ cls := "FlagMachineModel", name := "add", desc := "(JJZI)J" } : Jvm.MethodName)) ∈ lw_tbl := lw_at lw_m4 115 rfl
theorem q918 : (Jvm.Cond.instanceMethod ({ cls := "FlagMachineModel", name := "add", desc := "(JJZI)J" } : Jvm.MethodName)) ∈ lw_all := lw_g (lw_at lw_m4 116 rfl) rfl
theorem q919 : (Jvm.Cond.code ({ cls := "FlagMachineModel", name := "add", desc := "(JJZI)J" } : Jvm.MethodName) prog_8_method_34_code (9 : Nat) (Option.some Jvm.ClassFile.FieldType.long)) ∈ lw_all := lw_g (lw_at lw_m4 117 rfl) rfl
theorem q920 : (Jvm.Cond.methodLink "FlagMachineModel" (233 : Nat) ({ cls := "FlagMachineModel", name := "below", desc := "(JJ)Z" } : Jvm.MethodName)) ∈ lw_all := lw_g (lw_at lw_m4 118 rfl) rfl
theorem q921 : (Jvm.Cond.static ({ cls := "FlagMachineModel", name := "below", desc := "(JJ)Z" } : Jvm.MethodName)) ∈ lw_all := lw_g (lw_at lw_m4 119 rfl) rfl
theorem q922 : (Jvm.Cond.code ({ cls := "FlagMachineModel", name := "below", desc := "(JJ)Z" } : Jvm.MethodName) prog_8_method_42_code (4 : Nat) (Option.some Jvm.ClassFile.FieldType.boolean)) ∈ lw_all := lw_g (lw_at lw_m4 120 rfl) rfl
theorem q923 : (Jvm.Cond.constantLong "FlagMachineModel" (279 : Nat) (-9223372036854775808 : Int64)) ∈ lw_all := lw_g (lw_at lw_m4 121 rfl) rfl
theorem q924 : (Jvm.Cond.methodLink "FlagMachineModel" (224 : Nat) ({ cls := "FlagMachineModel", name := "upper", desc := "(JI)J" } : Jvm.MethodName)) ∈ lw_all := lw_g (lw_at lw_m4 122 rfl) rfl
theorem q925 : (Jvm.Cond.static ({ cls := "FlagMachineModel", name := "upper", desc := "(JI)J" } : Jvm.MethodName)) ∈ lw_all := lw_g (lw_at lw_m4 123 rfl) rfl
theorem q926 : (Jvm.Cond.code ({ cls := "FlagMachineModel", name := "upper", desc := "(JI)J" } : Jvm.MethodName) prog_8_method_32_code (3 : Nat) (Option.some Jvm.ClassFile.FieldType.long)) ∈ lw_all := lw_g (lw_at lw_m4 124 rfl) rfl
theorem q927 : (Jvm.Cond.methodLink "FlagMachineModel" (243 : Nat) ({ cls := "FlagMachineModel", name := "zsp", desc := "(JI)V" } : Jvm.MethodName)) ∈ lw_all := lw_g (lw_at lw_m4 125 rfl) rfl
theorem q928 : (Jvm.Cond.privateMethod ({ cls := "FlagMachineModel", name := "zsp", desc := "(JI)V" } : Jvm.MethodName)) ∈ lw_tbl := lw_at lw_m4 126 rfl
theorem q929 : (Jvm.Cond.instanceMethod ({ cls := "FlagMachineModel", name := "zsp", desc := "(JI)V" } : Jvm.MethodName)) ∈ lw_all := lw_g (lw_at lw_m4 127 rfl) rfl
theorem q930 : (Jvm.Cond.code ({ cls := "FlagMachineModel", name := "zsp", desc := "(JI)V" } : Jvm.MethodName) prog_8_method_33_code (6 : Nat) (Option.none : Option Jvm.ClassFile.FieldType)) ∈ lw_all := lw_g (lw_at lw_m4 128 rfl) rfl
theorem q931 : (Jvm.Cond.methodLink "FlagMachineModel" (265 : Nat) ({ cls := "FlagMachineModel", name := "subtract", desc := "(JJZI)J" } : Jvm.MethodName)) ∈ lw_all := lw_g (lw_at lw_m4 129 rfl) rfl
theorem q932 : (Jvm.Cond.privateMethod ({ cls := "FlagMachineModel", name := "subtract", desc := "(JJZI)J" } : Jvm.MethodName)) ∈ lw_tbl := lw_at lw_m4 130 rfl
theorem q933 : (Jvm.Cond.instanceMethod ({ cls := "FlagMachineModel", name := "subtract", desc := "(JJZI)J" } : Jvm.MethodName)) ∈ lw_all := lw_g (lw_at lw_m4 131 rfl) rfl
theorem q934 : (Jvm.Cond.code ({ cls := "FlagMachineModel", name := "subtract", desc := "(JJZI)J" } : Jvm.MethodName) prog_8_method_35_code (9 : Nat) (Option.some Jvm.ClassFile.FieldType.long)) ∈ lw_all := lw_g (lw_at lw_m4 132 rfl) rfl
theorem q935 : (Jvm.Cond.methodLink "FlagMachineModel" (268 : Nat) ({ cls := "FlagMachineModel", name := "put", desc := "(IIJ)V" } : Jvm.MethodName)) ∈ lw_all := lw_g (lw_at lw_m4 133 rfl) rfl
theorem q936 : (Jvm.Cond.privateMethod ({ cls := "FlagMachineModel", name := "put", desc := "(IIJ)V" } : Jvm.MethodName)) ∈ lw_tbl := lw_at lw_m4 134 rfl
theorem q937 : (Jvm.Cond.instanceMethod ({ cls := "FlagMachineModel", name := "put", desc := "(IIJ)V" } : Jvm.MethodName)) ∈ lw_all := lw_g (lw_at lw_m4 135 rfl) rfl
theorem q938 : (Jvm.Cond.code ({ cls := "FlagMachineModel", name := "put", desc := "(IIJ)V" } : Jvm.MethodName) prog_8_method_31_code (5 : Nat) (Option.none : Option Jvm.ClassFile.FieldType)) ∈ lw_all := lw_g (lw_at lw_m4 136 rfl) rfl
theorem q939 : (Jvm.Cond.methodLink "FlagMachineModel" (212 : Nat) ({ cls := "FlagMachineModel", name := "setRegister", desc := "(IIJ)V" } : Jvm.MethodName)) ∈ lw_all := lw_g (lw_at lw_m4 137 rfl) rfl
theorem q940 : (Jvm.Cond.privateMethod ({ cls := "FlagMachineModel", name := "setRegister", desc := "(IIJ)V" } : Jvm.MethodName)) ∈ lw_tbl := lw_at lw_m4 138 rfl
theorem q941 : (Jvm.Cond.instanceMethod ({ cls := "FlagMachineModel", name := "setRegister", desc := "(IIJ)V" } : Jvm.MethodName)) ∈ lw_all := lw_g (lw_at lw_m4 139 rfl) rfl
theorem q942 : (Jvm.Cond.code ({ cls := "FlagMachineModel", name := "setRegister", desc := "(IIJ)V" } : Jvm.MethodName) prog_8_method_30_code (5 : Nat) (Option.none : Option Jvm.ClassFile.FieldType)) ∈ lw_all := lw_g (lw_at lw_m4 140 rfl) rfl
theorem q943 : (Jvm.Cond.constantLong "FlagMachineModel" (210 : Nat) (-256 : Int64)) ∈ lw_all := lw_g (lw_at lw_m4 141 rfl) rfl
theorem q944 : (Jvm.Cond.methodLink "FlagMachineModel" (216 : Nat) ({ cls := "FlagMachineModel", name := "store", desc := "(JIJ)V" } : Jvm.MethodName)) ∈ lw_all := lw_g (lw_at lw_m4 142 rfl) rfl
theorem q945 : (Jvm.Cond.privateMethod ({ cls := "FlagMachineModel", name := "store", desc := "(JIJ)V" } : Jvm.MethodName)) ∈ lw_tbl := lw_at lw_m4 143 rfl
theorem q946 : (Jvm.Cond.instanceMethod ({ cls := "FlagMachineModel", name := "store", desc := "(JIJ)V" } : Jvm.MethodName)) ∈ lw_all := lw_g (lw_at lw_m4 144 rfl) rfl
theorem q947 : (Jvm.Cond.code ({ cls := "FlagMachineModel", name := "store", desc := "(JIJ)V" } : Jvm.MethodName) prog_8_method_23_code (7 : Nat) (Option.none : Option Jvm.ClassFile.FieldType)) ∈ lw_all := lw_g (lw_at lw_m4 145 rfl) rfl
theorem q948 : (Jvm.Cond.methodLink "FlagMachineModel" (188 : Nat) ({ cls := "FlagMachineModel", name := "setPlace", desc := "(II)V" } : Jvm.MethodName)) ∈ lw_all := lw_g (lw_at lw_m4 146 rfl) rfl
theorem q949 : (Jvm.Cond.privateMethod ({ cls := "FlagMachineModel", name := "setPlace", desc := "(II)V" } : Jvm.MethodName)) ∈ lw_tbl := lw_at lw_m4 147 rfl
theorem q950 : (Jvm.Cond.instanceMethod ({ cls := "FlagMachineModel", name := "setPlace", desc := "(II)V" } : Jvm.MethodName)) ∈ lw_all := lw_g (lw_at lw_m4 148 rfl) rfl
theorem q951 : (Jvm.Cond.code ({ cls := "FlagMachineModel", name := "setPlace", desc := "(II)V" } : Jvm.MethodName) prog_8_method_20_code (3 : Nat) (Option.none : Option Jvm.ClassFile.FieldType)) ∈ lw_all := lw_g (lw_at lw_m4 149 rfl) rfl
theorem q952 : (Jvm.Cond.methodLink "FlagMachineModel" (330 : Nat) ({ cls := "FlagMachineModel", name := "moves", desc := "(II)V" } : Jvm.MethodName)) ∈ lw_all := lw_g (lw_at lw_m4 150 rfl) rfl
theorem q953 : (Jvm.Cond.privateMethod ({ cls := "FlagMachineModel", name := "moves", desc := "(II)V" } : Jvm.MethodName)) ∈ lw_tbl := lw_at lw_m4 151 rfl
theorem q954 : (Jvm.Cond.instanceMethod ({ cls := "FlagMachineModel", name := "moves", desc := "(II)V" } : Jvm.MethodName)) ∈ lw_all := lw_g (lw_at lw_m4 152 rfl) rfl
theorem q955 : (Jvm.Cond.code ({ cls := "FlagMachineModel", name := "moves", desc := "(II)V" } : Jvm.MethodName) prog_8_method_40_code (7 : Nat) (Option.none : Option Jvm.ClassFile.FieldType)) ∈ lw_all := lw_g (lw_at lw_m4 153 rfl) rfl
theorem q956 : (Jvm.Cond.methodLink "FlagMachineModel" (274 : Nat) ({ cls := "FlagMachineModel", name := "signed", desc := "(JI)J" } : Jvm.MethodName)) ∈ lw_all := lw_g (lw_at lw_m4 154 rfl) rfl
theorem q957 : (Jvm.Cond.static ({ cls := "FlagMachineModel", name := "signed", desc := "(JI)J" } : Jvm.MethodName)) ∈ lw_all := lw_g (lw_at lw_m4 155 rfl) rfl
theorem q958 : (Jvm.Cond.code ({ cls := "FlagMachineModel", name := "signed", desc := "(JI)J" } : Jvm.MethodName) prog_8_method_25_code (3 : Nat) (Option.some Jvm.ClassFile.FieldType.long)) ∈ lw_all := lw_g (lw_at lw_m4 156 rfl) rfl
theorem q959 : (Jvm.Cond.methodLink "FlagMachineModel" (333 : Nat) ({ cls := "FlagMachineModel", name := "single", desc := "(II)V" } : Jvm.MethodName)) ∈ lw_all := lw_g (lw_at lw_m4 157 rfl) rfl
theorem q960 : (Jvm.Cond.privateMethod ({ cls := "FlagMachineModel", name := "single", desc := "(II)V" } : Jvm.MethodName)) ∈ lw_tbl := lw_at lw_m4 158 rfl
theorem q961 : (Jvm.Cond.instanceMethod ({ cls := "FlagMachineModel", name := "single", desc := "(II)V" } : Jvm.MethodName)) ∈ lw_all := lw_g (lw_at lw_m4 159 rfl) rfl
theorem q962 : (Jvm.Cond.code ({ cls := "FlagMachineModel", name := "single", desc := "(II)V" } : Jvm.MethodName) prog_8_method_41_code (8 : Nat) (Option.none : Option Jvm.ClassFile.FieldType)) ∈ lw_all := lw_g (lw_at lw_m4 160 rfl) rfl
theorem q963 : (Jvm.Cond.constantLong "FlagMachineModel" (277 : Nat) (-1 : Int64)) ∈ lw_all := lw_g (lw_at lw_m4 161 rfl) rfl
theorem q964 : (Jvm.Cond.methodLink "FlagMachineModel" (336 : Nat) ({ cls := "FlagMachineModel", name := "multiply", desc := "(ZI)V" } : Jvm.MethodName)) ∈ lw_all := lw_g (lw_at lw_m4 162 rfl) rfl
theorem q965 : (Jvm.Cond.privateMethod ({ cls := "FlagMachineModel", name := "multiply", desc := "(ZI)V" } : Jvm.MethodName)) ∈ lw_tbl := lw_at lw_m4 163 rfl
theorem q966 : (Jvm.Cond.instanceMethod ({ cls := "FlagMachineModel", name := "multiply", desc := "(ZI)V" } : Jvm.MethodName)) ∈ lw_all := lw_g (lw_at lw_m4 164 rfl) rfl
theorem q967 : (Jvm.Cond.code ({ cls := "FlagMachineModel", name := "multiply", desc := "(ZI)V" } : Jvm.MethodName) prog_8_method_45_code (11 : Nat) (Option.none : Option Jvm.ClassFile.FieldType)) ∈ lw_all := lw_g (lw_at lw_m4 165 rfl) rfl
theorem q968 : (Jvm.Cond.constantLong "FlagMachineModel" (285 : Nat) (-65536 : Int64)) ∈ lw_all := lw_g (lw_at lw_m4 166 rfl) rfl
theorem q969 : (Jvm.Cond.methodLink "FlagMachineModel" (287 : Nat) ({ cls := "FlagMachineModel", name := "highSigned", desc := "(JJ)J" } : Jvm.MethodName)) ∈ lw_all := lw_g (lw_at lw_m4 167 rfl) rfl
theorem q970 : (Jvm.Cond.static ({ cls := "FlagMachineModel", name := "highSigned", desc := "(JJ)J" } : Jvm.MethodName)) ∈ lw_all := lw_g (lw_at lw_m4 168 rfl) rfl
theorem q971 : (Jvm.Cond.code ({ cls := "FlagMachineModel", name := "highSigned", desc := "(JJ)J" } : Jvm.MethodName) prog_8_method_44_code (4 : Nat) (Option.some Jvm.ClassFile.FieldType.long)) ∈ lw_all := lw_g (lw_at lw_m4 169 rfl) rfl
theorem q972 : (Jvm.Cond.methodLink "FlagMachineModel" (281 : Nat) ({ cls := "FlagMachineModel", name := "highUnsigned", desc := "(JJ)J" } : Jvm.MethodName)) ∈ lw_all := lw_g (lw_at lw_m4 170 rfl) rfl
theorem q973 : (Jvm.Cond.static ({ cls := "FlagMachineModel", name := "highUnsigned", desc := "(JJ)J" } : Jvm.MethodName)) ∈ lw_all := lw_g (lw_at lw_m4 171 rfl) rfl
theorem q974 : (Jvm.Cond.code ({ cls := "FlagMachineModel", name := "highUnsigned", desc := "(JJ)J" } : Jvm.MethodName) prog_8_method_43_code (18 : Nat) (Option.some Jvm.ClassFile.FieldType.long)) ∈ lw_all := lw_g (lw_at lw_m4 172 rfl) rfl
theorem q975 : (Jvm.Cond.methodLink "FlagMachineModel" (340 : Nat) ({ cls := "FlagMachineModel", name := "divide", desc := "(ZI)V" } : Jvm.MethodName)) ∈ lw_all := lw_g (lw_at lw_m4 173 rfl) rfl
theorem q976 : (Jvm.Cond.privateMethod ({ cls := "FlagMachineModel", name := "divide", desc := "(ZI)V" } : Jvm.MethodName)) ∈ lw_tbl := lw_at lw_m4 174 rfl
theorem q977 : (Jvm.Cond.instanceMethod ({ cls := "FlagMachineModel", name := "divide", desc := "(ZI)V" } : Jvm.MethodName)) ∈ lw_all := lw_g (lw_at lw_m4 175 rfl) rfl
theorem q978 : (Jvm.Cond.code ({ cls := "FlagMachineModel", name := "divide", desc := "(ZI)V" } : Jvm.MethodName) prog_8_method_47_code (20 : Nat) (Option.none : Option Jvm.ClassFile.FieldType)) ∈ lw_all := lw_g (lw_at lw_m4 176 rfl) rfl
theorem q979 : (Jvm.Cond.methodLink "FlagMachineModel" (290 : Nat) ({ cls := "FlagMachineModel", name := "divideSmall", desc := "(ZIJ)V" } : Jvm.MethodName)) ∈ lw_all := lw_g (lw_at lw_m4 177 rfl) rfl
theorem q980 : (Jvm.Cond.privateMethod ({ cls := "FlagMachineModel", name := "divideSmall", desc := "(ZIJ)V" } : Jvm.MethodName)) ∈ lw_tbl := lw_at lw_m4 178 rfl
theorem q981 : (Jvm.Cond.instanceMethod ({ cls := "FlagMachineModel", name := "divideSmall", desc := "(ZIJ)V" } : Jvm.MethodName)) ∈ lw_all := lw_g (lw_at lw_m4 179 rfl) rfl
theorem q982 : (Jvm.Cond.code ({ cls := "FlagMachineModel", name := "divideSmall", desc := "(ZIJ)V" } : Jvm.MethodName) prog_8_method_46_code (14 : Nat) (Option.none : Option Jvm.ClassFile.FieldType)) ∈ lw_all := lw_g (lw_at lw_m4 180 rfl) rfl
theorem q983 : (Jvm.Cond.methodLink "FlagMachineModel" (343 : Nat) ({ cls := "FlagMachineModel", name := "product", desc := "(I)V" } : Jvm.MethodName)) ∈ lw_all := lw_g (lw_at lw_m4 181 rfl) rfl
theorem q984 : (Jvm.Cond.privateMethod ({ cls := "FlagMachineModel", name := "product", desc := "(I)V" } : Jvm.MethodName)) ∈ lw_tbl := lw_at lw_m4 182 rfl
theorem q985 : (Jvm.Cond.instanceMethod ({ cls := "FlagMachineModel", name := "product", desc := "(I)V" } : Jvm.MethodName)) ∈ lw_all := lw_g (lw_at lw_m4 183 rfl) rfl
theorem q986 : (Jvm.Cond.code ({ cls := "FlagMachineModel", name := "product", desc := "(I)V" } : Jvm.MethodName) prog_8_method_48_code (9 : Nat) (Option.none : Option Jvm.ClassFile.FieldType)) ∈ lw_all := lw_g (lw_at lw_m4 184 rfl) rfl
theorem q987 : (Jvm.Cond.methodLink "FlagMachineModel" (347 : Nat) ({ cls := "FlagMachineModel", name := "shift", desc := "(II)V" } : Jvm.MethodName)) ∈ lw_all := lw_g (lw_at lw_m4 185 rfl) rfl
theorem q988 : (Jvm.Cond.privateMethod ({ cls := "FlagMachineModel", name := "shift", desc := "(II)V" } : Jvm.MethodName)) ∈ lw_tbl := lw_at lw_m4 186 rfl
theorem q989 : (Jvm.Cond.instanceMethod ({ cls := "FlagMachineModel", name := "shift", desc := "(II)V" } : Jvm.MethodName)) ∈ lw_all := lw_g (lw_at lw_m4 187 rfl) rfl
theorem q990 : (Jvm.Cond.code ({ cls := "FlagMachineModel", name := "shift", desc := "(II)V" } : Jvm.MethodName) prog_8_method_49_code (15 : Nat) (Option.none : Option Jvm.ClassFile.FieldType)) ∈ lw_all := lw_g (lw_at lw_m4 188 rfl) rfl
theorem q991 : (Jvm.Cond.methodLink "FlagMachineModel" (350 : Nat) ({ cls := "FlagMachineModel", name := "goes", desc := "(I)V" } : Jvm.MethodName)) ∈ lw_all := lw_g (lw_at lw_m4 189 rfl) rfl
theorem q992 : (Jvm.Cond.privateMethod ({ cls := "FlagMachineModel", name := "goes", desc := "(I)V" } : Jvm.MethodName)) ∈ lw_tbl := lw_at lw_m4 190 rfl
theorem q993 : (Jvm.Cond.instanceMethod ({ cls := "FlagMachineModel", name := "goes", desc := "(I)V" } : Jvm.MethodName)) ∈ lw_all := lw_g (lw_at lw_m4 191 rfl) rfl
theorem q994 : (Jvm.Cond.code ({ cls := "FlagMachineModel", name := "goes", desc := "(I)V" } : Jvm.MethodName) prog_8_method_52_code (4 : Nat) (Option.none : Option Jvm.ClassFile.FieldType)) ∈ lw_all := lw_g (lw_at lw_m4 192 rfl) rfl
theorem q995 : (Jvm.Cond.methodLink "FlagMachineModel" (296 : Nat) ({ cls := "FlagMachineModel", name := "push", desc := "(J)V" } : Jvm.MethodName)) ∈ lw_all := lw_g (lw_at lw_m4 193 rfl) rfl
theorem q996 : (Jvm.Cond.privateMethod ({ cls := "FlagMachineModel", name := "push", desc := "(J)V" } : Jvm.MethodName)) ∈ lw_tbl := lw_at lw_m4 194 rfl
theorem q997 : (Jvm.Cond.instanceMethod ({ cls := "FlagMachineModel", name := "push", desc := "(J)V" } : Jvm.MethodName)) ∈ lw_all := lw_g (lw_at lw_m4 195 rfl) rfl
theorem q998 : (Jvm.Cond.code ({ cls := "FlagMachineModel", name := "push", desc := "(J)V" } : Jvm.MethodName) prog_8_method_50_code (3 : Nat) (Option.none : Option Jvm.ClassFile.FieldType)) ∈ lw_all := lw_g (lw_at lw_m4 196 rfl) rfl
theorem q999 : (Jvm.Cond.constantLong "FlagMachineModel" (294 : Nat) (8 : Int64)) ∈ lw_all := lw_g (lw_at lw_m4 197 rfl) rfl
theorem q1000 : (Jvm.Cond.methodLink "FlagMachineModel" (299 : Nat) ({ cls := "FlagMachineModel", name := "pop", desc := "()J" } : Jvm.MethodName)) ∈ lw_all := lw_g (lw_at lw_m4 198 rfl) rfl
theorem q1001 : (Jvm.Cond.privateMethod ({ cls := "FlagMachineModel", name := "pop", desc := "()J" } : Jvm.MethodName)) ∈ lw_tbl := lw_at lw_m4 199 rfl
theorem q1002 : (Jvm.Cond.instanceMethod ({ cls := "FlagMachineModel", name := "pop", desc := "()J" } : Jvm.MethodName)) ∈ lw_all := lw_g (lw_at lw_m4 200 rfl) rfl
theorem q1003 : (Jvm.Cond.code ({ cls := "FlagMachineModel", name := "pop", desc := "()J" } : Jvm.MethodName) prog_8_method_51_code (3 : Nat) (Option.some Jvm.ClassFile.FieldType.long)) ∈ lw_all := lw_g (lw_at lw_m4 201 rfl) rfl
theorem q1004 : (Jvm.Cond.methodLink "FlagMachineModel" (302 : Nat) ({ cls := "FlagMachineModel", name := "isMet", desc := "(I)Z" } : Jvm.MethodName)) ∈ lw_all := lw_g (lw_at lw_m4 202 rfl) rfl
theorem q1005 : (Jvm.Cond.privateMethod ({ cls := "FlagMachineModel", name := "isMet", desc := "(I)Z" } : Jvm.MethodName)) ∈ lw_tbl := lw_at lw_m4 203 rfl
theorem q1006 : (Jvm.Cond.instanceMethod ({ cls := "FlagMachineModel", name := "isMet", desc := "(I)Z" } : Jvm.MethodName)) ∈ lw_all := lw_g (lw_at lw_m4 204 rfl) rfl
theorem q1007 : (Jvm.Cond.code ({ cls := "FlagMachineModel", name := "isMet", desc := "(I)Z" } : Jvm.MethodName) prog_8_method_36_code (5 : Nat) (Option.some Jvm.ClassFile.FieldType.boolean)) ∈ lw_all := lw_g (lw_at lw_m4 205 rfl) rfl
theorem q1008 : (Jvm.Cond.methodLink "FlagMachineModel" (353 : Nat) ({ cls := "FlagMachineModel", name := "choose", desc := "(I)V" } : Jvm.MethodName)) ∈ lw_all := lw_g (lw_at lw_m4 206 rfl) rfl
theorem q1009 : (Jvm.Cond.privateMethod ({ cls := "FlagMachineModel", name := "choose", desc := "(I)V" } : Jvm.MethodName)) ∈ lw_tbl := lw_at lw_m4 207 rfl
theorem q1010 : (Jvm.Cond.instanceMethod ({ cls := "FlagMachineModel", name := "choose", desc := "(I)V" } : Jvm.MethodName)) ∈ lw_all := lw_g (lw_at lw_m4 208 rfl) rfl
theorem q1011 : (Jvm.Cond.code ({ cls := "FlagMachineModel", name := "choose", desc := "(I)V" } : Jvm.MethodName) prog_8_method_60_code (6 : Nat) (Option.none : Option Jvm.ClassFile.FieldType)) ∈ lw_all := lw_g (lw_at lw_m4 209 rfl) rfl
theorem q1012 : (Jvm.Cond.methodLink "FlagMachineModel" (356 : Nat) ({ cls := "FlagMachineModel", name := "spread", desc := "(II)V" } : Jvm.MethodName)) ∈ lw_all := lw_g (lw_at lw_m4 210 rfl) rfl
theorem q1013 : (Jvm.Cond.privateMethod ({ cls := "FlagMachineModel", name := "spread", desc := "(II)V" } : Jvm.MethodName)) ∈ lw_tbl := lw_at lw_m4 211 rfl
theorem q1014 : (Jvm.Cond.instanceMethod ({ cls := "FlagMachineModel", name := "spread", desc := "(II)V" } : Jvm.MethodName)) ∈ lw_all := lw_g (lw_at lw_m4 212 rfl) rfl
theorem q1015 : (Jvm.Cond.code ({ cls := "FlagMachineModel", name := "spread", desc := "(II)V" } : Jvm.MethodName) prog_8_method_53_code (5 : Nat) (Option.none : Option Jvm.ClassFile.FieldType)) ∈ lw_all := lw_g (lw_at lw_m4 213 rfl) rfl
theorem q1016 : (Jvm.Cond.methodLink "FlagMachineModel" (359 : Nat) ({ cls := "FlagMachineModel", name := "service", desc := "()V" } : Jvm.MethodName)) ∈ lw_all := lw_g (lw_at lw_m4 214 rfl) rfl
theorem q1017 : (Jvm.Cond.privateMethod ({ cls := "FlagMachineModel", name := "service", desc := "()V" } : Jvm.MethodName)) ∈ lw_tbl := lw_at lw_m4 215 rfl
theorem q1018 : (Jvm.Cond.instanceMethod ({ cls := "FlagMachineModel", name := "service", desc := "()V" } : Jvm.MethodName)) ∈ lw_all := lw_g (lw_at lw_m4 216 rfl) rfl
theorem q1019 : (Jvm.Cond.code ({ cls := "FlagMachineModel", name := "service", desc := "()V" } : Jvm.MethodName) prog_8_method_58_code (12 : Nat) (Option.none : Option Jvm.ClassFile.FieldType)) ∈ lw_all := lw_g (lw_at lw_m4 217 rfl) rfl
theorem q1020 : (Jvm.Cond.methodLink "FlagMachineModel" (313 : Nat) ({ cls := "FlagMachineModel", name := "may", desc := "(JJZ)Z" } : Jvm.MethodName)) ∈ lw_all := lw_g (lw_at lw_m4 218 rfl) rfl
theorem q1021 : (Jvm.Cond.privateMethod ({ cls := "FlagMachineModel", name := "may", desc := "(JJZ)Z" } : Jvm.MethodName)) ∈ lw_tbl := lw_at lw_m4 219 rfl
theorem q1022 : (Jvm.Cond.instanceMethod ({ cls := "FlagMachineModel", name := "may", desc := "(JJZ)Z" } : Jvm.MethodName)) ∈ lw_all := lw_g (lw_at lw_m4 220 rfl) rfl
theorem q1023 : (Jvm.Cond.code ({ cls := "FlagMachineModel", name := "may", desc := "(JJZ)Z" } : Jvm.MethodName) prog_8_method_57_code (8 : Nat) (Option.some Jvm.ClassFile.FieldType.boolean)) ∈ lw_all := lw_g (lw_at lw_m4 221 rfl) rfl
theorem q1024 : (Jvm.Cond.constantLong "FlagMachineModel" (308 : Nat) (1048576 : Int64)) ∈ lw_all := lw_g (lw_at lw_m4 222 rfl) rfl
theorem q1025 : (Jvm.Cond.constantLong "FlagMachineModel" (317 : Nat) (-14 : Int64)) ∈ lw_all := lw_g (lw_at lw_m4 223 rfl) rfl
theorem q1026 : (Jvm.Cond.constantLong "FlagMachineModel" (319 : Nat) (-28 : Int64)) ∈ lw_all := lw_g (lw_at lw_m4 224 rfl) rfl
theorem q1027 : (Jvm.Cond.constantLong "FlagMachineModel" (321 : Nat) (12 : Int64)) ∈ lw_all := lw_g (lw_at lw_m4 225 rfl) rfl
theorem q1028 : (Jvm.Cond.constantLong "FlagMachineModel" (323 : Nat) (60 : Int64)) ∈ lw_all := lw_g (lw_at lw_m4 226 rfl) rfl
theorem q1029 : (Jvm.Cond.constantLong "FlagMachineModel" (325 : Nat) (-38 : Int64)) ∈ lw_all := lw_g (lw_at lw_m4 227 rfl) rfl
theorem q1030 : (Jvm.Cond.methodLink "FlagMachineModel" (362 : Nat) ({ cls := "FlagMachineModel", name := "bits", desc := "(II)V" } : Jvm.MethodName)) ∈ lw_all := lw_g (lw_at lw_m4 228 rfl) rfl
theorem q1031 : (Jvm.Cond.privateMethod ({ cls := "FlagMachineModel", name := "bits", desc := "(II)V" } : Jvm.MethodName)) ∈ lw_tbl := lw_at lw_m4 229 rfl
theorem q1032 : (Jvm.Cond.instanceMethod ({ cls := "FlagMachineModel", name := "bits", desc := "(II)V" } : Jvm.MethodName)) ∈ lw_all := lw_g (lw_at lw_m4 230 rfl) rfl
theorem q1033 : (Jvm.Cond.code ({ cls := "FlagMachineModel", name := "bits", desc := "(II)V" } : Jvm.MethodName) prog_8_method_54_code (8 : Nat) (Option.none : Option Jvm.ClassFile.FieldType)) ∈ lw_all := lw_g (lw_at lw_m4 231 rfl) rfl
theorem q1034 : (Jvm.Cond.methodLink "FlagMachineModel" (365 : Nat) ({ cls := "FlagMachineModel", name := "together", desc := "(II)V" } : Jvm.MethodName)) ∈ lw_all := lw_g (lw_at lw_m4 232 rfl) rfl
theorem q1035 : (Jvm.Cond.privateMethod ({ cls := "FlagMachineModel", name := "together", desc := "(II)V" } : Jvm.MethodName)) ∈ lw_tbl := lw_at lw_m4 233 rfl
theorem q1036 : (Jvm.Cond.instanceMethod ({ cls := "FlagMachineModel", name := "together", desc := "(II)V" } : Jvm.MethodName)) ∈ lw_all := lw_g (lw_at lw_m4 234 rfl) rfl
theorem q1037 : (Jvm.Cond.code ({ cls := "FlagMachineModel", name := "together", desc := "(II)V" } : Jvm.MethodName) prog_8_method_55_code (9 : Nat) (Option.none : Option Jvm.ClassFile.FieldType)) ∈ lw_all := lw_g (lw_at lw_m4 235 rfl) rfl
theorem q1038 : (Jvm.Cond.methodLink "FlagMachineModel" (368 : Nat) ({ cls := "FlagMachineModel", name := "strings", desc := "(II)V" } : Jvm.MethodName)) ∈ lw_all := lw_g (lw_at lw_m4 236 rfl) rfl
theorem q1039 : (Jvm.Cond.privateMethod ({ cls := "FlagMachineModel", name := "strings", desc := "(II)V" } : Jvm.MethodName)) ∈ lw_tbl := lw_at lw_m4 237 rfl
theorem q1040 : (Jvm.Cond.instanceMethod ({ cls := "FlagMachineModel", name := "strings", desc := "(II)V" } : Jvm.MethodName)) ∈ lw_all := lw_g (lw_at lw_m4 238 rfl) rfl
theorem q1041 : (Jvm.Cond.code ({ cls := "FlagMachineModel", name := "strings", desc := "(II)V" } : Jvm.MethodName) prog_8_method_56_code (7 : Nat) (Option.none : Option Jvm.ClassFile.FieldType)) ∈ lw_all := lw_g (lw_at lw_m4 239 rfl) rfl
theorem q1043 : (Jvm.Cond.instanceMethod ({ cls := "FlagMachineModel", name := "value", desc := "()J" } : Jvm.MethodName)) ∈ lw_all := lw_g (lw_at lw_m5 1 rfl) rfl
theorem q1044 : (Jvm.Cond.selects "FlagMachineModel" ({ cls := "FlagMachineModel", name := "value", desc := "()J" } : Jvm.MethodName) ({ cls := "FlagMachineModel", name := "value", desc := "()J" } : Jvm.MethodName)) ∈ lw_all := lw_g (lw_at lw_m5 2 rfl) rfl
theorem q1045 : (Jvm.Cond.code ({ cls := "FlagMachineModel", name := "value", desc := "()J" } : Jvm.MethodName) prog_8_method_62_code (1 : Nat) (Option.some Jvm.ClassFile.FieldType.long)) ∈ lw_all := lw_g (lw_at lw_m5 3 rfl) rfl
theorem q1047 : (Jvm.Cond.instanceMethod ({ cls := "FlagMachineModel", name := "register", desc := "(I)J" } : Jvm.MethodName)) ∈ lw_all := lw_g (lw_at lw_m5 5 rfl) rfl
theorem q1048 : (Jvm.Cond.selects "FlagMachineModel" ({ cls := "FlagMachineModel", name := "register", desc := "(I)J" } : Jvm.MethodName) ({ cls := "FlagMachineModel", name := "register", desc := "(I)J" } : Jvm.MethodName)) ∈ lw_all := lw_g (lw_at lw_m5 6 rfl) rfl
theorem q1049 : (Jvm.Cond.code ({ cls := "FlagMachineModel", name := "register", desc := "(I)J" } : Jvm.MethodName) prog_8_method_63_code (2 : Nat) (Option.some Jvm.ClassFile.FieldType.long)) ∈ lw_all := lw_g (lw_at lw_m5 7 rfl) rfl
theorem q1051 : (Jvm.Cond.instanceMethod ({ cls := "FlagMachineModel", name := "set", desc := "(IJ)Z" } : Jvm.MethodName)) ∈ lw_all := lw_g (lw_at lw_m5 9 rfl) rfl
theorem q1052 : (Jvm.Cond.selects "FlagMachineModel" ({ cls := "FlagMachineModel", name := "set", desc := "(IJ)Z" } : Jvm.MethodName) ({ cls := "FlagMachineModel", name := "set", desc := "(IJ)Z" } : Jvm.MethodName)) ∈ lw_all := lw_g (lw_at lw_m5 10 rfl) rfl
theorem q1053 : (Jvm.Cond.code ({ cls := "FlagMachineModel", name := "set", desc := "(IJ)Z" } : Jvm.MethodName) prog_8_method_64_code (4 : Nat) (Option.some Jvm.ClassFile.FieldType.boolean)) ∈ lw_all := lw_g (lw_at lw_m5 11 rfl) rfl
theorem q1055 : (Jvm.Cond.instanceMethod ({ cls := "FlagMachineModel", name := "input", desc := "(JI)Z" } : Jvm.MethodName)) ∈ lw_all := lw_g (lw_at lw_m5 13 rfl) rfl
theorem q1056 : (Jvm.Cond.selects "FlagMachineModel" ({ cls := "FlagMachineModel", name := "input", desc := "(JI)Z" } : Jvm.MethodName) ({ cls := "FlagMachineModel", name := "input", desc := "(JI)Z" } : Jvm.MethodName)) ∈ lw_all := lw_g (lw_at lw_m5 14 rfl) rfl
theorem q1057 : (Jvm.Cond.code ({ cls := "FlagMachineModel", name := "input", desc := "(JI)Z" } : Jvm.MethodName) prog_8_method_65_code (5 : Nat) (Option.some Jvm.ClassFile.FieldType.boolean)) ∈ lw_all := lw_g (lw_at lw_m5 15 rfl) rfl
theorem q1059 : (Jvm.Cond.instanceMethod ({ cls := "FlagMachineModel", name := "output", desc := "(I)I" } : Jvm.MethodName)) ∈ lw_all := lw_g (lw_at lw_m5 17 rfl) rfl
theorem q1060 : (Jvm.Cond.selects "FlagMachineModel" ({ cls := "FlagMachineModel", name := "output", desc := "(I)I" } : Jvm.MethodName) ({ cls := "FlagMachineModel", name := "output", desc := "(I)I" } : Jvm.MethodName)) ∈ lw_all := lw_g (lw_at lw_m5 18 rfl) rfl
theorem q1061 : (Jvm.Cond.code ({ cls := "FlagMachineModel", name := "output", desc := "(I)I" } : Jvm.MethodName) prog_8_method_66_code (2 : Nat) (Option.some Jvm.ClassFile.FieldType.int)) ∈ lw_all := lw_g (lw_at lw_m5 19 rfl) rfl
theorem q1063 : (Jvm.Cond.instanceMethod ({ cls := "FlagMachineModel", name := "peek", desc := "(J)I" } : Jvm.MethodName)) ∈ lw_all := lw_g (lw_at lw_m5 21 rfl) rfl
theorem q1064 : (Jvm.Cond.selects "FlagMachineModel" ({ cls := "FlagMachineModel", name := "peek", desc := "(J)I" } : Jvm.MethodName) ({ cls := "FlagMachineModel", name := "peek", desc := "(J)I" } : Jvm.MethodName)) ∈ lw_all := lw_g (lw_at lw_m5 22 rfl) rfl
theorem q1065 : (Jvm.Cond.code ({ cls := "FlagMachineModel", name := "peek", desc := "(J)I" } : Jvm.MethodName) prog_8_method_67_code (4 : Nat) (Option.some Jvm.ClassFile.FieldType.int)) ∈ lw_all := lw_g (lw_at lw_m5 23 rfl) rfl
theorem q1067 : (Jvm.Cond.instanceMethod ({ cls := "FlagMachineModel", name := "poke", desc := "(JI)Z" } : Jvm.MethodName)) ∈ lw_all := lw_g (lw_at lw_m5 25 rfl) rfl
theorem q1068 : (Jvm.Cond.selects "FlagMachineModel" ({ cls := "FlagMachineModel", name := "poke", desc := "(JI)Z" } : Jvm.MethodName) ({ cls := "FlagMachineModel", name := "poke", desc := "(JI)Z" } : Jvm.MethodName)) ∈ lw_all := lw_g (lw_at lw_m5 26 rfl) rfl
theorem q1069 : (Jvm.Cond.code ({ cls := "FlagMachineModel", name := "poke", desc := "(JI)Z" } : Jvm.MethodName) prog_8_method_68_code (5 : Nat) (Option.some Jvm.ClassFile.FieldType.boolean)) ∈ lw_all := lw_g (lw_at lw_m5 27 rfl) rfl
theorem in_X5 : ∀ w ∈ wsX50, w ∈ lw_all := lw_in wsX50 [712, 714, 716, 718, 720, 722, 724, 726, 728, 730, 732, 734, 736, 738, 740, 742, 744, 746, 748, 750, 752, 754, 756, 758, 760, 762, 764, 766, 768, 770, 772, 774, 776, 778, 780, 782, 784, 786, 788, 790, 792] (by decide +kernel) (by decide +kernel)
