/-- a private method of a class that the tables say can be made, by its rows of tables_1 -/
def lw_okq (q : MethodName × Nat) : Prop := (q.1.cls ≠ "java/lang/invoke/MethodHandle" ∧ q.1.cls ≠ "java/lang/invoke/VarHandle") ∧ Cond.instantiable q.1.cls q.2 ∈ tables_1 ∧ Cond.privateMethod q.1 ∈ tables_1 ∧ Cond.instanceMethod q.1 ∈ tables_1
set_option maxRecDepth 100000
theorem lw_t1 {w : Cond} (h : w ∈ tables_1_1) : w ∈ tables_1 := List.mem_append_left _ h
theorem lw_t2 {w : Cond} (h : w ∈ tables_1_2) : w ∈ tables_1 := List.mem_append_right _ (List.mem_append_left _ h)
theorem lw_t3 {w : Cond} (h : w ∈ tables_1_3) : w ∈ tables_1 := List.mem_append_right _ (List.mem_append_right _ (List.mem_append_left _ h))
theorem lw_t4 {w : Cond} (h : w ∈ tables_1_4) : w ∈ tables_1 := List.mem_append_right _ (List.mem_append_right _ (List.mem_append_right _ (List.mem_append_left _ h)))
theorem lw_t5 {w : Cond} (h : w ∈ tables_1_5) : w ∈ tables_1 := List.mem_append_right _ (List.mem_append_right _ (List.mem_append_right _ (List.mem_append_right _ h)))
theorem lw_p0 : lw_okq (⟨"FlagMachine$Processor", "perform", "()V"⟩, 11) := ⟨⟨by decide +kernel, by decide +kernel⟩, lw_t1 (List.mem_of_getElem? (i := 64) rfl), lw_t2 (List.mem_of_getElem? (i := 55) rfl), lw_t2 (List.mem_of_getElem? (i := 56) rfl)⟩
theorem lw_p1 : lw_okq (⟨"FlagMachine$Processor", "arithmetic", "(II)V"⟩, 11) := ⟨⟨by decide +kernel, by decide +kernel⟩, lw_t1 (List.mem_of_getElem? (i := 64) rfl), lw_t2 (List.mem_of_getElem? (i := 59) rfl), lw_t2 (List.mem_of_getElem? (i := 60) rfl)⟩
theorem lw_p2 : lw_okq (⟨"FlagMachine$Processor", "get", "(II)J"⟩, 11) := ⟨⟨by decide +kernel, by decide +kernel⟩, lw_t1 (List.mem_of_getElem? (i := 64) rfl), lw_t2 (List.mem_of_getElem? (i := 63) rfl), lw_t2 (List.mem_of_getElem? (i := 64) rfl)⟩
theorem lw_p3 : lw_okq (⟨"FlagMachine$Processor", "address", "()J"⟩, 11) := ⟨⟨by decide +kernel, by decide +kernel⟩, lw_t1 (List.mem_of_getElem? (i := 64) rfl), lw_t2 (List.mem_of_getElem? (i := 67) rfl), lw_t2 (List.mem_of_getElem? (i := 68) rfl)⟩
theorem lw_p4 : lw_okq (⟨"FlagMachine$Processor", "fetch", "(JI)J"⟩, 11) := ⟨⟨by decide +kernel, by decide +kernel⟩, lw_t1 (List.mem_of_getElem? (i := 64) rfl), lw_t2 (List.mem_of_getElem? (i := 71) rfl), lw_t2 (List.mem_of_getElem? (i := 72) rfl)⟩
theorem lw_p5 : lw_okq (⟨"FlagMachine$Processor", "fail", "(IJ)V"⟩, 11) := ⟨⟨by decide +kernel, by decide +kernel⟩, lw_t1 (List.mem_of_getElem? (i := 64) rfl), lw_t2 (List.mem_of_getElem? (i := 94) rfl), lw_t2 (List.mem_of_getElem? (i := 95) rfl)⟩
theorem lw_p6 : lw_okq (⟨"FlagMachine$Processor", "is", "(I)Z"⟩, 11) := ⟨⟨by decide +kernel, by decide +kernel⟩, lw_t1 (List.mem_of_getElem? (i := 64) rfl), lw_t2 (List.mem_of_getElem? (i := 103) rfl), lw_t2 (List.mem_of_getElem? (i := 104) rfl)⟩
theorem lw_p7 : lw_okq (⟨"FlagMachine$Processor", "sum", "(JJZI)J"⟩, 11) := ⟨⟨by decide +kernel, by decide +kernel⟩, lw_t1 (List.mem_of_getElem? (i := 64) rfl), lw_t2 (List.mem_of_getElem? (i := 107) rfl), lw_t2 (List.mem_of_getElem? (i := 108) rfl)⟩
theorem lw_p8 : lw_okq (⟨"FlagMachine$Processor", "mark", "(IZ)V"⟩, 11) := ⟨⟨by decide +kernel, by decide +kernel⟩, lw_t1 (List.mem_of_getElem? (i := 64) rfl), lw_t2 (List.mem_of_getElem? (i := 115) rfl), lw_t2 (List.mem_of_getElem? (i := 116) rfl)⟩
theorem lw_p9 : lw_okq (⟨"FlagMachine$Processor", "follow", "(JI)V"⟩, 11) := ⟨⟨by decide +kernel, by decide +kernel⟩, lw_t1 (List.mem_of_getElem? (i := 64) rfl), lw_t2 (List.mem_of_getElem? (i := 119) rfl), lw_t2 (List.mem_of_getElem? (i := 120) rfl)⟩
theorem lw_p10 : lw_okq (⟨"FlagMachine$Processor", "difference", "(JJZI)J"⟩, 11) := ⟨⟨by decide +kernel, by decide +kernel⟩, lw_t1 (List.mem_of_getElem? (i := 64) rfl), lw_t2 (List.mem_of_getElem? (i := 129) rfl), lw_t2 (List.mem_of_getElem? (i := 130) rfl)⟩
theorem lw_p11 : lw_okq (⟨"FlagMachine$Processor", "logic", "(IJJI)J"⟩, 11) := ⟨⟨by decide +kernel, by decide +kernel⟩, lw_t1 (List.mem_of_getElem? (i := 64) rfl), lw_t2 (List.mem_of_getElem? (i := 133) rfl), lw_t2 (List.mem_of_getElem? (i := 134) rfl)⟩
theorem lw_p12 : lw_okq (⟨"FlagMachine$Processor", "put", "(IIJ)V"⟩, 11) := ⟨⟨by decide +kernel, by decide +kernel⟩, lw_t1 (List.mem_of_getElem? (i := 64) rfl), lw_t2 (List.mem_of_getElem? (i := 137) rfl), lw_t2 (List.mem_of_getElem? (i := 138) rfl)⟩
theorem lw_p13 : lw_okq (⟨"FlagMachine$Processor", "store", "(JIJ)V"⟩, 11) := ⟨⟨by decide +kernel, by decide +kernel⟩, lw_t1 (List.mem_of_getElem? (i := 64) rfl), lw_t2 (List.mem_of_getElem? (i := 141) rfl), lw_t2 (List.mem_of_getElem? (i := 142) rfl)⟩
theorem lw_p14 : lw_okq (⟨"FlagMachine$Processor", "setRegister", "(IIJ)V"⟩, 11) := ⟨⟨by decide +kernel, by decide +kernel⟩, lw_t1 (List.mem_of_getElem? (i := 64) rfl), lw_t2 (List.mem_of_getElem? (i := 149) rfl), lw_t2 (List.mem_of_getElem? (i := 150) rfl)⟩
theorem lw_p15 : lw_okq (⟨"FlagMachine$Processor", "middle", "(II)V"⟩, 11) := ⟨⟨by decide +kernel, by decide +kernel⟩, lw_t1 (List.mem_of_getElem? (i := 64) rfl), lw_t2 (List.mem_of_getElem? (i := 154) rfl), lw_t2 (List.mem_of_getElem? (i := 155) rfl)⟩
def lw_privs_1 : List (MethodName × Nat) := [(⟨"FlagMachine$Processor", "perform", "()V"⟩, 11), (⟨"FlagMachine$Processor", "arithmetic", "(II)V"⟩, 11), (⟨"FlagMachine$Processor", "get", "(II)J"⟩, 11), (⟨"FlagMachine$Processor", "address", "()J"⟩, 11), (⟨"FlagMachine$Processor", "fetch", "(JI)J"⟩, 11), (⟨"FlagMachine$Processor", "fail", "(IJ)V"⟩, 11), (⟨"FlagMachine$Processor", "is", "(I)Z"⟩, 11), (⟨"FlagMachine$Processor", "sum", "(JJZI)J"⟩, 11), (⟨"FlagMachine$Processor", "mark", "(IZ)V"⟩, 11), (⟨"FlagMachine$Processor", "follow", "(JI)V"⟩, 11), (⟨"FlagMachine$Processor", "difference", "(JJZI)J"⟩, 11), (⟨"FlagMachine$Processor", "logic", "(IJJI)J"⟩, 11), (⟨"FlagMachine$Processor", "put", "(IIJ)V"⟩, 11), (⟨"FlagMachine$Processor", "store", "(JIJ)V"⟩, 11), (⟨"FlagMachine$Processor", "setRegister", "(IIJ)V"⟩, 11), (⟨"FlagMachine$Processor", "middle", "(II)V"⟩, 11)]
theorem lw_r1 : ∀ q ∈ lw_privs_1, lw_okq q := List.forall_mem_cons.mpr ⟨lw_p0, List.forall_mem_cons.mpr ⟨lw_p1, List.forall_mem_cons.mpr ⟨lw_p2, List.forall_mem_cons.mpr ⟨lw_p3, List.forall_mem_cons.mpr ⟨lw_p4, List.forall_mem_cons.mpr ⟨lw_p5, List.forall_mem_cons.mpr ⟨lw_p6, List.forall_mem_cons.mpr ⟨lw_p7, List.forall_mem_cons.mpr ⟨lw_p8, List.forall_mem_cons.mpr ⟨lw_p9, List.forall_mem_cons.mpr ⟨lw_p10, List.forall_mem_cons.mpr ⟨lw_p11, List.forall_mem_cons.mpr ⟨lw_p12, List.forall_mem_cons.mpr ⟨lw_p13, List.forall_mem_cons.mpr ⟨lw_p14, List.forall_mem_cons.mpr ⟨lw_p15, fun _ h => absurd h List.not_mem_nil⟩⟩⟩⟩⟩⟩⟩⟩⟩⟩⟩⟩⟩⟩⟩⟩
theorem lw_p16 : lw_okq (⟨"FlagMachine$Processor", "product", "(ZIJ)V"⟩, 11) := ⟨⟨by decide +kernel, by decide +kernel⟩, lw_t1 (List.mem_of_getElem? (i := 64) rfl), lw_t2 (List.mem_of_getElem? (i := 158) rfl), lw_t2 (List.mem_of_getElem? (i := 159) rfl)⟩
theorem lw_p17 : lw_okq (⟨"FlagMachine$Processor", "quotient", "(ZIJ)V"⟩, 11) := ⟨⟨by decide +kernel, by decide +kernel⟩, lw_t1 (List.mem_of_getElem? (i := 64) rfl), lw_t2 (List.mem_of_getElem? (i := 170) rfl), lw_t2 (List.mem_of_getElem? (i := 171) rfl)⟩
theorem lw_p18 : lw_okq (⟨"FlagMachine$Processor", "wide", "(ZJJJ)V"⟩, 11) := ⟨⟨by decide +kernel, by decide +kernel⟩, lw_t1 (List.mem_of_getElem? (i := 64) rfl), lw_t2 (List.mem_of_getElem? (i := 174) rfl), lw_t2 (List.mem_of_getElem? (i := 175) rfl)⟩
theorem lw_p19 : lw_okq (⟨"FlagMachine$Processor", "divided", "(IJJ)V"⟩, 11) := ⟨⟨by decide +kernel, by decide +kernel⟩, lw_t1 (List.mem_of_getElem? (i := 64) rfl), lw_t2 (List.mem_of_getElem? (i := 186) rfl), lw_t2 (List.mem_of_getElem? (i := 187) rfl)⟩
theorem lw_p20 : lw_okq (⟨"FlagMachine$Processor", "times", "(I)V"⟩, 11) := ⟨⟨by decide +kernel, by decide +kernel⟩, lw_t1 (List.mem_of_getElem? (i := 64) rfl), lw_t2 (List.mem_of_getElem? (i := 194) rfl), lw_t2 (List.mem_of_getElem? (i := 195) rfl)⟩
theorem lw_p21 : lw_okq (⟨"FlagMachine$Processor", "shift", "(IIJI)V"⟩, 11) := ⟨⟨by decide +kernel, by decide +kernel⟩, lw_t1 (List.mem_of_getElem? (i := 64) rfl), lw_t2 (List.mem_of_getElem? (i := 198) rfl), lw_t2 (List.mem_of_getElem? (i := 199) rfl)⟩
theorem lw_p22 : lw_okq (⟨"FlagMachine$Processor", "flow", "(II)V"⟩, 11) := ⟨⟨by decide +kernel, by decide +kernel⟩, lw_t1 (List.mem_of_getElem? (i := 64) rfl), lw_t2 (List.mem_of_getElem? (i := 202) rfl), lw_t2 (List.mem_of_getElem? (i := 203) rfl)⟩
theorem lw_p23 : lw_okq (⟨"FlagMachine$Processor", "push", "(J)V"⟩, 11) := ⟨⟨by decide +kernel, by decide +kernel⟩, lw_t1 (List.mem_of_getElem? (i := 64) rfl), lw_t2 (List.mem_of_getElem? (i := 206) rfl), lw_t2 (List.mem_of_getElem? (i := 207) rfl)⟩
theorem lw_p24 : lw_okq (⟨"FlagMachine$Processor", "pop", "()V"⟩, 11) := ⟨⟨by decide +kernel, by decide +kernel⟩, lw_t1 (List.mem_of_getElem? (i := 64) rfl), lw_t2 (List.mem_of_getElem? (i := 211) rfl), lw_t2 (List.mem_of_getElem? (i := 212) rfl)⟩
theorem lw_p25 : lw_okq (⟨"FlagMachine$Processor", "target", "()J"⟩, 11) := ⟨⟨by decide +kernel, by decide +kernel⟩, lw_t1 (List.mem_of_getElem? (i := 64) rfl), lw_t2 (List.mem_of_getElem? (i := 215) rfl), lw_t2 (List.mem_of_getElem? (i := 216) rfl)⟩
theorem lw_p26 : lw_okq (⟨"FlagMachine$Processor", "holds", "(I)Z"⟩, 11) := ⟨⟨by decide +kernel, by decide +kernel⟩, lw_t1 (List.mem_of_getElem? (i := 64) rfl), lw_t2 (List.mem_of_getElem? (i := 219) rfl), lw_t2 (List.mem_of_getElem? (i := 220) rfl)⟩
theorem lw_p27 : lw_okq (⟨"FlagMachine$Processor", "others", "(II)V"⟩, 11) := ⟨⟨by decide +kernel, by decide +kernel⟩, lw_t1 (List.mem_of_getElem? (i := 64) rfl), lw_t2 (List.mem_of_getElem? (i := 223) rfl), lw_t2 (List.mem_of_getElem? (i := 224) rfl)⟩
theorem lw_p28 : lw_okq (⟨"FlagMachine$Processor", "serve", "()V"⟩, 11) := ⟨⟨by decide +kernel, by decide +kernel⟩, lw_t1 (List.mem_of_getElem? (i := 64) rfl), lw_t2 (List.mem_of_getElem? (i := 227) rfl), lw_t2 (List.mem_of_getElem? (i := 228) rfl)⟩
theorem lw_p29 : lw_okq (⟨"FlagMachine$Processor", "readInput", "()J"⟩, 11) := ⟨⟨by decide +kernel, by decide +kernel⟩, lw_t1 (List.mem_of_getElem? (i := 64) rfl), lw_t2 (List.mem_of_getElem? (i := 231) rfl), lw_t2 (List.mem_of_getElem? (i := 232) rfl)⟩
theorem lw_p30 : lw_okq (⟨"FlagMachine$Processor", "all", "(JJZ)Z"⟩, 11) := ⟨⟨by decide +kernel, by decide +kernel⟩, lw_t1 (List.mem_of_getElem? (i := 64) rfl), lw_t2 (List.mem_of_getElem? (i := 235) rfl), lw_t2 (List.mem_of_getElem? (i := 236) rfl)⟩
theorem lw_p31 : lw_okq (⟨"FlagMachine$Processor", "writeOutput", "()J"⟩, 11) := ⟨⟨by decide +kernel, by decide +kernel⟩, lw_t1 (List.mem_of_getElem? (i := 64) rfl), lw_t3 (List.mem_of_getElem? (i := 5) rfl), lw_t3 (List.mem_of_getElem? (i := 6) rfl)⟩
def lw_privs_2 : List (MethodName × Nat) := [(⟨"FlagMachine$Processor", "product", "(ZIJ)V"⟩, 11), (⟨"FlagMachine$Processor", "quotient", "(ZIJ)V"⟩, 11), (⟨"FlagMachine$Processor", "wide", "(ZJJJ)V"⟩, 11), (⟨"FlagMachine$Processor", "divided", "(IJJ)V"⟩, 11), (⟨"FlagMachine$Processor", "times", "(I)V"⟩, 11), (⟨"FlagMachine$Processor", "shift", "(IIJI)V"⟩, 11), (⟨"FlagMachine$Processor", "flow", "(II)V"⟩, 11), (⟨"FlagMachine$Processor", "push", "(J)V"⟩, 11), (⟨"FlagMachine$Processor", "pop", "()V"⟩, 11), (⟨"FlagMachine$Processor", "target", "()J"⟩, 11), (⟨"FlagMachine$Processor", "holds", "(I)Z"⟩, 11), (⟨"FlagMachine$Processor", "others", "(II)V"⟩, 11), (⟨"FlagMachine$Processor", "serve", "()V"⟩, 11), (⟨"FlagMachine$Processor", "readInput", "()J"⟩, 11), (⟨"FlagMachine$Processor", "all", "(JJZ)Z"⟩, 11), (⟨"FlagMachine$Processor", "writeOutput", "()J"⟩, 11)]
theorem lw_r2 : ∀ q ∈ lw_privs_2, lw_okq q := List.forall_mem_cons.mpr ⟨lw_p16, List.forall_mem_cons.mpr ⟨lw_p17, List.forall_mem_cons.mpr ⟨lw_p18, List.forall_mem_cons.mpr ⟨lw_p19, List.forall_mem_cons.mpr ⟨lw_p20, List.forall_mem_cons.mpr ⟨lw_p21, List.forall_mem_cons.mpr ⟨lw_p22, List.forall_mem_cons.mpr ⟨lw_p23, List.forall_mem_cons.mpr ⟨lw_p24, List.forall_mem_cons.mpr ⟨lw_p25, List.forall_mem_cons.mpr ⟨lw_p26, List.forall_mem_cons.mpr ⟨lw_p27, List.forall_mem_cons.mpr ⟨lw_p28, List.forall_mem_cons.mpr ⟨lw_p29, List.forall_mem_cons.mpr ⟨lw_p30, List.forall_mem_cons.mpr ⟨lw_p31, fun _ h => absurd h List.not_mem_nil⟩⟩⟩⟩⟩⟩⟩⟩⟩⟩⟩⟩⟩⟩⟩⟩
theorem lw_p32 : lw_okq (⟨"FlagMachine$Processor", "scan", "(ZIJ)V"⟩, 11) := ⟨⟨by decide +kernel, by decide +kernel⟩, lw_t1 (List.mem_of_getElem? (i := 64) rfl), lw_t3 (List.mem_of_getElem? (i := 22) rfl), lw_t3 (List.mem_of_getElem? (i := 23) rfl)⟩
theorem lw_p33 : lw_okq (⟨"FlagMachine$Processor", "exchangeAdd", "(I)V"⟩, 11) := ⟨⟨by decide +kernel, by decide +kernel⟩, lw_t1 (List.mem_of_getElem? (i := 64) rfl), lw_t3 (List.mem_of_getElem? (i := 44) rfl), lw_t3 (List.mem_of_getElem? (i := 45) rfl)⟩
theorem lw_p34 : lw_okq (⟨"FlagMachine$Processor", "compareExchange", "(I)V"⟩, 11) := ⟨⟨by decide +kernel, by decide +kernel⟩, lw_t1 (List.mem_of_getElem? (i := 64) rfl), lw_t3 (List.mem_of_getElem? (i := 48) rfl), lw_t3 (List.mem_of_getElem? (i := 49) rfl)⟩
theorem lw_p35 : lw_okq (⟨"FlagMachine$Processor", "string", "(II)V"⟩, 11) := ⟨⟨by decide +kernel, by decide +kernel⟩, lw_t1 (List.mem_of_getElem? (i := 64) rfl), lw_t3 (List.mem_of_getElem? (i := 52) rfl), lw_t3 (List.mem_of_getElem? (i := 53) rfl)⟩
theorem lw_p36 : lw_okq (⟨"FlagMachineModel", "anew", "(IIIIII)V"⟩, 41) := ⟨⟨by decide +kernel, by decide +kernel⟩, lw_t3 (List.mem_of_getElem? (i := 88) rfl), lw_t3 (List.mem_of_getElem? (i := 96) rfl), lw_t3 (List.mem_of_getElem? (i := 97) rfl)⟩
theorem lw_p37 : lw_okq (⟨"FlagMachineModel", "setFlags", "(J)V"⟩, 41) := ⟨⟨by decide +kernel, by decide +kernel⟩, lw_t3 (List.mem_of_getElem? (i := 88) rfl), lw_t3 (List.mem_of_getElem? (i := 101) rfl), lw_t3 (List.mem_of_getElem? (i := 102) rfl)⟩
theorem lw_p38 : lw_okq (⟨"FlagMachineModel", "isSound", "()Z"⟩, 41) := ⟨⟨by decide +kernel, by decide +kernel⟩, lw_t3 (List.mem_of_getElem? (i := 88) rfl), lw_t4 (List.mem_of_getElem? (i := 23) rfl), lw_t4 (List.mem_of_getElem? (i := 24) rfl)⟩
theorem lw_p39 : lw_okq (⟨"FlagMachineModel", "sizeFits", "()Z"⟩, 41) := ⟨⟨by decide +kernel, by decide +kernel⟩, lw_t3 (List.mem_of_getElem? (i := 88) rfl), lw_t4 (List.mem_of_getElem? (i := 27) rfl), lw_t4 (List.mem_of_getElem? (i := 28) rfl)⟩
theorem lw_p40 : lw_okq (⟨"FlagMachineModel", "operandsFit", "()Z"⟩, 41) := ⟨⟨by decide +kernel, by decide +kernel⟩, lw_t3 (List.mem_of_getElem? (i := 88) rfl), lw_t4 (List.mem_of_getElem? (i := 31) rfl), lw_t4 (List.mem_of_getElem? (i := 32) rfl)⟩
theorem lw_p41 : lw_okq (⟨"FlagMachineModel", "isEither", "(I)Z"⟩, 41) := ⟨⟨by decide +kernel, by decide +kernel⟩, lw_t3 (List.mem_of_getElem? (i := 88) rfl), lw_t4 (List.mem_of_getElem? (i := 35) rfl), lw_t4 (List.mem_of_getElem? (i := 36) rfl)⟩
theorem lw_p42 : lw_okq (⟨"FlagMachineModel", "isPlain", "(I)Z"⟩, 41) := ⟨⟨by decide +kernel, by decide +kernel⟩, lw_t3 (List.mem_of_getElem? (i := 88) rfl), lw_t4 (List.mem_of_getElem? (i := 39) rfl), lw_t4 (List.mem_of_getElem? (i := 40) rfl)⟩
theorem lw_p43 : lw_okq (⟨"FlagMachineModel", "isNumber", "(IJJ)Z"⟩, 41) := ⟨⟨by decide +kernel, by decide +kernel⟩, lw_t3 (List.mem_of_getElem? (i := 88) rfl), lw_t4 (List.mem_of_getElem? (i := 45) rfl), lw_t4 (List.mem_of_getElem? (i := 46) rfl)⟩
theorem lw_p44 : lw_okq (⟨"FlagMachineModel", "memoryFits", "()Z"⟩, 41) := ⟨⟨by decide +kernel, by decide +kernel⟩, lw_t3 (List.mem_of_getElem? (i := 88) rfl), lw_t4 (List.mem_of_getElem? (i := 53) rfl), lw_t4 (List.mem_of_getElem? (i := 54) rfl)⟩
theorem lw_p45 : lw_okq (⟨"FlagMachineModel", "flags", "()J"⟩, 41) := ⟨⟨by decide +kernel, by decide +kernel⟩, lw_t3 (List.mem_of_getElem? (i := 88) rfl), lw_t4 (List.mem_of_getElem? (i := 57) rfl), lw_t4 (List.mem_of_getElem? (i := 58) rfl)⟩
theorem lw_p46 : lw_okq (⟨"FlagMachineModel", "addressNow", "()J"⟩, 41) := ⟨⟨by decide +kernel, by decide +kernel⟩, lw_t3 (List.mem_of_getElem? (i := 88) rfl), lw_t4 (List.mem_of_getElem? (i := 62) rfl), lw_t4 (List.mem_of_getElem? (i := 63) rfl)⟩
theorem lw_p47 : lw_okq (⟨"FlagMachineModel", "perform", "()V"⟩, 41) := ⟨⟨by decide +kernel, by decide +kernel⟩, lw_t3 (List.mem_of_getElem? (i := 88) rfl), lw_t4 (List.mem_of_getElem? (i := 66) rfl), lw_t4 (List.mem_of_getElem? (i := 67) rfl)⟩
def lw_privs_3 : List (MethodName × Nat) := [(⟨"FlagMachine$Processor", "scan", "(ZIJ)V"⟩, 11), (⟨"FlagMachine$Processor", "exchangeAdd", "(I)V"⟩, 11), (⟨"FlagMachine$Processor", "compareExchange", "(I)V"⟩, 11), (⟨"FlagMachine$Processor", "string", "(II)V"⟩, 11), (⟨"FlagMachineModel", "anew", "(IIIIII)V"⟩, 41), (⟨"FlagMachineModel", "setFlags", "(J)V"⟩, 41), (⟨"FlagMachineModel", "isSound", "()Z"⟩, 41), (⟨"FlagMachineModel", "sizeFits", "()Z"⟩, 41), (⟨"FlagMachineModel", "operandsFit", "()Z"⟩, 41), (⟨"FlagMachineModel", "isEither", "(I)Z"⟩, 41), (⟨"FlagMachineModel", "isPlain", "(I)Z"⟩, 41), (⟨"FlagMachineModel", "isNumber", "(IJJ)Z"⟩, 41), (⟨"FlagMachineModel", "memoryFits", "()Z"⟩, 41), (⟨"FlagMachineModel", "flags", "()J"⟩, 41), (⟨"FlagMachineModel", "addressNow", "()J"⟩, 41), (⟨"FlagMachineModel", "perform", "()V"⟩, 41)]
theorem lw_r3 : ∀ q ∈ lw_privs_3, lw_okq q := List.forall_mem_cons.mpr ⟨lw_p32, List.forall_mem_cons.mpr ⟨lw_p33, List.forall_mem_cons.mpr ⟨lw_p34, List.forall_mem_cons.mpr ⟨lw_p35, List.forall_mem_cons.mpr ⟨lw_p36, List.forall_mem_cons.mpr ⟨lw_p37, List.forall_mem_cons.mpr ⟨lw_p38, List.forall_mem_cons.mpr ⟨lw_p39, List.forall_mem_cons.mpr ⟨lw_p40, List.forall_mem_cons.mpr ⟨lw_p41, List.forall_mem_cons.mpr ⟨lw_p42, List.forall_mem_cons.mpr ⟨lw_p43, List.forall_mem_cons.mpr ⟨lw_p44, List.forall_mem_cons.mpr ⟨lw_p45, List.forall_mem_cons.mpr ⟨lw_p46, List.forall_mem_cons.mpr ⟨lw_p47, fun _ h => absurd h List.not_mem_nil⟩⟩⟩⟩⟩⟩⟩⟩⟩⟩⟩⟩⟩⟩⟩⟩
theorem lw_p48 : lw_okq (⟨"FlagMachineModel", "arithmetic", "(II)V"⟩, 41) := ⟨⟨by decide +kernel, by decide +kernel⟩, lw_t3 (List.mem_of_getElem? (i := 88) rfl), lw_t4 (List.mem_of_getElem? (i := 70) rfl), lw_t4 (List.mem_of_getElem? (i := 71) rfl)⟩
theorem lw_p49 : lw_okq (⟨"FlagMachineModel", "take", "(II)J"⟩, 41) := ⟨⟨by decide +kernel, by decide +kernel⟩, lw_t3 (List.mem_of_getElem? (i := 88) rfl), lw_t4 (List.mem_of_getElem? (i := 74) rfl), lw_t4 (List.mem_of_getElem? (i := 75) rfl)⟩
theorem lw_p50 : lw_okq (⟨"FlagMachineModel", "kindAt", "(I)I"⟩, 41) := ⟨⟨by decide +kernel, by decide +kernel⟩, lw_t3 (List.mem_of_getElem? (i := 88) rfl), lw_t4 (List.mem_of_getElem? (i := 78) rfl), lw_t4 (List.mem_of_getElem? (i := 79) rfl)⟩
theorem lw_p51 : lw_okq (⟨"FlagMachineModel", "registerAt", "(I)I"⟩, 41) := ⟨⟨by decide +kernel, by decide +kernel⟩, lw_t3 (List.mem_of_getElem? (i := 88) rfl), lw_t4 (List.mem_of_getElem? (i := 82) rfl), lw_t4 (List.mem_of_getElem? (i := 83) rfl)⟩
theorem lw_p52 : lw_okq (⟨"FlagMachineModel", "load", "(JI)J"⟩, 41) := ⟨⟨by decide +kernel, by decide +kernel⟩, lw_t3 (List.mem_of_getElem? (i := 88) rfl), lw_t4 (List.mem_of_getElem? (i := 90) rfl), lw_t4 (List.mem_of_getElem? (i := 91) rfl)⟩
theorem lw_p53 : lw_okq (⟨"FlagMachineModel", "find", "(JZ)I"⟩, 41) := ⟨⟨by decide +kernel, by decide +kernel⟩, lw_t3 (List.mem_of_getElem? (i := 88) rfl), lw_t4 (List.mem_of_getElem? (i := 94) rfl), lw_t4 (List.mem_of_getElem? (i := 95) rfl)⟩
theorem lw_p54 : lw_okq (⟨"FlagMachineModel", "heapBegin", "()J"⟩, 41) := ⟨⟨by decide +kernel, by decide +kernel⟩, lw_t3 (List.mem_of_getElem? (i := 88) rfl), lw_t4 (List.mem_of_getElem? (i := 98) rfl), lw_t4 (List.mem_of_getElem? (i := 99) rfl)⟩
theorem lw_p55 : lw_okq (⟨"FlagMachineModel", "stopWith", "(IJ)V"⟩, 41) := ⟨⟨by decide +kernel, by decide +kernel⟩, lw_t3 (List.mem_of_getElem? (i := 88) rfl), lw_t4 (List.mem_of_getElem? (i := 106) rfl), lw_t4 (List.mem_of_getElem? (i := 107) rfl)⟩
theorem lw_p56 : lw_okq (⟨"FlagMachineModel", "byteAtPlace", "(I)I"⟩, 41) := ⟨⟨by decide +kernel, by decide +kernel⟩, lw_t3 (List.mem_of_getElem? (i := 88) rfl), lw_t4 (List.mem_of_getElem? (i := 110) rfl), lw_t4 (List.mem_of_getElem? (i := 111) rfl)⟩
theorem lw_p57 : lw_okq (⟨"FlagMachineModel", "add", "(JJZI)J"⟩, 41) := ⟨⟨by decide +kernel, by decide +kernel⟩, lw_t3 (List.mem_of_getElem? (i := 88) rfl), lw_t4 (List.mem_of_getElem? (i := 115) rfl), lw_t4 (List.mem_of_getElem? (i := 116) rfl)⟩
theorem lw_p58 : lw_okq (⟨"FlagMachineModel", "zsp", "(JI)V"⟩, 41) := ⟨⟨by decide +kernel, by decide +kernel⟩, lw_t3 (List.mem_of_getElem? (i := 88) rfl), lw_t4 (List.mem_of_getElem? (i := 126) rfl), lw_t4 (List.mem_of_getElem? (i := 127) rfl)⟩
theorem lw_p59 : lw_okq (⟨"FlagMachineModel", "subtract", "(JJZI)J"⟩, 41) := ⟨⟨by decide +kernel, by decide +kernel⟩, lw_t3 (List.mem_of_getElem? (i := 88) rfl), lw_t4 (List.mem_of_getElem? (i := 130) rfl), lw_t4 (List.mem_of_getElem? (i := 131) rfl)⟩
theorem lw_p60 : lw_okq (⟨"FlagMachineModel", "put", "(IIJ)V"⟩, 41) := ⟨⟨by decide +kernel, by decide +kernel⟩, lw_t3 (List.mem_of_getElem? (i := 88) rfl), lw_t4 (List.mem_of_getElem? (i := 134) rfl), lw_t4 (List.mem_of_getElem? (i := 135) rfl)⟩
theorem lw_p61 : lw_okq (⟨"FlagMachineModel", "setRegister", "(IIJ)V"⟩, 41) := ⟨⟨by decide +kernel, by decide +kernel⟩, lw_t3 (List.mem_of_getElem? (i := 88) rfl), lw_t4 (List.mem_of_getElem? (i := 138) rfl), lw_t4 (List.mem_of_getElem? (i := 139) rfl)⟩
theorem lw_p62 : lw_okq (⟨"FlagMachineModel", "store", "(JIJ)V"⟩, 41) := ⟨⟨by decide +kernel, by decide +kernel⟩, lw_t3 (List.mem_of_getElem? (i := 88) rfl), lw_t4 (List.mem_of_getElem? (i := 143) rfl), lw_t4 (List.mem_of_getElem? (i := 144) rfl)⟩
theorem lw_p63 : lw_okq (⟨"FlagMachineModel", "setPlace", "(II)V"⟩, 41) := ⟨⟨by decide +kernel, by decide +kernel⟩, lw_t3 (List.mem_of_getElem? (i := 88) rfl), lw_t4 (List.mem_of_getElem? (i := 147) rfl), lw_t4 (List.mem_of_getElem? (i := 148) rfl)⟩
def lw_privs_4 : List (MethodName × Nat) := [(⟨"FlagMachineModel", "arithmetic", "(II)V"⟩, 41), (⟨"FlagMachineModel", "take", "(II)J"⟩, 41), (⟨"FlagMachineModel", "kindAt", "(I)I"⟩, 41), (⟨"FlagMachineModel", "registerAt", "(I)I"⟩, 41), (⟨"FlagMachineModel", "load", "(JI)J"⟩, 41), (⟨"FlagMachineModel", "find", "(JZ)I"⟩, 41), (⟨"FlagMachineModel", "heapBegin", "()J"⟩, 41), (⟨"FlagMachineModel", "stopWith", "(IJ)V"⟩, 41), (⟨"FlagMachineModel", "byteAtPlace", "(I)I"⟩, 41), (⟨"FlagMachineModel", "add", "(JJZI)J"⟩, 41), (⟨"FlagMachineModel", "zsp", "(JI)V"⟩, 41), (⟨"FlagMachineModel", "subtract", "(JJZI)J"⟩, 41), (⟨"FlagMachineModel", "put", "(IIJ)V"⟩, 41), (⟨"FlagMachineModel", "setRegister", "(IIJ)V"⟩, 41), (⟨"FlagMachineModel", "store", "(JIJ)V"⟩, 41), (⟨"FlagMachineModel", "setPlace", "(II)V"⟩, 41)]
theorem lw_r4 : ∀ q ∈ lw_privs_4, lw_okq q := List.forall_mem_cons.mpr ⟨lw_p48, List.forall_mem_cons.mpr ⟨lw_p49, List.forall_mem_cons.mpr ⟨lw_p50, List.forall_mem_cons.mpr ⟨lw_p51, List.forall_mem_cons.mpr ⟨lw_p52, List.forall_mem_cons.mpr ⟨lw_p53, List.forall_mem_cons.mpr ⟨lw_p54, List.forall_mem_cons.mpr ⟨lw_p55, List.forall_mem_cons.mpr ⟨lw_p56, List.forall_mem_cons.mpr ⟨lw_p57, List.forall_mem_cons.mpr ⟨lw_p58, List.forall_mem_cons.mpr ⟨lw_p59, List.forall_mem_cons.mpr ⟨lw_p60, List.forall_mem_cons.mpr ⟨lw_p61, List.forall_mem_cons.mpr ⟨lw_p62, List.forall_mem_cons.mpr ⟨lw_p63, fun _ h => absurd h List.not_mem_nil⟩⟩⟩⟩⟩⟩⟩⟩⟩⟩⟩⟩⟩⟩⟩⟩
theorem lw_p64 : lw_okq (⟨"FlagMachineModel", "moves", "(II)V"⟩, 41) := ⟨⟨by decide +kernel, by decide +kernel⟩, lw_t3 (List.mem_of_getElem? (i := 88) rfl), lw_t4 (List.mem_of_getElem? (i := 151) rfl), lw_t4 (List.mem_of_getElem? (i := 152) rfl)⟩
theorem lw_p65 : lw_okq (⟨"FlagMachineModel", "single", "(II)V"⟩, 41) := ⟨⟨by decide +kernel, by decide +kernel⟩, lw_t3 (List.mem_of_getElem? (i := 88) rfl), lw_t4 (List.mem_of_getElem? (i := 158) rfl), lw_t4 (List.mem_of_getElem? (i := 159) rfl)⟩
theorem lw_p66 : lw_okq (⟨"FlagMachineModel", "multiply", "(ZI)V"⟩, 41) := ⟨⟨by decide +kernel, by decide +kernel⟩, lw_t3 (List.mem_of_getElem? (i := 88) rfl), lw_t4 (List.mem_of_getElem? (i := 163) rfl), lw_t4 (List.mem_of_getElem? (i := 164) rfl)⟩
theorem lw_p67 : lw_okq (⟨"FlagMachineModel", "divide", "(ZI)V"⟩, 41) := ⟨⟨by decide +kernel, by decide +kernel⟩, lw_t3 (List.mem_of_getElem? (i := 88) rfl), lw_t4 (List.mem_of_getElem? (i := 174) rfl), lw_t4 (List.mem_of_getElem? (i := 175) rfl)⟩
theorem lw_p68 : lw_okq (⟨"FlagMachineModel", "divideSmall", "(ZIJ)V"⟩, 41) := ⟨⟨by decide +kernel, by decide +kernel⟩, lw_t3 (List.mem_of_getElem? (i := 88) rfl), lw_t4 (List.mem_of_getElem? (i := 178) rfl), lw_t4 (List.mem_of_getElem? (i := 179) rfl)⟩
theorem lw_p69 : lw_okq (⟨"FlagMachineModel", "product", "(I)V"⟩, 41) := ⟨⟨by decide +kernel, by decide +kernel⟩, lw_t3 (List.mem_of_getElem? (i := 88) rfl), lw_t4 (List.mem_of_getElem? (i := 182) rfl), lw_t4 (List.mem_of_getElem? (i := 183) rfl)⟩
theorem lw_p70 : lw_okq (⟨"FlagMachineModel", "shift", "(II)V"⟩, 41) := ⟨⟨by decide +kernel, by decide +kernel⟩, lw_t3 (List.mem_of_getElem? (i := 88) rfl), lw_t4 (List.mem_of_getElem? (i := 186) rfl), lw_t4 (List.mem_of_getElem? (i := 187) rfl)⟩
theorem lw_p71 : lw_okq (⟨"FlagMachineModel", "goes", "(I)V"⟩, 41) := ⟨⟨by decide +kernel, by decide +kernel⟩, lw_t3 (List.mem_of_getElem? (i := 88) rfl), lw_t4 (List.mem_of_getElem? (i := 190) rfl), lw_t4 (List.mem_of_getElem? (i := 191) rfl)⟩
theorem lw_p72 : lw_okq (⟨"FlagMachineModel", "push", "(J)V"⟩, 41) := ⟨⟨by decide +kernel, by decide +kernel⟩, lw_t3 (List.mem_of_getElem? (i := 88) rfl), lw_t4 (List.mem_of_getElem? (i := 194) rfl), lw_t4 (List.mem_of_getElem? (i := 195) rfl)⟩
theorem lw_p73 : lw_okq (⟨"FlagMachineModel", "pop", "()J"⟩, 41) := ⟨⟨by decide +kernel, by decide +kernel⟩, lw_t3 (List.mem_of_getElem? (i := 88) rfl), lw_t4 (List.mem_of_getElem? (i := 199) rfl), lw_t4 (List.mem_of_getElem? (i := 200) rfl)⟩
theorem lw_p74 : lw_okq (⟨"FlagMachineModel", "isMet", "(I)Z"⟩, 41) := ⟨⟨by decide +kernel, by decide +kernel⟩, lw_t3 (List.mem_of_getElem? (i := 88) rfl), lw_t4 (List.mem_of_getElem? (i := 203) rfl), lw_t4 (List.mem_of_getElem? (i := 204) rfl)⟩
theorem lw_p75 : lw_okq (⟨"FlagMachineModel", "choose", "(I)V"⟩, 41) := ⟨⟨by decide +kernel, by decide +kernel⟩, lw_t3 (List.mem_of_getElem? (i := 88) rfl), lw_t4 (List.mem_of_getElem? (i := 207) rfl), lw_t4 (List.mem_of_getElem? (i := 208) rfl)⟩
theorem lw_p76 : lw_okq (⟨"FlagMachineModel", "spread", "(II)V"⟩, 41) := ⟨⟨by decide +kernel, by decide +kernel⟩, lw_t3 (List.mem_of_getElem? (i := 88) rfl), lw_t4 (List.mem_of_getElem? (i := 211) rfl), lw_t4 (List.mem_of_getElem? (i := 212) rfl)⟩
theorem lw_p77 : lw_okq (⟨"FlagMachineModel", "service", "()V"⟩, 41) := ⟨⟨by decide +kernel, by decide +kernel⟩, lw_t3 (List.mem_of_getElem? (i := 88) rfl), lw_t4 (List.mem_of_getElem? (i := 215) rfl), lw_t4 (List.mem_of_getElem? (i := 216) rfl)⟩
theorem lw_p78 : lw_okq (⟨"FlagMachineModel", "may", "(JJZ)Z"⟩, 41) := ⟨⟨by decide +kernel, by decide +kernel⟩, lw_t3 (List.mem_of_getElem? (i := 88) rfl), lw_t4 (List.mem_of_getElem? (i := 219) rfl), lw_t4 (List.mem_of_getElem? (i := 220) rfl)⟩
theorem lw_p79 : lw_okq (⟨"FlagMachineModel", "bits", "(II)V"⟩, 41) := ⟨⟨by decide +kernel, by decide +kernel⟩, lw_t3 (List.mem_of_getElem? (i := 88) rfl), lw_t4 (List.mem_of_getElem? (i := 229) rfl), lw_t4 (List.mem_of_getElem? (i := 230) rfl)⟩
def lw_privs_5 : List (MethodName × Nat) := [(⟨"FlagMachineModel", "moves", "(II)V"⟩, 41), (⟨"FlagMachineModel", "single", "(II)V"⟩, 41), (⟨"FlagMachineModel", "multiply", "(ZI)V"⟩, 41), (⟨"FlagMachineModel", "divide", "(ZI)V"⟩, 41), (⟨"FlagMachineModel", "divideSmall", "(ZIJ)V"⟩, 41), (⟨"FlagMachineModel", "product", "(I)V"⟩, 41), (⟨"FlagMachineModel", "shift", "(II)V"⟩, 41), (⟨"FlagMachineModel", "goes", "(I)V"⟩, 41), (⟨"FlagMachineModel", "push", "(J)V"⟩, 41), (⟨"FlagMachineModel", "pop", "()J"⟩, 41), (⟨"FlagMachineModel", "isMet", "(I)Z"⟩, 41), (⟨"FlagMachineModel", "choose", "(I)V"⟩, 41), (⟨"FlagMachineModel", "spread", "(II)V"⟩, 41), (⟨"FlagMachineModel", "service", "()V"⟩, 41), (⟨"FlagMachineModel", "may", "(JJZ)Z"⟩, 41), (⟨"FlagMachineModel", "bits", "(II)V"⟩, 41)]
theorem lw_r5 : ∀ q ∈ lw_privs_5, lw_okq q := List.forall_mem_cons.mpr ⟨lw_p64, List.forall_mem_cons.mpr ⟨lw_p65, List.forall_mem_cons.mpr ⟨lw_p66, List.forall_mem_cons.mpr ⟨lw_p67, List.forall_mem_cons.mpr ⟨lw_p68, List.forall_mem_cons.mpr ⟨lw_p69, List.forall_mem_cons.mpr ⟨lw_p70, List.forall_mem_cons.mpr ⟨lw_p71, List.forall_mem_cons.mpr ⟨lw_p72, List.forall_mem_cons.mpr ⟨lw_p73, List.forall_mem_cons.mpr ⟨lw_p74, List.forall_mem_cons.mpr ⟨lw_p75, List.forall_mem_cons.mpr ⟨lw_p76, List.forall_mem_cons.mpr ⟨lw_p77, List.forall_mem_cons.mpr ⟨lw_p78, List.forall_mem_cons.mpr ⟨lw_p79, fun _ h => absurd h List.not_mem_nil⟩⟩⟩⟩⟩⟩⟩⟩⟩⟩⟩⟩⟩⟩⟩⟩
theorem lw_p80 : lw_okq (⟨"FlagMachineModel", "together", "(II)V"⟩, 41) := ⟨⟨by decide +kernel, by decide +kernel⟩, lw_t3 (List.mem_of_getElem? (i := 88) rfl), lw_t4 (List.mem_of_getElem? (i := 233) rfl), lw_t4 (List.mem_of_getElem? (i := 234) rfl)⟩
theorem lw_p81 : lw_okq (⟨"FlagMachineModel", "strings", "(II)V"⟩, 41) := ⟨⟨by decide +kernel, by decide +kernel⟩, lw_t3 (List.mem_of_getElem? (i := 88) rfl), lw_t4 (List.mem_of_getElem? (i := 237) rfl), lw_t4 (List.mem_of_getElem? (i := 238) rfl)⟩
def lw_privs_6 : List (MethodName × Nat) := [(⟨"FlagMachineModel", "together", "(II)V"⟩, 41), (⟨"FlagMachineModel", "strings", "(II)V"⟩, 41)]
theorem lw_r6 : ∀ q ∈ lw_privs_6, lw_okq q := List.forall_mem_cons.mpr ⟨lw_p80, List.forall_mem_cons.mpr ⟨lw_p81, fun _ h => absurd h List.not_mem_nil⟩⟩
def lw_privs : List (MethodName × Nat) := lw_privs_1 ++ (lw_privs_2 ++ (lw_privs_3 ++ (lw_privs_4 ++ (lw_privs_5 ++ (lw_privs_6)))))
def lw_tbl : List Cond := k2_sels lw_privs ++ tables_1
theorem lw_privs_ok : ∀ q ∈ lw_privs, lw_okq q := by
  show ∀ q ∈ lw_privs_1 ++ (lw_privs_2 ++ (lw_privs_3 ++ (lw_privs_4 ++ (lw_privs_5 ++ (lw_privs_6))))), lw_okq q
  exact List.forall_mem_append.mpr ⟨lw_r1, List.forall_mem_append.mpr ⟨lw_r2, List.forall_mem_append.mpr ⟨lw_r3, List.forall_mem_append.mpr ⟨lw_r4, List.forall_mem_append.mpr ⟨lw_r5, lw_r6⟩⟩⟩⟩⟩
-- ===== ONE list of words for every method: the tables' words that hold all through a run =====
def lw_all : List Cond := lw_tbl.filter goodWord
/-- a word of the tables by its place: claim/WORDS.tsv -/
theorem lw_w {w : Cond} (i : Nat) (h : lw_tbl[i]? = some w) (g : goodWord w = true) : w ∈ lw_all := List.mem_filter.mpr ⟨List.mem_of_getElem? h, g⟩
theorem lw_all_tbl {w : Cond} (h : w ∈ lw_all) : w ∈ lw_tbl := (List.mem_filter.mp h).1
theorem lw_self : GoodIn lw_all lw_all := fun w h => ⟨h, good_of_word (List.mem_filter.mp h).2⟩
/-- a class's field words, by their places -/
theorem lw_in (ws : List Cond) (ps : List Nat) (hp : ws = ps.filterMap (fun i => lw_tbl[i]?)) (hg : ws.all goodWord = true) : ∀ w ∈ ws, w ∈ lw_all := by
  intro w h
  have h1 := List.all_eq_true.mp hg w h
  rw [hp] at h
  obtain ⟨i, -, hi⟩ := List.mem_filterMap.mp h
  exact lw_w i hi h1
/-- the words of a contract for the method y with code b, L locals, answer r -/
abbrev ws_ (y : MethodName) (b : ByteArray) (L : Nat) (r : Option FieldType) : List Cond := Cond.code y b L r :: lw_all
theorem lw_meth {y : MethodName} {b : ByteArray} {L : Nat} {r : Option FieldType} (h : Cond.code y b L r ∈ lw_all) : GoodIn lw_all (ws_ y b L r) := by
  intro w hw
  rcases List.mem_cons.mp hw with e | e
  · rw [e]
    exact lw_self _ h
  · exact lw_self _ e
theorem lw_app {a c : List Cond} (ha : ∀ w ∈ a, w ∈ lw_all) (hc : GoodIn lw_all c) : GoodIn lw_all (a ++ c) := by
  intro w hw
  rcases List.mem_append.mp hw with e | e
  · exact lw_self w (ha w e)
  · exact hc w e
/-- what a call through an object asks: cwV n hts (lw_V ..) -/
theorem lw_V {own : String} {idx : Nat} {C : String} {y : MethodName} {b : ByteArray} {L : Nat} {r : Option FieldType} (h1 : Cond.methodLink own idx y ∈ lw_all) (h2 : Cond.instanceMethod y ∈ lw_all) (h3 : Cond.selects C y y ∈ lw_all) (h4 : Cond.initialized C ∈ lw_all) (h5 : Cond.code y b L r ∈ lw_all) : GoodIn lw_all (wsV own idx C y (ws_ y b L r)) := by
  refine lw_app ?_ (lw_meth h5)
  intro w hw
  simp only [List.mem_cons, List.not_mem_nil, or_false] at hw
  rcases hw with e | e | e | e
  · rw [e]; exact h1
  · rw [e]; exact h2
  · rw [e]; exact h3
  · rw [e]; exact h4
/-- what a static call asks: va_cwS n hts (lw_S ..) -/
theorem lw_S {own : String} {idx : Nat} {y : MethodName} {b : ByteArray} {L : Nat} {r : Option FieldType} (h1 : Cond.methodLink own idx y ∈ lw_all) (h2 : Cond.static y ∈ lw_all) (h3 : Cond.initialized y.cls ∈ lw_all) (h4 : Cond.code y b L r ∈ lw_all) : GoodIn lw_all (va_wsS own idx y (ws_ y b L r)) := by
  refine lw_app ?_ (lw_meth h4)
  intro w hw
  simp only [List.mem_cons, List.not_mem_nil, or_false] at hw
  rcases hw with e | e | e
  · rw [e]; exact h1
  · rw [e]; exact h2
  · rw [e]; exact h3
/-- the words of a contract for a method WITH HANDLERS (hh: its table) -/
abbrev wsW_ (y : MethodName) (b : ByteArray) (L : Nat) (r : Option FieldType) (hh : List (Nat × Nat × Nat × Nat)) : List Cond := Cond.codeWith y b L r hh :: lw_all
theorem lw_methW {y : MethodName} {b : ByteArray} {L : Nat} {r : Option FieldType} {hh : List (Nat × Nat × Nat × Nat)} (h : Cond.codeWith y b L r hh ∈ lw_all) : GoodIn lw_all (wsW_ y b L r hh) := by
  intro w hw
  rcases List.mem_cons.mp hw with e | e
  · rw [e]
    exact lw_self _ h
  · exact lw_self _ e
/-- any list of words by their places (lw_in), good -/
theorem lw_good {ws : List Cond} (h : ∀ w ∈ ws, w ∈ lw_all) : GoodIn lw_all ws := fun w hw => lw_self w (h w hw)
/-- what a call of a method with handlers asks: vx_cwVW n hts (lw_VW ..), vx_cwSW n hts (lw_SW ..) -/
theorem lw_VW {own : String} {idx : Nat} {C : String} {y : MethodName} {b : ByteArray} {L : Nat} {r : Option FieldType} {hh : List (Nat × Nat × Nat × Nat)} (h1 : Cond.methodLink own idx y ∈ lw_all) (h2 : Cond.instanceMethod y ∈ lw_all) (h3 : Cond.selects C y y ∈ lw_all) (h4 : Cond.initialized C ∈ lw_all) (h5 : Cond.codeWith y b L r hh ∈ lw_all) : GoodIn lw_all (wsV own idx C y (wsW_ y b L r hh)) := by
  refine lw_app ?_ (lw_methW h5)
  intro w hw
  simp only [List.mem_cons, List.not_mem_nil, or_false] at hw
  rcases hw with e | e | e | e
  · rw [e]; exact h1
  · rw [e]; exact h2
  · rw [e]; exact h3
  · rw [e]; exact h4
theorem lw_SW {own : String} {idx : Nat} {y : MethodName} {b : ByteArray} {L : Nat} {r : Option FieldType} {hh : List (Nat × Nat × Nat × Nat)} (h1 : Cond.methodLink own idx y ∈ lw_all) (h2 : Cond.static y ∈ lw_all) (h3 : Cond.initialized y.cls ∈ lw_all) (h4 : Cond.codeWith y b L r hh ∈ lw_all) : GoodIn lw_all (va_wsS own idx y (wsW_ y b L r hh)) := by
  refine lw_app ?_ (lw_methW h4)
  intro w hw
  simp only [List.mem_cons, List.not_mem_nil, or_false] at hw
  rcases hw with e | e | e
  · rw [e]; exact h1
  · rw [e]; exact h2
  · rw [e]; exact h3
/-- a word by its place in its run of the tables -/
theorem lw_at {r : List Cond} (hr : ∀ w ∈ r, w ∈ lw_tbl) {w : Cond} (i : Nat) (h : r[i]? = some w) : w ∈ lw_tbl := hr w (List.mem_of_getElem? h)
theorem lw_g {w : Cond} (h : w ∈ lw_tbl) (g : goodWord w = true) : w ∈ lw_all := List.mem_filter.mpr ⟨h, g⟩
theorem lw_ms : ∀ w ∈ k2_sels lw_privs, w ∈ lw_tbl := fun w h => show w ∈ k2_sels lw_privs ++ tables_1 from List.mem_append_left _ h
theorem lw_m1 : ∀ w ∈ tables_1_1, w ∈ lw_tbl := fun w h => show w ∈ k2_sels lw_privs ++ tables_1 from List.mem_append_right (k2_sels lw_privs) (show w ∈ tables_1 from List.mem_append_left _ h)
theorem lw_m2 : ∀ w ∈ tables_1_2, w ∈ lw_tbl := fun w h => show w ∈ k2_sels lw_privs ++ tables_1 from List.mem_append_right (k2_sels lw_privs) (show w ∈ tables_1 from List.mem_append_right _ (List.mem_append_left _ h))
theorem lw_m3 : ∀ w ∈ tables_1_3, w ∈ lw_tbl := fun w h => show w ∈ k2_sels lw_privs ++ tables_1 from List.mem_append_right (k2_sels lw_privs) (show w ∈ tables_1 from List.mem_append_right _ (List.mem_append_right _ (List.mem_append_left _ h)))
theorem lw_m4 : ∀ w ∈ tables_1_4, w ∈ lw_tbl := fun w h => show w ∈ k2_sels lw_privs ++ tables_1 from List.mem_append_right (k2_sels lw_privs) (show w ∈ tables_1 from List.mem_append_right _ (List.mem_append_right _ (List.mem_append_right _ (List.mem_append_left _ h))))
theorem lw_m5 : ∀ w ∈ tables_1_5, w ∈ lw_tbl := fun w h => show w ∈ k2_sels lw_privs ++ tables_1 from List.mem_append_right (k2_sels lw_privs) (show w ∈ tables_1 from List.mem_append_right _ (List.mem_append_right _ (List.mem_append_right _ (List.mem_append_right _ h))))
theorem qs0 : (Cond.selects "FlagMachine$Processor" ⟨"FlagMachine$Processor", "perform", "()V"⟩ ⟨"FlagMachine$Processor", "perform", "()V"⟩) ∈ lw_all := lw_g (lw_at lw_ms 0 rfl) rfl
theorem qs1 : (Cond.selects "FlagMachine$Processor" ⟨"FlagMachine$Processor", "arithmetic", "(II)V"⟩ ⟨"FlagMachine$Processor", "arithmetic", "(II)V"⟩) ∈ lw_all := lw_g (lw_at lw_ms 1 rfl) rfl
theorem qs2 : (Cond.selects "FlagMachine$Processor" ⟨"FlagMachine$Processor", "get", "(II)J"⟩ ⟨"FlagMachine$Processor", "get", "(II)J"⟩) ∈ lw_all := lw_g (lw_at lw_ms 2 rfl) rfl
theorem qs3 : (Cond.selects "FlagMachine$Processor" ⟨"FlagMachine$Processor", "address", "()J"⟩ ⟨"FlagMachine$Processor", "address", "()J"⟩) ∈ lw_all := lw_g (lw_at lw_ms 3 rfl) rfl
theorem qs4 : (Cond.selects "FlagMachine$Processor" ⟨"FlagMachine$Processor", "fetch", "(JI)J"⟩ ⟨"FlagMachine$Processor", "fetch", "(JI)J"⟩) ∈ lw_all := lw_g (lw_at lw_ms 4 rfl) rfl
theorem qs5 : (Cond.selects "FlagMachine$Processor" ⟨"FlagMachine$Processor", "fail", "(IJ)V"⟩ ⟨"FlagMachine$Processor", "fail", "(IJ)V"⟩) ∈ lw_all := lw_g (lw_at lw_ms 5 rfl) rfl
theorem qs6 : (Cond.selects "FlagMachine$Processor" ⟨"FlagMachine$Processor", "is", "(I)Z"⟩ ⟨"FlagMachine$Processor", "is", "(I)Z"⟩) ∈ lw_all := lw_g (lw_at lw_ms 6 rfl) rfl
theorem qs7 : (Cond.selects "FlagMachine$Processor" ⟨"FlagMachine$Processor", "sum", "(JJZI)J"⟩ ⟨"FlagMachine$Processor", "sum", "(JJZI)J"⟩) ∈ lw_all := lw_g (lw_at lw_ms 7 rfl) rfl
theorem qs8 : (Cond.selects "FlagMachine$Processor" ⟨"FlagMachine$Processor", "mark", "(IZ)V"⟩ ⟨"FlagMachine$Processor", "mark", "(IZ)V"⟩) ∈ lw_all := lw_g (lw_at lw_ms 8 rfl) rfl
theorem qs9 : (Cond.selects "FlagMachine$Processor" ⟨"FlagMachine$Processor", "follow", "(JI)V"⟩ ⟨"FlagMachine$Processor", "follow", "(JI)V"⟩) ∈ lw_all := lw_g (lw_at lw_ms 9 rfl) rfl
theorem qs10 : (Cond.selects "FlagMachine$Processor" ⟨"FlagMachine$Processor", "difference", "(JJZI)J"⟩ ⟨"FlagMachine$Processor", "difference", "(JJZI)J"⟩) ∈ lw_all := lw_g (lw_at lw_ms 10 rfl) rfl
theorem qs11 : (Cond.selects "FlagMachine$Processor" ⟨"FlagMachine$Processor", "logic", "(IJJI)J"⟩ ⟨"FlagMachine$Processor", "logic", "(IJJI)J"⟩) ∈ lw_all := lw_g (lw_at lw_ms 11 rfl) rfl
theorem qs12 : (Cond.selects "FlagMachine$Processor" ⟨"FlagMachine$Processor", "put", "(IIJ)V"⟩ ⟨"FlagMachine$Processor", "put", "(IIJ)V"⟩) ∈ lw_all := lw_g (lw_at lw_ms 12 rfl) rfl
theorem qs13 : (Cond.selects "FlagMachine$Processor" ⟨"FlagMachine$Processor", "store", "(JIJ)V"⟩ ⟨"FlagMachine$Processor", "store", "(JIJ)V"⟩) ∈ lw_all := lw_g (lw_at lw_ms 13 rfl) rfl
theorem qs14 : (Cond.selects "FlagMachine$Processor" ⟨"FlagMachine$Processor", "setRegister", "(IIJ)V"⟩ ⟨"FlagMachine$Processor", "setRegister", "(IIJ)V"⟩) ∈ lw_all := lw_g (lw_at lw_ms 14 rfl) rfl
theorem qs15 : (Cond.selects "FlagMachine$Processor" ⟨"FlagMachine$Processor", "middle", "(II)V"⟩ ⟨"FlagMachine$Processor", "middle", "(II)V"⟩) ∈ lw_all := lw_g (lw_at lw_ms 15 rfl) rfl
theorem qs16 : (Cond.selects "FlagMachine$Processor" ⟨"FlagMachine$Processor", "product", "(ZIJ)V"⟩ ⟨"FlagMachine$Processor", "product", "(ZIJ)V"⟩) ∈ lw_all := lw_g (lw_at lw_ms 16 rfl) rfl
theorem qs17 : (Cond.selects "FlagMachine$Processor" ⟨"FlagMachine$Processor", "quotient", "(ZIJ)V"⟩ ⟨"FlagMachine$Processor", "quotient", "(ZIJ)V"⟩) ∈ lw_all := lw_g (lw_at lw_ms 17 rfl) rfl
theorem qs18 : (Cond.selects "FlagMachine$Processor" ⟨"FlagMachine$Processor", "wide", "(ZJJJ)V"⟩ ⟨"FlagMachine$Processor", "wide", "(ZJJJ)V"⟩) ∈ lw_all := lw_g (lw_at lw_ms 18 rfl) rfl
theorem qs19 : (Cond.selects "FlagMachine$Processor" ⟨"FlagMachine$Processor", "divided", "(IJJ)V"⟩ ⟨"FlagMachine$Processor", "divided", "(IJJ)V"⟩) ∈ lw_all := lw_g (lw_at lw_ms 19 rfl) rfl
theorem qs20 : (Cond.selects "FlagMachine$Processor" ⟨"FlagMachine$Processor", "times", "(I)V"⟩ ⟨"FlagMachine$Processor", "times", "(I)V"⟩) ∈ lw_all := lw_g (lw_at lw_ms 20 rfl) rfl
theorem qs21 : (Cond.selects "FlagMachine$Processor" ⟨"FlagMachine$Processor", "shift", "(IIJI)V"⟩ ⟨"FlagMachine$Processor", "shift", "(IIJI)V"⟩) ∈ lw_all := lw_g (lw_at lw_ms 21 rfl) rfl
theorem qs22 : (Cond.selects "FlagMachine$Processor" ⟨"FlagMachine$Processor", "flow", "(II)V"⟩ ⟨"FlagMachine$Processor", "flow", "(II)V"⟩) ∈ lw_all := lw_g (lw_at lw_ms 22 rfl) rfl
theorem qs23 : (Cond.selects "FlagMachine$Processor" ⟨"FlagMachine$Processor", "push", "(J)V"⟩ ⟨"FlagMachine$Processor", "push", "(J)V"⟩) ∈ lw_all := lw_g (lw_at lw_ms 23 rfl) rfl
theorem qs24 : (Cond.selects "FlagMachine$Processor" ⟨"FlagMachine$Processor", "pop", "()V"⟩ ⟨"FlagMachine$Processor", "pop", "()V"⟩) ∈ lw_all := lw_g (lw_at lw_ms 24 rfl) rfl
theorem qs25 : (Cond.selects "FlagMachine$Processor" ⟨"FlagMachine$Processor", "target", "()J"⟩ ⟨"FlagMachine$Processor", "target", "()J"⟩) ∈ lw_all := lw_g (lw_at lw_ms 25 rfl) rfl
theorem qs26 : (Cond.selects "FlagMachine$Processor" ⟨"FlagMachine$Processor", "holds", "(I)Z"⟩ ⟨"FlagMachine$Processor", "holds", "(I)Z"⟩) ∈ lw_all := lw_g (lw_at lw_ms 26 rfl) rfl
theorem qs27 : (Cond.selects "FlagMachine$Processor" ⟨"FlagMachine$Processor", "others", "(II)V"⟩ ⟨"FlagMachine$Processor", "others", "(II)V"⟩) ∈ lw_all := lw_g (lw_at lw_ms 27 rfl) rfl
theorem qs28 : (Cond.selects "FlagMachine$Processor" ⟨"FlagMachine$Processor", "serve", "()V"⟩ ⟨"FlagMachine$Processor", "serve", "()V"⟩) ∈ lw_all := lw_g (lw_at lw_ms 28 rfl) rfl
theorem qs29 : (Cond.selects "FlagMachine$Processor" ⟨"FlagMachine$Processor", "readInput", "()J"⟩ ⟨"FlagMachine$Processor", "readInput", "()J"⟩) ∈ lw_all := lw_g (lw_at lw_ms 29 rfl) rfl
theorem qs30 : (Cond.selects "FlagMachine$Processor" ⟨"FlagMachine$Processor", "all", "(JJZ)Z"⟩ ⟨"FlagMachine$Processor", "all", "(JJZ)Z"⟩) ∈ lw_all := lw_g (lw_at lw_ms 30 rfl) rfl
theorem qs31 : (Cond.selects "FlagMachine$Processor" ⟨"FlagMachine$Processor", "writeOutput", "()J"⟩ ⟨"FlagMachine$Processor", "writeOutput", "()J"⟩) ∈ lw_all := lw_g (lw_at lw_ms 31 rfl) rfl
theorem qs32 : (Cond.selects "FlagMachine$Processor" ⟨"FlagMachine$Processor", "scan", "(ZIJ)V"⟩ ⟨"FlagMachine$Processor", "scan", "(ZIJ)V"⟩) ∈ lw_all := lw_g (lw_at lw_ms 32 rfl) rfl
theorem qs33 : (Cond.selects "FlagMachine$Processor" ⟨"FlagMachine$Processor", "exchangeAdd", "(I)V"⟩ ⟨"FlagMachine$Processor", "exchangeAdd", "(I)V"⟩) ∈ lw_all := lw_g (lw_at lw_ms 33 rfl) rfl
theorem qs34 : (Cond.selects "FlagMachine$Processor" ⟨"FlagMachine$Processor", "compareExchange", "(I)V"⟩ ⟨"FlagMachine$Processor", "compareExchange", "(I)V"⟩) ∈ lw_all := lw_g (lw_at lw_ms 34 rfl) rfl
theorem qs35 : (Cond.selects "FlagMachine$Processor" ⟨"FlagMachine$Processor", "string", "(II)V"⟩ ⟨"FlagMachine$Processor", "string", "(II)V"⟩) ∈ lw_all := lw_g (lw_at lw_ms 35 rfl) rfl
theorem qs36 : (Cond.selects "FlagMachineModel" ⟨"FlagMachineModel", "anew", "(IIIIII)V"⟩ ⟨"FlagMachineModel", "anew", "(IIIIII)V"⟩) ∈ lw_all := lw_g (lw_at lw_ms 36 rfl) rfl
theorem qs37 : (Cond.selects "FlagMachineModel" ⟨"FlagMachineModel", "setFlags", "(J)V"⟩ ⟨"FlagMachineModel", "setFlags", "(J)V"⟩) ∈ lw_all := lw_g (lw_at lw_ms 37 rfl) rfl
theorem qs38 : (Cond.selects "FlagMachineModel" ⟨"FlagMachineModel", "isSound", "()Z"⟩ ⟨"FlagMachineModel", "isSound", "()Z"⟩) ∈ lw_all := lw_g (lw_at lw_ms 38 rfl) rfl
theorem qs39 : (Cond.selects "FlagMachineModel" ⟨"FlagMachineModel", "sizeFits", "()Z"⟩ ⟨"FlagMachineModel", "sizeFits", "()Z"⟩) ∈ lw_all := lw_g (lw_at lw_ms 39 rfl) rfl
theorem qs40 : (Cond.selects "FlagMachineModel" ⟨"FlagMachineModel", "operandsFit", "()Z"⟩ ⟨"FlagMachineModel", "operandsFit", "()Z"⟩) ∈ lw_all := lw_g (lw_at lw_ms 40 rfl) rfl
theorem qs41 : (Cond.selects "FlagMachineModel" ⟨"FlagMachineModel", "isEither", "(I)Z"⟩ ⟨"FlagMachineModel", "isEither", "(I)Z"⟩) ∈ lw_all := lw_g (lw_at lw_ms 41 rfl) rfl
theorem qs42 : (Cond.selects "FlagMachineModel" ⟨"FlagMachineModel", "isPlain", "(I)Z"⟩ ⟨"FlagMachineModel", "isPlain", "(I)Z"⟩) ∈ lw_all := lw_g (lw_at lw_ms 42 rfl) rfl
theorem qs43 : (Cond.selects "FlagMachineModel" ⟨"FlagMachineModel", "isNumber", "(IJJ)Z"⟩ ⟨"FlagMachineModel", "isNumber", "(IJJ)Z"⟩) ∈ lw_all := lw_g (lw_at lw_ms 43 rfl) rfl
theorem qs44 : (Cond.selects "FlagMachineModel" ⟨"FlagMachineModel", "memoryFits", "()Z"⟩ ⟨"FlagMachineModel", "memoryFits", "()Z"⟩) ∈ lw_all := lw_g (lw_at lw_ms 44 rfl) rfl
theorem qs45 : (Cond.selects "FlagMachineModel" ⟨"FlagMachineModel", "flags", "()J"⟩ ⟨"FlagMachineModel", "flags", "()J"⟩) ∈ lw_all := lw_g (lw_at lw_ms 45 rfl) rfl
theorem qs46 : (Cond.selects "FlagMachineModel" ⟨"FlagMachineModel", "addressNow", "()J"⟩ ⟨"FlagMachineModel", "addressNow", "()J"⟩) ∈ lw_all := lw_g (lw_at lw_ms 46 rfl) rfl
theorem qs47 : (Cond.selects "FlagMachineModel" ⟨"FlagMachineModel", "perform", "()V"⟩ ⟨"FlagMachineModel", "perform", "()V"⟩) ∈ lw_all := lw_g (lw_at lw_ms 47 rfl) rfl
theorem qs48 : (Cond.selects "FlagMachineModel" ⟨"FlagMachineModel", "arithmetic", "(II)V"⟩ ⟨"FlagMachineModel", "arithmetic", "(II)V"⟩) ∈ lw_all := lw_g (lw_at lw_ms 48 rfl) rfl
theorem qs49 : (Cond.selects "FlagMachineModel" ⟨"FlagMachineModel", "take", "(II)J"⟩ ⟨"FlagMachineModel", "take", "(II)J"⟩) ∈ lw_all := lw_g (lw_at lw_ms 49 rfl) rfl
theorem qs50 : (Cond.selects "FlagMachineModel" ⟨"FlagMachineModel", "kindAt", "(I)I"⟩ ⟨"FlagMachineModel", "kindAt", "(I)I"⟩) ∈ lw_all := lw_g (lw_at lw_ms 50 rfl) rfl
theorem qs51 : (Cond.selects "FlagMachineModel" ⟨"FlagMachineModel", "registerAt", "(I)I"⟩ ⟨"FlagMachineModel", "registerAt", "(I)I"⟩) ∈ lw_all := lw_g (lw_at lw_ms 51 rfl) rfl
theorem qs52 : (Cond.selects "FlagMachineModel" ⟨"FlagMachineModel", "load", "(JI)J"⟩ ⟨"FlagMachineModel", "load", "(JI)J"⟩) ∈ lw_all := lw_g (lw_at lw_ms 52 rfl) rfl
theorem qs53 : (Cond.selects "FlagMachineModel" ⟨"FlagMachineModel", "find", "(JZ)I"⟩ ⟨"FlagMachineModel", "find", "(JZ)I"⟩) ∈ lw_all := lw_g (lw_at lw_ms 53 rfl) rfl
theorem qs54 : (Cond.selects "FlagMachineModel" ⟨"FlagMachineModel", "heapBegin", "()J"⟩ ⟨"FlagMachineModel", "heapBegin", "()J"⟩) ∈ lw_all := lw_g (lw_at lw_ms 54 rfl) rfl
theorem qs55 : (Cond.selects "FlagMachineModel" ⟨"FlagMachineModel", "stopWith", "(IJ)V"⟩ ⟨"FlagMachineModel", "stopWith", "(IJ)V"⟩) ∈ lw_all := lw_g (lw_at lw_ms 55 rfl) rfl
theorem qs56 : (Cond.selects "FlagMachineModel" ⟨"FlagMachineModel", "byteAtPlace", "(I)I"⟩ ⟨"FlagMachineModel", "byteAtPlace", "(I)I"⟩) ∈ lw_all := lw_g (lw_at lw_ms 56 rfl) rfl
theorem qs57 : (Cond.selects "FlagMachineModel" ⟨"FlagMachineModel", "add", "(JJZI)J"⟩ ⟨"FlagMachineModel", "add", "(JJZI)J"⟩) ∈ lw_all := lw_g (lw_at lw_ms 57 rfl) rfl
theorem qs58 : (Cond.selects "FlagMachineModel" ⟨"FlagMachineModel", "zsp", "(JI)V"⟩ ⟨"FlagMachineModel", "zsp", "(JI)V"⟩) ∈ lw_all := lw_g (lw_at lw_ms 58 rfl) rfl
theorem qs59 : (Cond.selects "FlagMachineModel" ⟨"FlagMachineModel", "subtract", "(JJZI)J"⟩ ⟨"FlagMachineModel", "subtract", "(JJZI)J"⟩) ∈ lw_all := lw_g (lw_at lw_ms 59 rfl) rfl
theorem qs60 : (Cond.selects "FlagMachineModel" ⟨"FlagMachineModel", "put", "(IIJ)V"⟩ ⟨"FlagMachineModel", "put", "(IIJ)V"⟩) ∈ lw_all := lw_g (lw_at lw_ms 60 rfl) rfl
theorem qs61 : (Cond.selects "FlagMachineModel" ⟨"FlagMachineModel", "setRegister", "(IIJ)V"⟩ ⟨"FlagMachineModel", "setRegister", "(IIJ)V"⟩) ∈ lw_all := lw_g (lw_at lw_ms 61 rfl) rfl
theorem qs62 : (Cond.selects "FlagMachineModel" ⟨"FlagMachineModel", "store", "(JIJ)V"⟩ ⟨"FlagMachineModel", "store", "(JIJ)V"⟩) ∈ lw_all := lw_g (lw_at lw_ms 62 rfl) rfl
theorem qs63 : (Cond.selects "FlagMachineModel" ⟨"FlagMachineModel", "setPlace", "(II)V"⟩ ⟨"FlagMachineModel", "setPlace", "(II)V"⟩) ∈ lw_all := lw_g (lw_at lw_ms 63 rfl) rfl
theorem qs64 : (Cond.selects "FlagMachineModel" ⟨"FlagMachineModel", "moves", "(II)V"⟩ ⟨"FlagMachineModel", "moves", "(II)V"⟩) ∈ lw_all := lw_g (lw_at lw_ms 64 rfl) rfl
theorem qs65 : (Cond.selects "FlagMachineModel" ⟨"FlagMachineModel", "single", "(II)V"⟩ ⟨"FlagMachineModel", "single", "(II)V"⟩) ∈ lw_all := lw_g (lw_at lw_ms 65 rfl) rfl
theorem qs66 : (Cond.selects "FlagMachineModel" ⟨"FlagMachineModel", "multiply", "(ZI)V"⟩ ⟨"FlagMachineModel", "multiply", "(ZI)V"⟩) ∈ lw_all := lw_g (lw_at lw_ms 66 rfl) rfl
theorem qs67 : (Cond.selects "FlagMachineModel" ⟨"FlagMachineModel", "divide", "(ZI)V"⟩ ⟨"FlagMachineModel", "divide", "(ZI)V"⟩) ∈ lw_all := lw_g (lw_at lw_ms 67 rfl) rfl
theorem qs68 : (Cond.selects "FlagMachineModel" ⟨"FlagMachineModel", "divideSmall", "(ZIJ)V"⟩ ⟨"FlagMachineModel", "divideSmall", "(ZIJ)V"⟩) ∈ lw_all := lw_g (lw_at lw_ms 68 rfl) rfl
theorem qs69 : (Cond.selects "FlagMachineModel" ⟨"FlagMachineModel", "product", "(I)V"⟩ ⟨"FlagMachineModel", "product", "(I)V"⟩) ∈ lw_all := lw_g (lw_at lw_ms 69 rfl) rfl
theorem qs70 : (Cond.selects "FlagMachineModel" ⟨"FlagMachineModel", "shift", "(II)V"⟩ ⟨"FlagMachineModel", "shift", "(II)V"⟩) ∈ lw_all := lw_g (lw_at lw_ms 70 rfl) rfl
theorem qs71 : (Cond.selects "FlagMachineModel" ⟨"FlagMachineModel", "goes", "(I)V"⟩ ⟨"FlagMachineModel", "goes", "(I)V"⟩) ∈ lw_all := lw_g (lw_at lw_ms 71 rfl) rfl
theorem qs72 : (Cond.selects "FlagMachineModel" ⟨"FlagMachineModel", "push", "(J)V"⟩ ⟨"FlagMachineModel", "push", "(J)V"⟩) ∈ lw_all := lw_g (lw_at lw_ms 72 rfl) rfl
theorem qs73 : (Cond.selects "FlagMachineModel" ⟨"FlagMachineModel", "pop", "()J"⟩ ⟨"FlagMachineModel", "pop", "()J"⟩) ∈ lw_all := lw_g (lw_at lw_ms 73 rfl) rfl
theorem qs74 : (Cond.selects "FlagMachineModel" ⟨"FlagMachineModel", "isMet", "(I)Z"⟩ ⟨"FlagMachineModel", "isMet", "(I)Z"⟩) ∈ lw_all := lw_g (lw_at lw_ms 74 rfl) rfl
theorem qs75 : (Cond.selects "FlagMachineModel" ⟨"FlagMachineModel", "choose", "(I)V"⟩ ⟨"FlagMachineModel", "choose", "(I)V"⟩) ∈ lw_all := lw_g (lw_at lw_ms 75 rfl) rfl
theorem qs76 : (Cond.selects "FlagMachineModel" ⟨"FlagMachineModel", "spread", "(II)V"⟩ ⟨"FlagMachineModel", "spread", "(II)V"⟩) ∈ lw_all := lw_g (lw_at lw_ms 76 rfl) rfl
theorem qs77 : (Cond.selects "FlagMachineModel" ⟨"FlagMachineModel", "service", "()V"⟩ ⟨"FlagMachineModel", "service", "()V"⟩) ∈ lw_all := lw_g (lw_at lw_ms 77 rfl) rfl
theorem qs78 : (Cond.selects "FlagMachineModel" ⟨"FlagMachineModel", "may", "(JJZ)Z"⟩ ⟨"FlagMachineModel", "may", "(JJZ)Z"⟩) ∈ lw_all := lw_g (lw_at lw_ms 78 rfl) rfl
theorem qs79 : (Cond.selects "FlagMachineModel" ⟨"FlagMachineModel", "bits", "(II)V"⟩ ⟨"FlagMachineModel", "bits", "(II)V"⟩) ∈ lw_all := lw_g (lw_at lw_ms 79 rfl) rfl
theorem qs80 : (Cond.selects "FlagMachineModel" ⟨"FlagMachineModel", "together", "(II)V"⟩ ⟨"FlagMachineModel", "together", "(II)V"⟩) ∈ lw_all := lw_g (lw_at lw_ms 80 rfl) rfl
theorem qs81 : (Cond.selects "FlagMachineModel" ⟨"FlagMachineModel", "strings", "(II)V"⟩ ⟨"FlagMachineModel", "strings", "(II)V"⟩) ∈ lw_all := lw_g (lw_at lw_ms 81 rfl) rfl
