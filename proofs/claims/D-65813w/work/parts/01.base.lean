-- ===== PART A: goes FIRST, ahead of the names: the tables' words, and 'selects' of the private methods out of them =====
/-- a private method of a class that the tables say can be made, by its rows of tables_1 -/
def lw_okq (q : MethodName × Nat) : Prop := (q.1.cls ≠ "java/lang/invoke/MethodHandle" ∧ q.1.cls ≠ "java/lang/invoke/VarHandle") ∧ Cond.instantiable q.1.cls q.2 ∈ tables_1 ∧ Cond.privateMethod q.1 ∈ tables_1 ∧ Cond.instanceMethod q.1 ∈ tables_1
set_option maxRecDepth 100000
theorem lw_t1 {w : Cond} (h : w ∈ tables_1_1) : w ∈ tables_1 := List.mem_append_left _ h
theorem lw_t2 {w : Cond} (h : w ∈ tables_1_2) : w ∈ tables_1 := List.mem_append_right _ (List.mem_append_left _ h)
theorem lw_t3 {w : Cond} (h : w ∈ tables_1_3) : w ∈ tables_1 := List.mem_append_right _ (List.mem_append_right _ (List.mem_append_left _ h))
theorem lw_t4 {w : Cond} (h : w ∈ tables_1_4) : w ∈ tables_1 := List.mem_append_right _ (List.mem_append_right _ (List.mem_append_right _ (List.mem_append_left _ h)))
theorem lw_t5 {w : Cond} (h : w ∈ tables_1_5) : w ∈ tables_1 := List.mem_append_right _ (List.mem_append_right _ (List.mem_append_right _ (List.mem_append_right _ h)))
theorem lw_p0 : lw_okq (⟨"java/lang/Throwable", "fillInStackTrace", "(I)Ljava/lang/Throwable;"⟩, 6) := ⟨⟨by decide +kernel, by decide +kernel⟩, lw_t1 (List.mem_of_getElem? (i := 87) rfl), lw_t1 (List.mem_of_getElem? (i := 85) rfl), lw_t1 (List.mem_of_getElem? (i := 86) rfl)⟩
theorem lw_p1 : lw_okq (⟨"PatternPairs$Patterns", "whole", "()V"⟩, 18) := ⟨⟨by decide +kernel, by decide +kernel⟩, lw_t1 (List.mem_of_getElem? (i := 40) rfl), lw_t2 (List.mem_of_getElem? (i := 15) rfl), lw_t2 (List.mem_of_getElem? (i := 16) rfl)⟩
theorem lw_p2 : lw_okq (⟨"PatternPairs$Patterns", "either", "()V"⟩, 18) := ⟨⟨by decide +kernel, by decide +kernel⟩, lw_t1 (List.mem_of_getElem? (i := 40) rfl), lw_t2 (List.mem_of_getElem? (i := 19) rfl), lw_t2 (List.mem_of_getElem? (i := 20) rfl)⟩
theorem lw_p3 : lw_okq (⟨"PatternPairs$Patterns", "several", "()V"⟩, 18) := ⟨⟨by decide +kernel, by decide +kernel⟩, lw_t1 (List.mem_of_getElem? (i := 40) rfl), lw_t2 (List.mem_of_getElem? (i := 23) rfl), lw_t2 (List.mem_of_getElem? (i := 24) rfl)⟩
theorem lw_p4 : lw_okq (⟨"PatternPairs$Patterns", "push", "(Z)I"⟩, 18) := ⟨⟨by decide +kernel, by decide +kernel⟩, lw_t1 (List.mem_of_getElem? (i := 40) rfl), lw_t2 (List.mem_of_getElem? (i := 27) rfl), lw_t2 (List.mem_of_getElem? (i := 28) rfl)⟩
theorem lw_p5 : lw_okq (⟨"PatternPairs$Patterns", "ends", "()Z"⟩, 18) := ⟨⟨by decide +kernel, by decide +kernel⟩, lw_t1 (List.mem_of_getElem? (i := 40) rfl), lw_t2 (List.mem_of_getElem? (i := 31) rfl), lw_t2 (List.mem_of_getElem? (i := 32) rfl)⟩
theorem lw_p6 : lw_okq (⟨"PatternPairs$Patterns", "c", "()I"⟩, 18) := ⟨⟨by decide +kernel, by decide +kernel⟩, lw_t1 (List.mem_of_getElem? (i := 40) rfl), lw_t2 (List.mem_of_getElem? (i := 35) rfl), lw_t2 (List.mem_of_getElem? (i := 36) rfl)⟩
theorem lw_p7 : lw_okq (⟨"PatternPairs$Patterns", "repeated", "()V"⟩, 18) := ⟨⟨by decide +kernel, by decide +kernel⟩, lw_t1 (List.mem_of_getElem? (i := 40) rfl), lw_t2 (List.mem_of_getElem? (i := 39) rfl), lw_t2 (List.mem_of_getElem? (i := 40) rfl)⟩
theorem lw_p8 : lw_okq (⟨"PatternPairs$Patterns", "one", "()V"⟩, 18) := ⟨⟨by decide +kernel, by decide +kernel⟩, lw_t1 (List.mem_of_getElem? (i := 40) rfl), lw_t2 (List.mem_of_getElem? (i := 43) rfl), lw_t2 (List.mem_of_getElem? (i := 44) rfl)⟩
theorem lw_p9 : lw_okq (⟨"PatternPairs$Patterns", "fail", "()LPatternPairs$Broken;"⟩, 18) := ⟨⟨by decide +kernel, by decide +kernel⟩, lw_t1 (List.mem_of_getElem? (i := 40) rfl), lw_t2 (List.mem_of_getElem? (i := 47) rfl), lw_t2 (List.mem_of_getElem? (i := 48) rfl)⟩
theorem lw_p10 : lw_okq (⟨"PatternPairs$Patterns", "fail", "(I)LPatternPairs$Broken;"⟩, 18) := ⟨⟨by decide +kernel, by decide +kernel⟩, lw_t1 (List.mem_of_getElem? (i := 40) rfl), lw_t2 (List.mem_of_getElem? (i := 51) rfl), lw_t2 (List.mem_of_getElem? (i := 52) rfl)⟩
theorem lw_p11 : lw_okq (⟨"PatternPairs$Patterns", "place", "()I"⟩, 18) := ⟨⟨by decide +kernel, by decide +kernel⟩, lw_t1 (List.mem_of_getElem? (i := 40) rfl), lw_t2 (List.mem_of_getElem? (i := 55) rfl), lw_t2 (List.mem_of_getElem? (i := 56) rfl)⟩
theorem lw_p12 : lw_okq (⟨"PatternPairs$Patterns", "choice", "(I)V"⟩, 18) := ⟨⟨by decide +kernel, by decide +kernel⟩, lw_t1 (List.mem_of_getElem? (i := 40) rfl), lw_t2 (List.mem_of_getElem? (i := 150) rfl), lw_t2 (List.mem_of_getElem? (i := 151) rfl)⟩
theorem lw_p13 : lw_okq (⟨"PatternPairs$Patterns", "character", "(Z)I"⟩, 18) := ⟨⟨by decide +kernel, by decide +kernel⟩, lw_t1 (List.mem_of_getElem? (i := 40) rfl), lw_t2 (List.mem_of_getElem? (i := 154) rfl), lw_t2 (List.mem_of_getElem? (i := 155) rfl)⟩
theorem lw_p14 : lw_okq (⟨"PatternPairs$Patterns", "set", "(III)V"⟩, 18) := ⟨⟨by decide +kernel, by decide +kernel⟩, lw_t1 (List.mem_of_getElem? (i := 40) rfl), lw_t2 (List.mem_of_getElem? (i := 159) rfl), lw_t2 (List.mem_of_getElem? (i := 160) rfl)⟩
theorem lw_p15 : lw_okq (⟨"PatternPairs$Patterns", "link", "(II)V"⟩, 18) := ⟨⟨by decide +kernel, by decide +kernel⟩, lw_t1 (List.mem_of_getElem? (i := 40) rfl), lw_t2 (List.mem_of_getElem? (i := 165) rfl), lw_t2 (List.mem_of_getElem? (i := 166) rfl)⟩
def lw_privs_1 : List (MethodName × Nat) := [(⟨"java/lang/Throwable", "fillInStackTrace", "(I)Ljava/lang/Throwable;"⟩, 6), (⟨"PatternPairs$Patterns", "whole", "()V"⟩, 18), (⟨"PatternPairs$Patterns", "either", "()V"⟩, 18), (⟨"PatternPairs$Patterns", "several", "()V"⟩, 18), (⟨"PatternPairs$Patterns", "push", "(Z)I"⟩, 18), (⟨"PatternPairs$Patterns", "ends", "()Z"⟩, 18), (⟨"PatternPairs$Patterns", "c", "()I"⟩, 18), (⟨"PatternPairs$Patterns", "repeated", "()V"⟩, 18), (⟨"PatternPairs$Patterns", "one", "()V"⟩, 18), (⟨"PatternPairs$Patterns", "fail", "()LPatternPairs$Broken;"⟩, 18), (⟨"PatternPairs$Patterns", "fail", "(I)LPatternPairs$Broken;"⟩, 18), (⟨"PatternPairs$Patterns", "place", "()I"⟩, 18), (⟨"PatternPairs$Patterns", "choice", "(I)V"⟩, 18), (⟨"PatternPairs$Patterns", "character", "(Z)I"⟩, 18), (⟨"PatternPairs$Patterns", "set", "(III)V"⟩, 18), (⟨"PatternPairs$Patterns", "link", "(II)V"⟩, 18)]
theorem lw_r1 : ∀ q ∈ lw_privs_1, lw_okq q := List.forall_mem_cons.mpr ⟨lw_p0, List.forall_mem_cons.mpr ⟨lw_p1, List.forall_mem_cons.mpr ⟨lw_p2, List.forall_mem_cons.mpr ⟨lw_p3, List.forall_mem_cons.mpr ⟨lw_p4, List.forall_mem_cons.mpr ⟨lw_p5, List.forall_mem_cons.mpr ⟨lw_p6, List.forall_mem_cons.mpr ⟨lw_p7, List.forall_mem_cons.mpr ⟨lw_p8, List.forall_mem_cons.mpr ⟨lw_p9, List.forall_mem_cons.mpr ⟨lw_p10, List.forall_mem_cons.mpr ⟨lw_p11, List.forall_mem_cons.mpr ⟨lw_p12, List.forall_mem_cons.mpr ⟨lw_p13, List.forall_mem_cons.mpr ⟨lw_p14, List.forall_mem_cons.mpr ⟨lw_p15, fun _ h => absurd h List.not_mem_nil⟩⟩⟩⟩⟩⟩⟩⟩⟩⟩⟩⟩⟩⟩⟩⟩
theorem lw_p16 : lw_okq (⟨"PatternPairs$Patterns", "behind", "(II)V"⟩, 18) := ⟨⟨by decide +kernel, by decide +kernel⟩, lw_t1 (List.mem_of_getElem? (i := 40) rfl), lw_t2 (List.mem_of_getElem? (i := 172) rfl), lw_t2 (List.mem_of_getElem? (i := 173) rfl)⟩
theorem lw_p17 : lw_okq (⟨"PatternPairs$Automaton", "step", "(II)I"⟩, 14) := ⟨⟨by decide +kernel, by decide +kernel⟩, lw_t1 (List.mem_of_getElem? (i := 179) rfl), lw_t2 (List.mem_of_getElem? (i := 184) rfl), lw_t2 (List.mem_of_getElem? (i := 185) rfl)⟩
theorem lw_p18 : lw_okq (⟨"PatternPairs$Automaton", "gather", "([JIII)V"⟩, 14) := ⟨⟨by decide +kernel, by decide +kernel⟩, lw_t1 (List.mem_of_getElem? (i := 179) rfl), lw_t2 (List.mem_of_getElem? (i := 188) rfl), lw_t2 (List.mem_of_getElem? (i := 189) rfl)⟩
theorem lw_p19 : lw_okq (⟨"PatternPairs$Automaton", "found", "()I"⟩, 14) := ⟨⟨by decide +kernel, by decide +kernel⟩, lw_t1 (List.mem_of_getElem? (i := 179) rfl), lw_t2 (List.mem_of_getElem? (i := 203) rfl), lw_t2 (List.mem_of_getElem? (i := 204) rfl)⟩
theorem lw_p20 : lw_okq (⟨"PatternPairs$Automaton", "pattern", "(I)I"⟩, 14) := ⟨⟨by decide +kernel, by decide +kernel⟩, lw_t1 (List.mem_of_getElem? (i := 179) rfl), lw_t2 (List.mem_of_getElem? (i := 208) rfl), lw_t2 (List.mem_of_getElem? (i := 209) rfl)⟩
theorem lw_p21 : lw_okq (⟨"PatternPairs$Automaton", "least", "()Z"⟩, 14) := ⟨⟨by decide +kernel, by decide +kernel⟩, lw_t1 (List.mem_of_getElem? (i := 179) rfl), lw_t2 (List.mem_of_getElem? (i := 213) rfl), lw_t2 (List.mem_of_getElem? (i := 214) rfl)⟩
theorem lw_p22 : lw_okq (⟨"PatternPairs$Automaton", "alive", "()V"⟩, 14) := ⟨⟨by decide +kernel, by decide +kernel⟩, lw_t1 (List.mem_of_getElem? (i := 179) rfl), lw_t2 (List.mem_of_getElem? (i := 217) rfl), lw_t2 (List.mem_of_getElem? (i := 218) rfl)⟩
theorem lw_p23 : lw_okq (⟨"PatternPairs$Automaton", "split", "()I"⟩, 14) := ⟨⟨by decide +kernel, by decide +kernel⟩, lw_t1 (List.mem_of_getElem? (i := 179) rfl), lw_t2 (List.mem_of_getElem? (i := 221) rfl), lw_t2 (List.mem_of_getElem? (i := 222) rfl)⟩
theorem lw_p24 : lw_okq (⟨"PatternPairs$Automaton", "alike", "(II)Z"⟩, 14) := ⟨⟨by decide +kernel, by decide +kernel⟩, lw_t1 (List.mem_of_getElem? (i := 179) rfl), lw_t2 (List.mem_of_getElem? (i := 225) rfl), lw_t2 (List.mem_of_getElem? (i := 226) rfl)⟩
theorem lw_p25 : lw_okq (⟨"PatternPairs$Automaton", "number", "()Z"⟩, 14) := ⟨⟨by decide +kernel, by decide +kernel⟩, lw_t1 (List.mem_of_getElem? (i := 179) rfl), lw_t2 (List.mem_of_getElem? (i := 229) rfl), lw_t2 (List.mem_of_getElem? (i := 230) rfl)⟩
theorem lw_p26 : lw_okq (⟨"PatternPairs", "put", "(I)V"⟩, 14) := ⟨⟨by decide +kernel, by decide +kernel⟩, lw_t1 (List.mem_of_getElem? (i := 26) rfl), lw_t3 (List.mem_of_getElem? (i := 103) rfl), lw_t3 (List.mem_of_getElem? (i := 104) rfl)⟩
theorem lw_p27 : lw_okq (⟨"PatternPairs", "pattern", "(I)LPatternPairs$Pattern;"⟩, 14) := ⟨⟨by decide +kernel, by decide +kernel⟩, lw_t1 (List.mem_of_getElem? (i := 26) rfl), lw_t3 (List.mem_of_getElem? (i := 142) rfl), lw_t3 (List.mem_of_getElem? (i := 143) rfl)⟩
theorem lw_p28 : lw_okq (⟨"PatternPairs", "tell", "(I)I"⟩, 14) := ⟨⟨by decide +kernel, by decide +kernel⟩, lw_t1 (List.mem_of_getElem? (i := 26) rfl), lw_t3 (List.mem_of_getElem? (i := 220) rfl), lw_t3 (List.mem_of_getElem? (i := 221) rfl)⟩
theorem lw_p29 : lw_okq (⟨"PatternPairsModel", "parsed", "(II)I"⟩, 47) := ⟨⟨by decide +kernel, by decide +kernel⟩, lw_t4 (List.mem_of_getElem? (i := 19) rfl), lw_t4 (List.mem_of_getElem? (i := 28) rfl), lw_t4 (List.mem_of_getElem? (i := 29) rfl)⟩
theorem lw_p30 : lw_okq (⟨"PatternPairsModel", "parse", "(II)I"⟩, 47) := ⟨⟨by decide +kernel, by decide +kernel⟩, lw_t4 (List.mem_of_getElem? (i := 19) rfl), lw_t4 (List.mem_of_getElem? (i := 32) rfl), lw_t4 (List.mem_of_getElem? (i := 33) rfl)⟩
theorem lw_p31 : lw_okq (⟨"PatternPairsModel", "land", "(I)V"⟩, 47) := ⟨⟨by decide +kernel, by decide +kernel⟩, lw_t4 (List.mem_of_getElem? (i := 19) rfl), lw_t4 (List.mem_of_getElem? (i := 36) rfl), lw_t4 (List.mem_of_getElem? (i := 37) rfl)⟩
def lw_privs_2 : List (MethodName × Nat) := [(⟨"PatternPairs$Patterns", "behind", "(II)V"⟩, 18), (⟨"PatternPairs$Automaton", "step", "(II)I"⟩, 14), (⟨"PatternPairs$Automaton", "gather", "([JIII)V"⟩, 14), (⟨"PatternPairs$Automaton", "found", "()I"⟩, 14), (⟨"PatternPairs$Automaton", "pattern", "(I)I"⟩, 14), (⟨"PatternPairs$Automaton", "least", "()Z"⟩, 14), (⟨"PatternPairs$Automaton", "alive", "()V"⟩, 14), (⟨"PatternPairs$Automaton", "split", "()I"⟩, 14), (⟨"PatternPairs$Automaton", "alike", "(II)Z"⟩, 14), (⟨"PatternPairs$Automaton", "number", "()Z"⟩, 14), (⟨"PatternPairs", "put", "(I)V"⟩, 14), (⟨"PatternPairs", "pattern", "(I)LPatternPairs$Pattern;"⟩, 14), (⟨"PatternPairs", "tell", "(I)I"⟩, 14), (⟨"PatternPairsModel", "parsed", "(II)I"⟩, 47), (⟨"PatternPairsModel", "parse", "(II)I"⟩, 47), (⟨"PatternPairsModel", "land", "(I)V"⟩, 47)]
theorem lw_r2 : ∀ q ∈ lw_privs_2, lw_okq q := List.forall_mem_cons.mpr ⟨lw_p16, List.forall_mem_cons.mpr ⟨lw_p17, List.forall_mem_cons.mpr ⟨lw_p18, List.forall_mem_cons.mpr ⟨lw_p19, List.forall_mem_cons.mpr ⟨lw_p20, List.forall_mem_cons.mpr ⟨lw_p21, List.forall_mem_cons.mpr ⟨lw_p22, List.forall_mem_cons.mpr ⟨lw_p23, List.forall_mem_cons.mpr ⟨lw_p24, List.forall_mem_cons.mpr ⟨lw_p25, List.forall_mem_cons.mpr ⟨lw_p26, List.forall_mem_cons.mpr ⟨lw_p27, List.forall_mem_cons.mpr ⟨lw_p28, List.forall_mem_cons.mpr ⟨lw_p29, List.forall_mem_cons.mpr ⟨lw_p30, List.forall_mem_cons.mpr ⟨lw_p31, fun _ h => absurd h List.not_mem_nil⟩⟩⟩⟩⟩⟩⟩⟩⟩⟩⟩⟩⟩⟩⟩⟩
theorem lw_p32 : lw_okq (⟨"PatternPairsModel", "insert", "(III)V"⟩, 47) := ⟨⟨by decide +kernel, by decide +kernel⟩, lw_t4 (List.mem_of_getElem? (i := 19) rfl), lw_t4 (List.mem_of_getElem? (i := 40) rfl), lw_t4 (List.mem_of_getElem? (i := 41) rfl)⟩
theorem lw_p33 : lw_okq (⟨"PatternPairsModel", "grow", "()V"⟩, 47) := ⟨⟨by decide +kernel, by decide +kernel⟩, lw_t4 (List.mem_of_getElem? (i := 19) rfl), lw_t4 (List.mem_of_getElem? (i := 44) rfl), lw_t4 (List.mem_of_getElem? (i := 45) rfl)⟩
theorem lw_p34 : lw_okq (⟨"PatternPairsModel", "lay", "(II)V"⟩, 47) := ⟨⟨by decide +kernel, by decide +kernel⟩, lw_t4 (List.mem_of_getElem? (i := 19) rfl), lw_t4 (List.mem_of_getElem? (i := 62) rfl), lw_t4 (List.mem_of_getElem? (i := 63) rfl)⟩
theorem lw_p35 : lw_okq (⟨"PatternPairsModel", "single", "(I)Z"⟩, 47) := ⟨⟨by decide +kernel, by decide +kernel⟩, lw_t4 (List.mem_of_getElem? (i := 19) rfl), lw_t4 (List.mem_of_getElem? (i := 66) rfl), lw_t4 (List.mem_of_getElem? (i := 67) rfl)⟩
theorem lw_p36 : lw_okq (⟨"PatternPairsModel", "byteAt", "(I)I"⟩, 47) := ⟨⟨by decide +kernel, by decide +kernel⟩, lw_t4 (List.mem_of_getElem? (i := 19) rfl), lw_t4 (List.mem_of_getElem? (i := 70) rfl), lw_t4 (List.mem_of_getElem? (i := 71) rfl)⟩
theorem lw_p37 : lw_okq (⟨"PatternPairsModel", "bracket", "(I)Z"⟩, 47) := ⟨⟨by decide +kernel, by decide +kernel⟩, lw_t4 (List.mem_of_getElem? (i := 19) rfl), lw_t4 (List.mem_of_getElem? (i := 74) rfl), lw_t4 (List.mem_of_getElem? (i := 75) rfl)⟩
theorem lw_p38 : lw_okq (⟨"PatternPairsModel", "member", "(I)I"⟩, 47) := ⟨⟨by decide +kernel, by decide +kernel⟩, lw_t4 (List.mem_of_getElem? (i := 19) rfl), lw_t4 (List.mem_of_getElem? (i := 78) rfl), lw_t4 (List.mem_of_getElem? (i := 79) rfl)⟩
theorem lw_p39 : lw_okq (⟨"PatternPairsModel", "escaped", "(I)I"⟩, 47) := ⟨⟨by decide +kernel, by decide +kernel⟩, lw_t4 (List.mem_of_getElem? (i := 19) rfl), lw_t4 (List.mem_of_getElem? (i := 82) rfl), lw_t4 (List.mem_of_getElem? (i := 83) rfl)⟩
theorem lw_p40 : lw_okq (⟨"PatternPairsModel", "put", "(I)V"⟩, 47) := ⟨⟨by decide +kernel, by decide +kernel⟩, lw_t4 (List.mem_of_getElem? (i := 19) rfl), lw_t4 (List.mem_of_getElem? (i := 92) rfl), lw_t4 (List.mem_of_getElem? (i := 93) rfl)⟩
theorem lw_p41 : lw_okq (⟨"PatternPairsModel", "build", "()Z"⟩, 47) := ⟨⟨by decide +kernel, by decide +kernel⟩, lw_t4 (List.mem_of_getElem? (i := 19) rfl), lw_t4 (List.mem_of_getElem? (i := 99) rfl), lw_t4 (List.mem_of_getElem? (i := 100) rfl)⟩
theorem lw_p42 : lw_okq (⟨"PatternPairsModel", "begin", "()V"⟩, 47) := ⟨⟨by decide +kernel, by decide +kernel⟩, lw_t4 (List.mem_of_getElem? (i := 19) rfl), lw_t4 (List.mem_of_getElem? (i := 103) rfl), lw_t4 (List.mem_of_getElem? (i := 104) rfl)⟩
theorem lw_p43 : lw_okq (⟨"PatternPairsModel", "reach", "(I)V"⟩, 47) := ⟨⟨by decide +kernel, by decide +kernel⟩, lw_t4 (List.mem_of_getElem? (i := 19) rfl), lw_t4 (List.mem_of_getElem? (i := 107) rfl), lw_t4 (List.mem_of_getElem? (i := 108) rfl)⟩
theorem lw_p44 : lw_okq (⟨"PatternPairsModel", "closure", "()I"⟩, 47) := ⟨⟨by decide +kernel, by decide +kernel⟩, lw_t4 (List.mem_of_getElem? (i := 19) rfl), lw_t4 (List.mem_of_getElem? (i := 111) rfl), lw_t4 (List.mem_of_getElem? (i := 112) rfl)⟩
theorem lw_p45 : lw_okq (⟨"PatternPairsModel", "stateOf", "()I"⟩, 47) := ⟨⟨by decide +kernel, by decide +kernel⟩, lw_t4 (List.mem_of_getElem? (i := 19) rfl), lw_t4 (List.mem_of_getElem? (i := 115) rfl), lw_t4 (List.mem_of_getElem? (i := 116) rfl)⟩
theorem lw_p46 : lw_okq (⟨"PatternPairsModel", "mixture", "()I"⟩, 47) := ⟨⟨by decide +kernel, by decide +kernel⟩, lw_t4 (List.mem_of_getElem? (i := 19) rfl), lw_t4 (List.mem_of_getElem? (i := 119) rfl), lw_t4 (List.mem_of_getElem? (i := 120) rfl)⟩
theorem lw_p47 : lw_okq (⟨"PatternPairsModel", "isSet", "(I)Z"⟩, 47) := ⟨⟨by decide +kernel, by decide +kernel⟩, lw_t4 (List.mem_of_getElem? (i := 19) rfl), lw_t4 (List.mem_of_getElem? (i := 125) rfl), lw_t4 (List.mem_of_getElem? (i := 126) rfl)⟩
def lw_privs_3 : List (MethodName × Nat) := [(⟨"PatternPairsModel", "insert", "(III)V"⟩, 47), (⟨"PatternPairsModel", "grow", "()V"⟩, 47), (⟨"PatternPairsModel", "lay", "(II)V"⟩, 47), (⟨"PatternPairsModel", "single", "(I)Z"⟩, 47), (⟨"PatternPairsModel", "byteAt", "(I)I"⟩, 47), (⟨"PatternPairsModel", "bracket", "(I)Z"⟩, 47), (⟨"PatternPairsModel", "member", "(I)I"⟩, 47), (⟨"PatternPairsModel", "escaped", "(I)I"⟩, 47), (⟨"PatternPairsModel", "put", "(I)V"⟩, 47), (⟨"PatternPairsModel", "build", "()Z"⟩, 47), (⟨"PatternPairsModel", "begin", "()V"⟩, 47), (⟨"PatternPairsModel", "reach", "(I)V"⟩, 47), (⟨"PatternPairsModel", "closure", "()I"⟩, 47), (⟨"PatternPairsModel", "stateOf", "()I"⟩, 47), (⟨"PatternPairsModel", "mixture", "()I"⟩, 47), (⟨"PatternPairsModel", "isSet", "(I)Z"⟩, 47)]
theorem lw_r3 : ∀ q ∈ lw_privs_3, lw_okq q := List.forall_mem_cons.mpr ⟨lw_p32, List.forall_mem_cons.mpr ⟨lw_p33, List.forall_mem_cons.mpr ⟨lw_p34, List.forall_mem_cons.mpr ⟨lw_p35, List.forall_mem_cons.mpr ⟨lw_p36, List.forall_mem_cons.mpr ⟨lw_p37, List.forall_mem_cons.mpr ⟨lw_p38, List.forall_mem_cons.mpr ⟨lw_p39, List.forall_mem_cons.mpr ⟨lw_p40, List.forall_mem_cons.mpr ⟨lw_p41, List.forall_mem_cons.mpr ⟨lw_p42, List.forall_mem_cons.mpr ⟨lw_p43, List.forall_mem_cons.mpr ⟨lw_p44, List.forall_mem_cons.mpr ⟨lw_p45, List.forall_mem_cons.mpr ⟨lw_p46, List.forall_mem_cons.mpr ⟨lw_p47, fun _ h => absurd h List.not_mem_nil⟩⟩⟩⟩⟩⟩⟩⟩⟩⟩⟩⟩⟩⟩⟩⟩
theorem lw_p48 : lw_okq (⟨"PatternPairsModel", "findLiving", "()V"⟩, 47) := ⟨⟨by decide +kernel, by decide +kernel⟩, lw_t4 (List.mem_of_getElem? (i := 19) rfl), lw_t4 (List.mem_of_getElem? (i := 129) rfl), lw_t4 (List.mem_of_getElem? (i := 130) rfl)⟩
theorem lw_p49 : lw_okq (⟨"PatternPairsModel", "findKinds", "()V"⟩, 47) := ⟨⟨by decide +kernel, by decide +kernel⟩, lw_t4 (List.mem_of_getElem? (i := 19) rfl), lw_t4 (List.mem_of_getElem? (i := 133) rfl), lw_t4 (List.mem_of_getElem? (i := 134) rfl)⟩
theorem lw_p50 : lw_okq (⟨"PatternPairsModel", "mixtureOf", "(I)I"⟩, 47) := ⟨⟨by decide +kernel, by decide +kernel⟩, lw_t4 (List.mem_of_getElem? (i := 19) rfl), lw_t4 (List.mem_of_getElem? (i := 137) rfl), lw_t4 (List.mem_of_getElem? (i := 138) rfl)⟩
theorem lw_p51 : lw_okq (⟨"PatternPairsModel", "kindOf", "(I)I"⟩, 47) := ⟨⟨by decide +kernel, by decide +kernel⟩, lw_t4 (List.mem_of_getElem? (i := 19) rfl), lw_t4 (List.mem_of_getElem? (i := 141) rfl), lw_t4 (List.mem_of_getElem? (i := 142) rfl)⟩
theorem lw_p52 : lw_okq (⟨"PatternPairsModel", "isAlike", "(II)Z"⟩, 47) := ⟨⟨by decide +kernel, by decide +kernel⟩, lw_t4 (List.mem_of_getElem? (i := 19) rfl), lw_t4 (List.mem_of_getElem? (i := 145) rfl), lw_t4 (List.mem_of_getElem? (i := 146) rfl)⟩
theorem lw_p53 : lw_okq (⟨"PatternPairsModel", "refuse", "(I)I"⟩, 47) := ⟨⟨by decide +kernel, by decide +kernel⟩, lw_t4 (List.mem_of_getElem? (i := 19) rfl), lw_t5 (List.mem_of_getElem? (i := 55) rfl), lw_t5 (List.mem_of_getElem? (i := 56) rfl)⟩
theorem lw_p54 : lw_okq (⟨"PatternPairsModel", "four", "(I)V"⟩, 47) := ⟨⟨by decide +kernel, by decide +kernel⟩, lw_t4 (List.mem_of_getElem? (i := 19) rfl), lw_t5 (List.mem_of_getElem? (i := 59) rfl), lw_t5 (List.mem_of_getElem? (i := 60) rfl)⟩
theorem lw_p55 : lw_okq (⟨"PatternPairsModel", "take", "()I"⟩, 47) := ⟨⟨by decide +kernel, by decide +kernel⟩, lw_t4 (List.mem_of_getElem? (i := 19) rfl), lw_t5 (List.mem_of_getElem? (i := 71) rfl), lw_t5 (List.mem_of_getElem? (i := 72) rfl)⟩
theorem lw_p56 : lw_okq (⟨"PatternPairsModel", "is", "(II)Z"⟩, 47) := ⟨⟨by decide +kernel, by decide +kernel⟩, lw_t4 (List.mem_of_getElem? (i := 19) rfl), lw_t5 (List.mem_of_getElem? (i := 87) rfl), lw_t5 (List.mem_of_getElem? (i := 88) rfl)⟩
theorem lw_p57 : lw_okq (⟨"PatternPairsModel", "tell", "(I)I"⟩, 47) := ⟨⟨by decide +kernel, by decide +kernel⟩, lw_t4 (List.mem_of_getElem? (i := 19) rfl), lw_t5 (List.mem_of_getElem? (i := 91) rfl), lw_t5 (List.mem_of_getElem? (i := 92) rfl)⟩
def lw_privs_4 : List (MethodName × Nat) := [(⟨"PatternPairsModel", "findLiving", "()V"⟩, 47), (⟨"PatternPairsModel", "findKinds", "()V"⟩, 47), (⟨"PatternPairsModel", "mixtureOf", "(I)I"⟩, 47), (⟨"PatternPairsModel", "kindOf", "(I)I"⟩, 47), (⟨"PatternPairsModel", "isAlike", "(II)Z"⟩, 47), (⟨"PatternPairsModel", "refuse", "(I)I"⟩, 47), (⟨"PatternPairsModel", "four", "(I)V"⟩, 47), (⟨"PatternPairsModel", "take", "()I"⟩, 47), (⟨"PatternPairsModel", "is", "(II)Z"⟩, 47), (⟨"PatternPairsModel", "tell", "(I)I"⟩, 47)]
theorem lw_r4 : ∀ q ∈ lw_privs_4, lw_okq q := List.forall_mem_cons.mpr ⟨lw_p48, List.forall_mem_cons.mpr ⟨lw_p49, List.forall_mem_cons.mpr ⟨lw_p50, List.forall_mem_cons.mpr ⟨lw_p51, List.forall_mem_cons.mpr ⟨lw_p52, List.forall_mem_cons.mpr ⟨lw_p53, List.forall_mem_cons.mpr ⟨lw_p54, List.forall_mem_cons.mpr ⟨lw_p55, List.forall_mem_cons.mpr ⟨lw_p56, List.forall_mem_cons.mpr ⟨lw_p57, fun _ h => absurd h List.not_mem_nil⟩⟩⟩⟩⟩⟩⟩⟩⟩⟩
def lw_privs : List (MethodName × Nat) := lw_privs_1 ++ (lw_privs_2 ++ (lw_privs_3 ++ (lw_privs_4)))
def lw_tbl : List Cond := k2_sels lw_privs ++ tables_1
theorem lw_privs_ok : ∀ q ∈ lw_privs, lw_okq q := by
  show ∀ q ∈ lw_privs_1 ++ (lw_privs_2 ++ (lw_privs_3 ++ (lw_privs_4))), lw_okq q
  exact List.forall_mem_append.mpr ⟨lw_r1, List.forall_mem_append.mpr ⟨lw_r2, List.forall_mem_append.mpr ⟨lw_r3, lw_r4⟩⟩⟩
-- ===== ONE list of words for every method: the tables' words that hold all through a run =====
def lw_all : List Cond := lw_tbl.filter goodWord
/-- a word of the tables by its place: claim/WORDS.tsv -/
theorem lw_w {w : Cond} (i : Nat) (h : lw_tbl[i]? = some w) (g : goodWord w = true) : w ∈ lw_all := List.mem_filter.mpr ⟨List.mem_of_getElem? h, g⟩
theorem lw_all_tbl {w : Cond} (h : w ∈ lw_all) : w ∈ lw_tbl := (List.mem_filter.mp h).1
theorem lw_self : GoodIn lw_all lw_all := fun w h => ⟨h, good_of_word (List.mem_filter.mp h).2⟩
/-- a class's field words, by their places -/
theorem lw_in (ws : List Cond) (ps : List Nat) (hp : ws = ps.filterMap (fun i => lw_tbl[i]?)) (hg : ws.all goodWord = true) : ∀ w ∈ ws, w ∈ lw_all := by
  intro w h
  have h1 := List.all_eq_true.mp hg w h
  rw [hp] at h
  obtain ⟨i, -, hi⟩ := List.mem_filterMap.mp h
  exact lw_w i hi h1
/-- the words of a contract for the method y with code b, L locals, answer r -/
abbrev ws_ (y : MethodName) (b : ByteArray) (L : Nat) (r : Option FieldType) : List Cond := Cond.code y b L r :: lw_all
theorem lw_meth {y : MethodName} {b : ByteArray} {L : Nat} {r : Option FieldType} (h : Cond.code y b L r ∈ lw_all) : GoodIn lw_all (ws_ y b L r) := by
  intro w hw
  rcases List.mem_cons.mp hw with e | e
  · rw [e]
    exact lw_self _ h
  · exact lw_self _ e
theorem lw_app {a c : List Cond} (ha : ∀ w ∈ a, w ∈ lw_all) (hc : GoodIn lw_all c) : GoodIn lw_all (a ++ c) := by
  intro w hw
  rcases List.mem_append.mp hw with e | e
  · exact lw_self w (ha w e)
  · exact hc w e
/-- what a call through an object asks: cwV n hts (lw_V ..) -/
theorem lw_V {own : String} {idx : Nat} {C : String} {y : MethodName} {b : ByteArray} {L : Nat} {r : Option FieldType} (h1 : Cond.methodLink own idx y ∈ lw_all) (h2 : Cond.instanceMethod y ∈ lw_all) (h3 : Cond.selects C y y ∈ lw_all) (h4 : Cond.initialized C ∈ lw_all) (h5 : Cond.code y b L r ∈ lw_all) : GoodIn lw_all (wsV own idx C y (ws_ y b L r)) := by
  refine lw_app ?_ (lw_meth h5)
  intro w hw
  simp only [List.mem_cons, List.not_mem_nil, or_false] at hw
  rcases hw with e | e | e | e
  · rw [e]; exact h1
  · rw [e]; exact h2
  · rw [e]; exact h3
  · rw [e]; exact h4
/-- what a static call asks: va_cwS n hts (lw_S ..) -/
theorem lw_S {own : String} {idx : Nat} {y : MethodName} {b : ByteArray} {L : Nat} {r : Option FieldType} (h1 : Cond.methodLink own idx y ∈ lw_all) (h2 : Cond.static y ∈ lw_all) (h3 : Cond.initialized y.cls ∈ lw_all) (h4 : Cond.code y b L r ∈ lw_all) : GoodIn lw_all (va_wsS own idx y (ws_ y b L r)) := by
  refine lw_app ?_ (lw_meth h4)
  intro w hw
  simp only [List.mem_cons, List.not_mem_nil, or_false] at hw
  rcases hw with e | e | e
  · rw [e]; exact h1
  · rw [e]; exact h2
  · rw [e]; exact h3
/-- the words of a contract for a method WITH HANDLERS (hh: its table) -/
abbrev wsW_ (y : MethodName) (b : ByteArray) (L : Nat) (r : Option FieldType) (hh : List (Nat × Nat × Nat × Nat)) : List Cond := Cond.codeWith y b L r hh :: lw_all
theorem lw_methW {y : MethodName} {b : ByteArray} {L : Nat} {r : Option FieldType} {hh : List (Nat × Nat × Nat × Nat)} (h : Cond.codeWith y b L r hh ∈ lw_all) : GoodIn lw_all (wsW_ y b L r hh) := by
  intro w hw
  rcases List.mem_cons.mp hw with e | e
  · rw [e]
    exact lw_self _ h
  · exact lw_self _ e
/-- any list of words by their places (lw_in), good -/
theorem lw_good {ws : List Cond} (h : ∀ w ∈ ws, w ∈ lw_all) : GoodIn lw_all ws := fun w hw => lw_self w (h w hw)
/-- what a call of a method with handlers asks: vx_cwVW n hts (lw_VW ..), vx_cwSW n hts (lw_SW ..) -/
theorem lw_VW {own : String} {idx : Nat} {C : String} {y : MethodName} {b : ByteArray} {L : Nat} {r : Option FieldType} {hh : List (Nat × Nat × Nat × Nat)} (h1 : Cond.methodLink own idx y ∈ lw_all) (h2 : Cond.instanceMethod y ∈ lw_all) (h3 : Cond.selects C y y ∈ lw_all) (h4 : Cond.initialized C ∈ lw_all) (h5 : Cond.codeWith y b L r hh ∈ lw_all) : GoodIn lw_all (wsV own idx C y (wsW_ y b L r hh)) := by
  refine lw_app ?_ (lw_methW h5)
  intro w hw
  simp only [List.mem_cons, List.not_mem_nil, or_false] at hw
  rcases hw with e | e | e | e
  · rw [e]; exact h1
  · rw [e]; exact h2
  · rw [e]; exact h3
  · rw [e]; exact h4
theorem lw_SW {own : String} {idx : Nat} {y : MethodName} {b : ByteArray} {L : Nat} {r : Option FieldType} {hh : List (Nat × Nat × Nat × Nat)} (h1 : Cond.methodLink own idx y ∈ lw_all) (h2 : Cond.static y ∈ lw_all) (h3 : Cond.initialized y.cls ∈ lw_all) (h4 : Cond.codeWith y b L r hh ∈ lw_all) : GoodIn lw_all (va_wsS own idx y (wsW_ y b L r hh)) := by
  refine lw_app ?_ (lw_methW h4)
  intro w hw
  simp only [List.mem_cons, List.not_mem_nil, or_false] at hw
  rcases hw with e | e | e
  · rw [e]; exact h1
  · rw [e]; exact h2
  · rw [e]; exact h3
/-- a word by its place in its run of the tables -/
theorem lw_at {r : List Cond} (hr : ∀ w ∈ r, w ∈ lw_tbl) {w : Cond} (i : Nat) (h : r[i]? = some w) : w ∈ lw_tbl := hr w (List.mem_of_getElem? h)
theorem lw_g {w : Cond} (h : w ∈ lw_tbl) (g : goodWord w = true) : w ∈ lw_all := List.mem_filter.mpr ⟨h, g⟩
theorem lw_ms : ∀ w ∈ k2_sels lw_privs, w ∈ lw_tbl := fun w h => show w ∈ k2_sels lw_privs ++ tables_1 from List.mem_append_left _ h
theorem lw_m1 : ∀ w ∈ tables_1_1, w ∈ lw_tbl := fun w h => show w ∈ k2_sels lw_privs ++ tables_1 from List.mem_append_right (k2_sels lw_privs) (show w ∈ tables_1 from List.mem_append_left _ h)
theorem lw_m2 : ∀ w ∈ tables_1_2, w ∈ lw_tbl := fun w h => show w ∈ k2_sels lw_privs ++ tables_1 from List.mem_append_right (k2_sels lw_privs) (show w ∈ tables_1 from List.mem_append_right _ (List.mem_append_left _ h))
theorem lw_m3 : ∀ w ∈ tables_1_3, w ∈ lw_tbl := fun w h => show w ∈ k2_sels lw_privs ++ tables_1 from List.mem_append_right (k2_sels lw_privs) (show w ∈ tables_1 from List.mem_append_right _ (List.mem_append_right _ (List.mem_append_left _ h)))
theorem lw_m4 : ∀ w ∈ tables_1_4, w ∈ lw_tbl := fun w h => show w ∈ k2_sels lw_privs ++ tables_1 from List.mem_append_right (k2_sels lw_privs) (show w ∈ tables_1 from List.mem_append_right _ (List.mem_append_right _ (List.mem_append_right _ (List.mem_append_left _ h))))
theorem lw_m5 : ∀ w ∈ tables_1_5, w ∈ lw_tbl := fun w h => show w ∈ k2_sels lw_privs ++ tables_1 from List.mem_append_right (k2_sels lw_privs) (show w ∈ tables_1 from List.mem_append_right _ (List.mem_append_right _ (List.mem_append_right _ (List.mem_append_right _ h))))
theorem qs0 : (Cond.selects "java/lang/Throwable" ⟨"java/lang/Throwable", "fillInStackTrace", "(I)Ljava/lang/Throwable;"⟩ ⟨"java/lang/Throwable", "fillInStackTrace", "(I)Ljava/lang/Throwable;"⟩) ∈ lw_all := lw_g (lw_at lw_ms 0 rfl) rfl
theorem qs1 : (Cond.selects "PatternPairs$Patterns" ⟨"PatternPairs$Patterns", "whole", "()V"⟩ ⟨"PatternPairs$Patterns", "whole", "()V"⟩) ∈ lw_all := lw_g (lw_at lw_ms 1 rfl) rfl
theorem qs2 : (Cond.selects "PatternPairs$Patterns" ⟨"PatternPairs$Patterns", "either", "()V"⟩ ⟨"PatternPairs$Patterns", "either", "()V"⟩) ∈ lw_all := lw_g (lw_at lw_ms 2 rfl) rfl
theorem qs3 : (Cond.selects "PatternPairs$Patterns" ⟨"PatternPairs$Patterns", "several", "()V"⟩ ⟨"PatternPairs$Patterns", "several", "()V"⟩) ∈ lw_all := lw_g (lw_at lw_ms 3 rfl) rfl
theorem qs4 : (Cond.selects "PatternPairs$Patterns" ⟨"PatternPairs$Patterns", "push", "(Z)I"⟩ ⟨"PatternPairs$Patterns", "push", "(Z)I"⟩) ∈ lw_all := lw_g (lw_at lw_ms 4 rfl) rfl
theorem qs5 : (Cond.selects "PatternPairs$Patterns" ⟨"PatternPairs$Patterns", "ends", "()Z"⟩ ⟨"PatternPairs$Patterns", "ends", "()Z"⟩) ∈ lw_all := lw_g (lw_at lw_ms 5 rfl) rfl
theorem qs6 : (Cond.selects "PatternPairs$Patterns" ⟨"PatternPairs$Patterns", "c", "()I"⟩ ⟨"PatternPairs$Patterns", "c", "()I"⟩) ∈ lw_all := lw_g (lw_at lw_ms 6 rfl) rfl
theorem qs7 : (Cond.selects "PatternPairs$Patterns" ⟨"PatternPairs$Patterns", "repeated", "()V"⟩ ⟨"PatternPairs$Patterns", "repeated", "()V"⟩) ∈ lw_all := lw_g (lw_at lw_ms 7 rfl) rfl
theorem qs8 : (Cond.selects "PatternPairs$Patterns" ⟨"PatternPairs$Patterns", "one", "()V"⟩ ⟨"PatternPairs$Patterns", "one", "()V"⟩) ∈ lw_all := lw_g (lw_at lw_ms 8 rfl) rfl
theorem qs9 : (Cond.selects "PatternPairs$Patterns" ⟨"PatternPairs$Patterns", "fail", "()LPatternPairs$Broken;"⟩ ⟨"PatternPairs$Patterns", "fail", "()LPatternPairs$Broken;"⟩) ∈ lw_all := lw_g (lw_at lw_ms 9 rfl) rfl
theorem qs10 : (Cond.selects "PatternPairs$Patterns" ⟨"PatternPairs$Patterns", "fail", "(I)LPatternPairs$Broken;"⟩ ⟨"PatternPairs$Patterns", "fail", "(I)LPatternPairs$Broken;"⟩) ∈ lw_all := lw_g (lw_at lw_ms 10 rfl) rfl
theorem qs11 : (Cond.selects "PatternPairs$Patterns" ⟨"PatternPairs$Patterns", "place", "()I"⟩ ⟨"PatternPairs$Patterns", "place", "()I"⟩) ∈ lw_all := lw_g (lw_at lw_ms 11 rfl) rfl
theorem qs12 : (Cond.selects "PatternPairs$Patterns" ⟨"PatternPairs$Patterns", "choice", "(I)V"⟩ ⟨"PatternPairs$Patterns", "choice", "(I)V"⟩) ∈ lw_all := lw_g (lw_at lw_ms 12 rfl) rfl
theorem qs13 : (Cond.selects "PatternPairs$Patterns" ⟨"PatternPairs$Patterns", "character", "(Z)I"⟩ ⟨"PatternPairs$Patterns", "character", "(Z)I"⟩) ∈ lw_all := lw_g (lw_at lw_ms 13 rfl) rfl
theorem qs14 : (Cond.selects "PatternPairs$Patterns" ⟨"PatternPairs$Patterns", "set", "(III)V"⟩ ⟨"PatternPairs$Patterns", "set", "(III)V"⟩) ∈ lw_all := lw_g (lw_at lw_ms 14 rfl) rfl
theorem qs15 : (Cond.selects "PatternPairs$Patterns" ⟨"PatternPairs$Patterns", "link", "(II)V"⟩ ⟨"PatternPairs$Patterns", "link", "(II)V"⟩) ∈ lw_all := lw_g (lw_at lw_ms 15 rfl) rfl
theorem qs16 : (Cond.selects "PatternPairs$Patterns" ⟨"PatternPairs$Patterns", "behind", "(II)V"⟩ ⟨"PatternPairs$Patterns", "behind", "(II)V"⟩) ∈ lw_all := lw_g (lw_at lw_ms 16 rfl) rfl
theorem qs17 : (Cond.selects "PatternPairs$Automaton" ⟨"PatternPairs$Automaton", "step", "(II)I"⟩ ⟨"PatternPairs$Automaton", "step", "(II)I"⟩) ∈ lw_all := lw_g (lw_at lw_ms 17 rfl) rfl
theorem qs18 : (Cond.selects "PatternPairs$Automaton" ⟨"PatternPairs$Automaton", "gather", "([JIII)V"⟩ ⟨"PatternPairs$Automaton", "gather", "([JIII)V"⟩) ∈ lw_all := lw_g (lw_at lw_ms 18 rfl) rfl
theorem qs19 : (Cond.selects "PatternPairs$Automaton" ⟨"PatternPairs$Automaton", "found", "()I"⟩ ⟨"PatternPairs$Automaton", "found", "()I"⟩) ∈ lw_all := lw_g (lw_at lw_ms 19 rfl) rfl
theorem qs20 : (Cond.selects "PatternPairs$Automaton" ⟨"PatternPairs$Automaton", "pattern", "(I)I"⟩ ⟨"PatternPairs$Automaton", "pattern", "(I)I"⟩) ∈ lw_all := lw_g (lw_at lw_ms 20 rfl) rfl
theorem qs21 : (Cond.selects "PatternPairs$Automaton" ⟨"PatternPairs$Automaton", "least", "()Z"⟩ ⟨"PatternPairs$Automaton", "least", "()Z"⟩) ∈ lw_all := lw_g (lw_at lw_ms 21 rfl) rfl
theorem qs22 : (Cond.selects "PatternPairs$Automaton" ⟨"PatternPairs$Automaton", "alive", "()V"⟩ ⟨"PatternPairs$Automaton", "alive", "()V"⟩) ∈ lw_all := lw_g (lw_at lw_ms 22 rfl) rfl
theorem qs23 : (Cond.selects "PatternPairs$Automaton" ⟨"PatternPairs$Automaton", "split", "()I"⟩ ⟨"PatternPairs$Automaton", "split", "()I"⟩) ∈ lw_all := lw_g (lw_at lw_ms 23 rfl) rfl
theorem qs24 : (Cond.selects "PatternPairs$Automaton" ⟨"PatternPairs$Automaton", "alike", "(II)Z"⟩ ⟨"PatternPairs$Automaton", "alike", "(II)Z"⟩) ∈ lw_all := lw_g (lw_at lw_ms 24 rfl) rfl
theorem qs25 : (Cond.selects "PatternPairs$Automaton" ⟨"PatternPairs$Automaton", "number", "()Z"⟩ ⟨"PatternPairs$Automaton", "number", "()Z"⟩) ∈ lw_all := lw_g (lw_at lw_ms 25 rfl) rfl
theorem qs26 : (Cond.selects "PatternPairs" ⟨"PatternPairs", "put", "(I)V"⟩ ⟨"PatternPairs", "put", "(I)V"⟩) ∈ lw_all := lw_g (lw_at lw_ms 26 rfl) rfl
theorem qs27 : (Cond.selects "PatternPairs" ⟨"PatternPairs", "pattern", "(I)LPatternPairs$Pattern;"⟩ ⟨"PatternPairs", "pattern", "(I)LPatternPairs$Pattern;"⟩) ∈ lw_all := lw_g (lw_at lw_ms 27 rfl) rfl
theorem qs28 : (Cond.selects "PatternPairs" ⟨"PatternPairs", "tell", "(I)I"⟩ ⟨"PatternPairs", "tell", "(I)I"⟩) ∈ lw_all := lw_g (lw_at lw_ms 28 rfl) rfl
theorem qs29 : (Cond.selects "PatternPairsModel" ⟨"PatternPairsModel", "parsed", "(II)I"⟩ ⟨"PatternPairsModel", "parsed", "(II)I"⟩) ∈ lw_all := lw_g (lw_at lw_ms 29 rfl) rfl
theorem qs30 : (Cond.selects "PatternPairsModel" ⟨"PatternPairsModel", "parse", "(II)I"⟩ ⟨"PatternPairsModel", "parse", "(II)I"⟩) ∈ lw_all := lw_g (lw_at lw_ms 30 rfl) rfl
theorem qs31 : (Cond.selects "PatternPairsModel" ⟨"PatternPairsModel", "land", "(I)V"⟩ ⟨"PatternPairsModel", "land", "(I)V"⟩) ∈ lw_all := lw_g (lw_at lw_ms 31 rfl) rfl
theorem qs32 : (Cond.selects "PatternPairsModel" ⟨"PatternPairsModel", "insert", "(III)V"⟩ ⟨"PatternPairsModel", "insert", "(III)V"⟩) ∈ lw_all := lw_g (lw_at lw_ms 32 rfl) rfl
theorem qs33 : (Cond.selects "PatternPairsModel" ⟨"PatternPairsModel", "grow", "()V"⟩ ⟨"PatternPairsModel", "grow", "()V"⟩) ∈ lw_all := lw_g (lw_at lw_ms 33 rfl) rfl
theorem qs34 : (Cond.selects "PatternPairsModel" ⟨"PatternPairsModel", "lay", "(II)V"⟩ ⟨"PatternPairsModel", "lay", "(II)V"⟩) ∈ lw_all := lw_g (lw_at lw_ms 34 rfl) rfl
theorem qs35 : (Cond.selects "PatternPairsModel" ⟨"PatternPairsModel", "single", "(I)Z"⟩ ⟨"PatternPairsModel", "single", "(I)Z"⟩) ∈ lw_all := lw_g (lw_at lw_ms 35 rfl) rfl
theorem qs36 : (Cond.selects "PatternPairsModel" ⟨"PatternPairsModel", "byteAt", "(I)I"⟩ ⟨"PatternPairsModel", "byteAt", "(I)I"⟩) ∈ lw_all := lw_g (lw_at lw_ms 36 rfl) rfl
theorem qs37 : (Cond.selects "PatternPairsModel" ⟨"PatternPairsModel", "bracket", "(I)Z"⟩ ⟨"PatternPairsModel", "bracket", "(I)Z"⟩) ∈ lw_all := lw_g (lw_at lw_ms 37 rfl) rfl
theorem qs38 : (Cond.selects "PatternPairsModel" ⟨"PatternPairsModel", "member", "(I)I"⟩ ⟨"PatternPairsModel", "member", "(I)I"⟩) ∈ lw_all := lw_g (lw_at lw_ms 38 rfl) rfl
theorem qs39 : (Cond.selects "PatternPairsModel" ⟨"PatternPairsModel", "escaped", "(I)I"⟩ ⟨"PatternPairsModel", "escaped", "(I)I"⟩) ∈ lw_all := lw_g (lw_at lw_ms 39 rfl) rfl
theorem qs40 : (Cond.selects "PatternPairsModel" ⟨"PatternPairsModel", "put", "(I)V"⟩ ⟨"PatternPairsModel", "put", "(I)V"⟩) ∈ lw_all := lw_g (lw_at lw_ms 40 rfl) rfl
theorem qs41 : (Cond.selects "PatternPairsModel" ⟨"PatternPairsModel", "build", "()Z"⟩ ⟨"PatternPairsModel", "build", "()Z"⟩) ∈ lw_all := lw_g (lw_at lw_ms 41 rfl) rfl
theorem qs42 : (Cond.selects "PatternPairsModel" ⟨"PatternPairsModel", "begin", "()V"⟩ ⟨"PatternPairsModel", "begin", "()V"⟩) ∈ lw_all := lw_g (lw_at lw_ms 42 rfl) rfl
theorem qs43 : (Cond.selects "PatternPairsModel" ⟨"PatternPairsModel", "reach", "(I)V"⟩ ⟨"PatternPairsModel", "reach", "(I)V"⟩) ∈ lw_all := lw_g (lw_at lw_ms 43 rfl) rfl
theorem qs44 : (Cond.selects "PatternPairsModel" ⟨"PatternPairsModel", "closure", "()I"⟩ ⟨"PatternPairsModel", "closure", "()I"⟩) ∈ lw_all := lw_g (lw_at lw_ms 44 rfl) rfl
theorem qs45 : (Cond.selects "PatternPairsModel" ⟨"PatternPairsModel", "stateOf", "()I"⟩ ⟨"PatternPairsModel", "stateOf", "()I"⟩) ∈ lw_all := lw_g (lw_at lw_ms 45 rfl) rfl
theorem qs46 : (Cond.selects "PatternPairsModel" ⟨"PatternPairsModel", "mixture", "()I"⟩ ⟨"PatternPairsModel", "mixture", "()I"⟩) ∈ lw_all := lw_g (lw_at lw_ms 46 rfl) rfl
theorem qs47 : (Cond.selects "PatternPairsModel" ⟨"PatternPairsModel", "isSet", "(I)Z"⟩ ⟨"PatternPairsModel", "isSet", "(I)Z"⟩) ∈ lw_all := lw_g (lw_at lw_ms 47 rfl) rfl
theorem qs48 : (Cond.selects "PatternPairsModel" ⟨"PatternPairsModel", "findLiving", "()V"⟩ ⟨"PatternPairsModel", "findLiving", "()V"⟩) ∈ lw_all := lw_g (lw_at lw_ms 48 rfl) rfl
theorem qs49 : (Cond.selects "PatternPairsModel" ⟨"PatternPairsModel", "findKinds", "()V"⟩ ⟨"PatternPairsModel", "findKinds", "()V"⟩) ∈ lw_all := lw_g (lw_at lw_ms 49 rfl) rfl
theorem qs50 : (Cond.selects "PatternPairsModel" ⟨"PatternPairsModel", "mixtureOf", "(I)I"⟩ ⟨"PatternPairsModel", "mixtureOf", "(I)I"⟩) ∈ lw_all := lw_g (lw_at lw_ms 50 rfl) rfl
theorem qs51 : (Cond.selects "PatternPairsModel" ⟨"PatternPairsModel", "kindOf", "(I)I"⟩ ⟨"PatternPairsModel", "kindOf", "(I)I"⟩) ∈ lw_all := lw_g (lw_at lw_ms 51 rfl) rfl
theorem qs52 : (Cond.selects "PatternPairsModel" ⟨"PatternPairsModel", "isAlike", "(II)Z"⟩ ⟨"PatternPairsModel", "isAlike", "(II)Z"⟩) ∈ lw_all := lw_g (lw_at lw_ms 52 rfl) rfl
theorem qs53 : (Cond.selects "PatternPairsModel" ⟨"PatternPairsModel", "refuse", "(I)I"⟩ ⟨"PatternPairsModel", "refuse", "(I)I"⟩) ∈ lw_all := lw_g (lw_at lw_ms 53 rfl) rfl
theorem qs54 : (Cond.selects "PatternPairsModel" ⟨"PatternPairsModel", "four", "(I)V"⟩ ⟨"PatternPairsModel", "four", "(I)V"⟩) ∈ lw_all := lw_g (lw_at lw_ms 54 rfl) rfl
theorem qs55 : (Cond.selects "PatternPairsModel" ⟨"PatternPairsModel", "take", "()I"⟩ ⟨"PatternPairsModel", "take", "()I"⟩) ∈ lw_all := lw_g (lw_at lw_ms 55 rfl) rfl
theorem qs56 : (Cond.selects "PatternPairsModel" ⟨"PatternPairsModel", "is", "(II)Z"⟩ ⟨"PatternPairsModel", "is", "(II)Z"⟩) ∈ lw_all := lw_g (lw_at lw_ms 56 rfl) rfl
theorem qs57 : (Cond.selects "PatternPairsModel" ⟨"PatternPairsModel", "tell", "(I)I"⟩ ⟨"PatternPairsModel", "tell", "(I)I"⟩) ∈ lw_all := lw_g (lw_at lw_ms 57 rfl) rfl
