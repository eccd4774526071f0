-- ===== PART A: goes FIRST, ahead of the names: the tables' words, and 'selects' of the private methods out of them =====
/-- a private method of a class that the tables say can be made, by its rows of tables_1 -/
def lw_okq (q : MethodName × Nat) : Prop := (q.1.cls ≠ "java/lang/invoke/MethodHandle" ∧ q.1.cls ≠ "java/lang/invoke/VarHandle") ∧ Cond.instantiable q.1.cls q.2 ∈ tables_1 ∧ Cond.privateMethod q.1 ∈ tables_1 ∧ Cond.instanceMethod q.1 ∈ tables_1
set_option maxRecDepth 100000
theorem lw_t1 {w : Cond} (h : w ∈ tables_1_1) : w ∈ tables_1 := List.mem_append_left _ h
theorem lw_t2 {w : Cond} (h : w ∈ tables_1_2) : w ∈ tables_1 := List.mem_append_right _ (List.mem_append_left _ h)
theorem lw_t3 {w : Cond} (h : w ∈ tables_1_3) : w ∈ tables_1 := List.mem_append_right _ (List.mem_append_right _ (List.mem_append_left _ h))
theorem lw_t4 {w : Cond} (h : w ∈ tables_1_4) : w ∈ tables_1 := List.mem_append_right _ (List.mem_append_right _ (List.mem_append_right _ (List.mem_append_left _ h)))
theorem lw_t5 {w : Cond} (h : w ∈ tables_1_5) : w ∈ tables_1 := List.mem_append_right _ (List.mem_append_right _ (List.mem_append_right _ (List.mem_append_right _ (List.mem_append_left _ h))))
theorem lw_t6 {w : Cond} (h : w ∈ tables_1_6) : w ∈ tables_1 := List.mem_append_right _ (List.mem_append_right _ (List.mem_append_right _ (List.mem_append_right _ (List.mem_append_right _ (List.mem_append_left _ h)))))
theorem lw_t7 {w : Cond} (h : w ∈ tables_1_7) : w ∈ tables_1 := List.mem_append_right _ (List.mem_append_right _ (List.mem_append_right _ (List.mem_append_right _ (List.mem_append_right _ (List.mem_append_right _ (List.mem_append_left _ h))))))
theorem lw_t8 {w : Cond} (h : w ∈ tables_1_8) : w ∈ tables_1 := List.mem_append_right _ (List.mem_append_right _ (List.mem_append_right _ (List.mem_append_right _ (List.mem_append_right _ (List.mem_append_right _ (List.mem_append_right _ h))))))
theorem lw_p0 : lw_okq (⟨"java/util/ArrayList", "add", "(Ljava/lang/Object;[Ljava/lang/Object;I)V"⟩, 3) := ⟨⟨by decide +kernel, by decide +kernel⟩, lw_t1 (List.mem_of_getElem? (i := 40) rfl), lw_t2 (List.mem_of_getElem? (i := 137) rfl), lw_t2 (List.mem_of_getElem? (i := 138) rfl)⟩
theorem lw_p1 : lw_okq (⟨"java/util/ArrayList", "grow", "()[Ljava/lang/Object;"⟩, 3) := ⟨⟨by decide +kernel, by decide +kernel⟩, lw_t1 (List.mem_of_getElem? (i := 40) rfl), lw_t2 (List.mem_of_getElem? (i := 141) rfl), lw_t2 (List.mem_of_getElem? (i := 142) rfl)⟩
theorem lw_p2 : lw_okq (⟨"java/util/ArrayList", "grow", "(I)[Ljava/lang/Object;"⟩, 3) := ⟨⟨by decide +kernel, by decide +kernel⟩, lw_t1 (List.mem_of_getElem? (i := 40) rfl), lw_t2 (List.mem_of_getElem? (i := 145) rfl), lw_t2 (List.mem_of_getElem? (i := 146) rfl)⟩
theorem lw_p3 : lw_okq (⟨"RainStreets", "at", "(I)LRainStreets$Corner;"⟩, 28) := ⟨⟨by decide +kernel, by decide +kernel⟩, lw_t1 (List.mem_of_getElem? (i := 32) rfl), lw_t2 (List.mem_of_getElem? (i := 199) rfl), lw_t2 (List.mem_of_getElem? (i := 200) rfl)⟩
theorem lw_p4 : lw_okq (⟨"RainStreets", "parking", "()I"⟩, 28) := ⟨⟨by decide +kernel, by decide +kernel⟩, lw_t1 (List.mem_of_getElem? (i := 32) rfl), lw_t3 (List.mem_of_getElem? (i := 26) rfl), lw_t3 (List.mem_of_getElem? (i := 27) rfl)⟩
theorem lw_p5 : lw_okq (⟨"RainStreets", "on", "(I)LRainStreets$Rules;"⟩, 28) := ⟨⟨by decide +kernel, by decide +kernel⟩, lw_t1 (List.mem_of_getElem? (i := 32) rfl), lw_t3 (List.mem_of_getElem? (i := 30) rfl), lw_t3 (List.mem_of_getElem? (i := 31) rfl)⟩
theorem lw_p6 : lw_okq (⟨"RainStreets", "numberOn", "(I)I"⟩, 28) := ⟨⟨by decide +kernel, by decide +kernel⟩, lw_t1 (List.mem_of_getElem? (i := 32) rfl), lw_t3 (List.mem_of_getElem? (i := 34) rfl), lw_t3 (List.mem_of_getElem? (i := 35) rfl)⟩
theorem lw_p7 : lw_okq (⟨"RainStreets", "bedAt", "(I)LRainStreets$Bed;"⟩, 28) := ⟨⟨by decide +kernel, by decide +kernel⟩, lw_t1 (List.mem_of_getElem? (i := 32) rfl), lw_t3 (List.mem_of_getElem? (i := 106) rfl), lw_t3 (List.mem_of_getElem? (i := 107) rfl)⟩
theorem lw_p8 : lw_okq (⟨"RainStreets", "tapes", "([I)I"⟩, 28) := ⟨⟨by decide +kernel, by decide +kernel⟩, lw_t1 (List.mem_of_getElem? (i := 32) rfl), lw_t3 (List.mem_of_getElem? (i := 124) rfl), lw_t3 (List.mem_of_getElem? (i := 125) rfl)⟩
theorem lw_p9 : lw_okq (⟨"RainStreets", "next", "()V"⟩, 28) := ⟨⟨by decide +kernel, by decide +kernel⟩, lw_t1 (List.mem_of_getElem? (i := 32) rfl), lw_t3 (List.mem_of_getElem? (i := 133) rfl), lw_t3 (List.mem_of_getElem? (i := 134) rfl)⟩
theorem lw_p10 : lw_okq (⟨"RainStreets", "here", "(I)I"⟩, 28) := ⟨⟨by decide +kernel, by decide +kernel⟩, lw_t1 (List.mem_of_getElem? (i := 32) rfl), lw_t3 (List.mem_of_getElem? (i := 137) rfl), lw_t3 (List.mem_of_getElem? (i := 138) rfl)⟩
theorem lw_p11 : lw_okq (⟨"java/lang/Throwable", "fillInStackTrace", "(I)Ljava/lang/Throwable;"⟩, 6) := ⟨⟨by decide +kernel, by decide +kernel⟩, lw_t4 (List.mem_of_getElem? (i := 115) rfl), lw_t4 (List.mem_of_getElem? (i := 113) rfl), lw_t4 (List.mem_of_getElem? (i := 114) rfl)⟩
theorem lw_p12 : lw_okq (⟨"RainStreets", "statement", "(LRainStreets$Rules;)V"⟩, 28) := ⟨⟨by decide +kernel, by decide +kernel⟩, lw_t1 (List.mem_of_getElem? (i := 32) rfl), lw_t4 (List.mem_of_getElem? (i := 147) rfl), lw_t4 (List.mem_of_getElem? (i := 148) rfl)⟩
theorem lw_p13 : lw_okq (⟨"RainStreets", "must", "(Z)V"⟩, 28) := ⟨⟨by decide +kernel, by decide +kernel⟩, lw_t1 (List.mem_of_getElem? (i := 32) rfl), lw_t4 (List.mem_of_getElem? (i := 226) rfl), lw_t4 (List.mem_of_getElem? (i := 227) rfl)⟩
theorem lw_p14 : lw_okq (⟨"RainStreets", "turn", "()LRainStreets$Turn;"⟩, 28) := ⟨⟨by decide +kernel, by decide +kernel⟩, lw_t1 (List.mem_of_getElem? (i := 32) rfl), lw_t4 (List.mem_of_getElem? (i := 230) rfl), lw_t4 (List.mem_of_getElem? (i := 231) rfl)⟩
theorem lw_p15 : lw_okq (⟨"RainStreets", "any", "()I"⟩, 28) := ⟨⟨by decide +kernel, by decide +kernel⟩, lw_t1 (List.mem_of_getElem? (i := 32) rfl), lw_t4 (List.mem_of_getElem? (i := 234) rfl), lw_t4 (List.mem_of_getElem? (i := 235) rfl)⟩
def lw_privs_1 : List (MethodName × Nat) := [(⟨"java/util/ArrayList", "add", "(Ljava/lang/Object;[Ljava/lang/Object;I)V"⟩, 3), (⟨"java/util/ArrayList", "grow", "()[Ljava/lang/Object;"⟩, 3), (⟨"java/util/ArrayList", "grow", "(I)[Ljava/lang/Object;"⟩, 3), (⟨"RainStreets", "at", "(I)LRainStreets$Corner;"⟩, 28), (⟨"RainStreets", "parking", "()I"⟩, 28), (⟨"RainStreets", "on", "(I)LRainStreets$Rules;"⟩, 28), (⟨"RainStreets", "numberOn", "(I)I"⟩, 28), (⟨"RainStreets", "bedAt", "(I)LRainStreets$Bed;"⟩, 28), (⟨"RainStreets", "tapes", "([I)I"⟩, 28), (⟨"RainStreets", "next", "()V"⟩, 28), (⟨"RainStreets", "here", "(I)I"⟩, 28), (⟨"java/lang/Throwable", "fillInStackTrace", "(I)Ljava/lang/Throwable;"⟩, 6), (⟨"RainStreets", "statement", "(LRainStreets$Rules;)V"⟩, 28), (⟨"RainStreets", "must", "(Z)V"⟩, 28), (⟨"RainStreets", "turn", "()LRainStreets$Turn;"⟩, 28), (⟨"RainStreets", "any", "()I"⟩, 28)]
theorem lw_r1 : ∀ q ∈ lw_privs_1, lw_okq q := List.forall_mem_cons.mpr ⟨lw_p0, List.forall_mem_cons.mpr ⟨lw_p1, List.forall_mem_cons.mpr ⟨lw_p2, List.forall_mem_cons.mpr ⟨lw_p3, List.forall_mem_cons.mpr ⟨lw_p4, List.forall_mem_cons.mpr ⟨lw_p5, List.forall_mem_cons.mpr ⟨lw_p6, List.forall_mem_cons.mpr ⟨lw_p7, List.forall_mem_cons.mpr ⟨lw_p8, List.forall_mem_cons.mpr ⟨lw_p9, List.forall_mem_cons.mpr ⟨lw_p10, List.forall_mem_cons.mpr ⟨lw_p11, List.forall_mem_cons.mpr ⟨lw_p12, List.forall_mem_cons.mpr ⟨lw_p13, List.forall_mem_cons.mpr ⟨lw_p14, List.forall_mem_cons.mpr ⟨lw_p15, fun _ h => absurd h List.not_mem_nil⟩⟩⟩⟩⟩⟩⟩⟩⟩⟩⟩⟩⟩⟩⟩⟩
theorem lw_p16 : lw_okq (⟨"RainStreets", "number", "(II)I"⟩, 28) := ⟨⟨by decide +kernel, by decide +kernel⟩, lw_t1 (List.mem_of_getElem? (i := 32) rfl), lw_t4 (List.mem_of_getElem? (i := 238) rfl), lw_t4 (List.mem_of_getElem? (i := 239) rfl)⟩
theorem lw_p17 : lw_okq (⟨"RainStreets", "after", "(Ljava/lang/String;)I"⟩, 28) := ⟨⟨by decide +kernel, by decide +kernel⟩, lw_t1 (List.mem_of_getElem? (i := 32) rfl), lw_t5 (List.mem_of_getElem? (i := 3) rfl), lw_t5 (List.mem_of_getElem? (i := 4) rfl)⟩
theorem lw_p18 : lw_okq (⟨"RainStreets", "look", "(LRainStreets$Rules;)V"⟩, 28) := ⟨⟨by decide +kernel, by decide +kernel⟩, lw_t1 (List.mem_of_getElem? (i := 32) rfl), lw_t5 (List.mem_of_getElem? (i := 35) rfl), lw_t5 (List.mem_of_getElem? (i := 36) rfl)⟩
theorem lw_p19 : lw_okq (⟨"RainStreets", "day", "()V"⟩, 28) := ⟨⟨by decide +kernel, by decide +kernel⟩, lw_t1 (List.mem_of_getElem? (i := 32) rfl), lw_t5 (List.mem_of_getElem? (i := 70) rfl), lw_t5 (List.mem_of_getElem? (i := 71) rfl)⟩
theorem lw_p20 : lw_okq (⟨"RainStreets", "beds", "(LRainStreets$Rules;I)V"⟩, 28) := ⟨⟨by decide +kernel, by decide +kernel⟩, lw_t1 (List.mem_of_getElem? (i := 32) rfl), lw_t5 (List.mem_of_getElem? (i := 74) rfl), lw_t5 (List.mem_of_getElem? (i := 75) rfl)⟩
theorem lw_p21 : lw_okq (⟨"RainStreets", "complains", "(LRainStreets$Corner;I)I"⟩, 28) := ⟨⟨by decide +kernel, by decide +kernel⟩, lw_t1 (List.mem_of_getElem? (i := 32) rfl), lw_t5 (List.mem_of_getElem? (i := 103) rfl), lw_t5 (List.mem_of_getElem? (i := 104) rfl)⟩
theorem lw_p22 : lw_okq (⟨"RainStreets", "turns", "(LRainStreets$Rules;)V"⟩, 28) := ⟨⟨by decide +kernel, by decide +kernel⟩, lw_t1 (List.mem_of_getElem? (i := 32) rfl), lw_t5 (List.mem_of_getElem? (i := 145) rfl), lw_t5 (List.mem_of_getElem? (i := 146) rfl)⟩
theorem lw_p23 : lw_okq (⟨"RainStreets$Run", "minute", "(I)V"⟩, 15) := ⟨⟨by decide +kernel, by decide +kernel⟩, lw_t1 (List.mem_of_getElem? (i := 150) rfl), lw_t5 (List.mem_of_getElem? (i := 172) rfl), lw_t5 (List.mem_of_getElem? (i := 173) rfl)⟩
theorem lw_p24 : lw_okq (⟨"RainStreets$Run", "roofsOf", "(LRainStreets$Corner;I)I"⟩, 15) := ⟨⟨by decide +kernel, by decide +kernel⟩, lw_t1 (List.mem_of_getElem? (i := 150) rfl), lw_t5 (List.mem_of_getElem? (i := 177) rfl), lw_t5 (List.mem_of_getElem? (i := 178) rfl)⟩
theorem lw_p25 : lw_okq (⟨"RainStreets$Run", "takes", "(LRainStreets$Corner;I)I"⟩, 15) := ⟨⟨by decide +kernel, by decide +kernel⟩, lw_t1 (List.mem_of_getElem? (i := 150) rfl), lw_t5 (List.mem_of_getElem? (i := 182) rfl), lw_t5 (List.mem_of_getElem? (i := 183) rfl)⟩
theorem lw_p26 : lw_okq (⟨"RainStreets", "free", "()I"⟩, 28) := ⟨⟨by decide +kernel, by decide +kernel⟩, lw_t1 (List.mem_of_getElem? (i := 32) rfl), lw_t5 (List.mem_of_getElem? (i := 239) rfl), lw_t6 (List.mem_of_getElem? (i := 0) rfl)⟩
theorem lw_p27 : lw_okq (⟨"RainStreets", "parkingOf", "(I)I"⟩, 28) := ⟨⟨by decide +kernel, by decide +kernel⟩, lw_t1 (List.mem_of_getElem? (i := 32) rfl), lw_t6 (List.mem_of_getElem? (i := 14) rfl), lw_t6 (List.mem_of_getElem? (i := 15) rfl)⟩
theorem lw_p28 : lw_okq (⟨"RainStreets", "like", "(LRainStreets$Storm;II)LRainStreets$Storm;"⟩, 28) := ⟨⟨by decide +kernel, by decide +kernel⟩, lw_t1 (List.mem_of_getElem? (i := 32) rfl), lw_t6 (List.mem_of_getElem? (i := 26) rfl), lw_t6 (List.mem_of_getElem? (i := 27) rfl)⟩
theorem lw_p29 : lw_okq (⟨"RainStreets", "roofAt", "(I)LRainStreets$Roof;"⟩, 28) := ⟨⟨by decide +kernel, by decide +kernel⟩, lw_t1 (List.mem_of_getElem? (i := 32) rfl), lw_t6 (List.mem_of_getElem? (i := 51) rfl), lw_t6 (List.mem_of_getElem? (i := 52) rfl)⟩
theorem lw_p30 : lw_okq (⟨"RainStreets", "bedsThat", "(Z)I"⟩, 28) := ⟨⟨by decide +kernel, by decide +kernel⟩, lw_t1 (List.mem_of_getElem? (i := 32) rfl), lw_t6 (List.mem_of_getElem? (i := 103) rfl), lw_t6 (List.mem_of_getElem? (i := 104) rfl)⟩
theorem lw_p31 : lw_okq (⟨"RainStreets", "open", "()I"⟩, 28) := ⟨⟨by decide +kernel, by decide +kernel⟩, lw_t1 (List.mem_of_getElem? (i := 32) rfl), lw_t6 (List.mem_of_getElem? (i := 107) rfl), lw_t6 (List.mem_of_getElem? (i := 108) rfl)⟩
def lw_privs_2 : List (MethodName × Nat) := [(⟨"RainStreets", "number", "(II)I"⟩, 28), (⟨"RainStreets", "after", "(Ljava/lang/String;)I"⟩, 28), (⟨"RainStreets", "look", "(LRainStreets$Rules;)V"⟩, 28), (⟨"RainStreets", "day", "()V"⟩, 28), (⟨"RainStreets", "beds", "(LRainStreets$Rules;I)V"⟩, 28), (⟨"RainStreets", "complains", "(LRainStreets$Corner;I)I"⟩, 28), (⟨"RainStreets", "turns", "(LRainStreets$Rules;)V"⟩, 28), (⟨"RainStreets$Run", "minute", "(I)V"⟩, 15), (⟨"RainStreets$Run", "roofsOf", "(LRainStreets$Corner;I)I"⟩, 15), (⟨"RainStreets$Run", "takes", "(LRainStreets$Corner;I)I"⟩, 15), (⟨"RainStreets", "free", "()I"⟩, 28), (⟨"RainStreets", "parkingOf", "(I)I"⟩, 28), (⟨"RainStreets", "like", "(LRainStreets$Storm;II)LRainStreets$Storm;"⟩, 28), (⟨"RainStreets", "roofAt", "(I)LRainStreets$Roof;"⟩, 28), (⟨"RainStreets", "bedsThat", "(Z)I"⟩, 28), (⟨"RainStreets", "open", "()I"⟩, 28)]
theorem lw_r2 : ∀ q ∈ lw_privs_2, lw_okq q := List.forall_mem_cons.mpr ⟨lw_p16, List.forall_mem_cons.mpr ⟨lw_p17, List.forall_mem_cons.mpr ⟨lw_p18, List.forall_mem_cons.mpr ⟨lw_p19, List.forall_mem_cons.mpr ⟨lw_p20, List.forall_mem_cons.mpr ⟨lw_p21, List.forall_mem_cons.mpr ⟨lw_p22, List.forall_mem_cons.mpr ⟨lw_p23, List.forall_mem_cons.mpr ⟨lw_p24, List.forall_mem_cons.mpr ⟨lw_p25, List.forall_mem_cons.mpr ⟨lw_p26, List.forall_mem_cons.mpr ⟨lw_p27, List.forall_mem_cons.mpr ⟨lw_p28, List.forall_mem_cons.mpr ⟨lw_p29, List.forall_mem_cons.mpr ⟨lw_p30, List.forall_mem_cons.mpr ⟨lw_p31, fun _ h => absurd h List.not_mem_nil⟩⟩⟩⟩⟩⟩⟩⟩⟩⟩⟩⟩⟩⟩⟩⟩
theorem lw_p32 : lw_okq (⟨"RainStreetsModel", "isCorner", "(I)Z"⟩, 82) := ⟨⟨by decide +kernel, by decide +kernel⟩, lw_t6 (List.mem_of_getElem? (i := 111) rfl), lw_t7 (List.mem_of_getElem? (i := 137) rfl), lw_t7 (List.mem_of_getElem? (i := 138) rfl)⟩
theorem lw_p33 : lw_okq (⟨"RainStreetsModel", "parked", "(I)I"⟩, 82) := ⟨⟨by decide +kernel, by decide +kernel⟩, lw_t6 (List.mem_of_getElem? (i := 111) rfl), lw_t7 (List.mem_of_getElem? (i := 153) rfl), lw_t7 (List.mem_of_getElem? (i := 154) rfl)⟩
theorem lw_p34 : lw_okq (⟨"RainStreetsModel", "now", "(I)I"⟩, 82) := ⟨⟨by decide +kernel, by decide +kernel⟩, lw_t6 (List.mem_of_getElem? (i := 111) rfl), lw_t7 (List.mem_of_getElem? (i := 157) rfl), lw_t7 (List.mem_of_getElem? (i := 158) rfl)⟩
theorem lw_p35 : lw_okq (⟨"RainStreetsModel", "lawOn", "(II)I"⟩, 82) := ⟨⟨by decide +kernel, by decide +kernel⟩, lw_t6 (List.mem_of_getElem? (i := 111) rfl), lw_t7 (List.mem_of_getElem? (i := 161) rfl), lw_t7 (List.mem_of_getElem? (i := 162) rfl)⟩
theorem lw_p36 : lw_okq (⟨"RainStreetsModel", "inForce", "(I)I"⟩, 82) := ⟨⟨by decide +kernel, by decide +kernel⟩, lw_t6 (List.mem_of_getElem? (i := 111) rfl), lw_t7 (List.mem_of_getElem? (i := 168) rfl), lw_t7 (List.mem_of_getElem? (i := 169) rfl)⟩
theorem lw_p37 : lw_okq (⟨"RainStreetsModel", "isBed", "(I)Z"⟩, 82) := ⟨⟨by decide +kernel, by decide +kernel⟩, lw_t6 (List.mem_of_getElem? (i := 111) rfl), lw_t7 (List.mem_of_getElem? (i := 176) rfl), lw_t7 (List.mem_of_getElem? (i := 177) rfl)⟩
theorem lw_p38 : lw_okq (⟨"RainStreetsModel", "ages", "(I)V"⟩, 82) := ⟨⟨by decide +kernel, by decide +kernel⟩, lw_t6 (List.mem_of_getElem? (i := 111) rfl), lw_t7 (List.mem_of_getElem? (i := 190) rfl), lw_t7 (List.mem_of_getElem? (i := 191) rfl)⟩
theorem lw_p39 : lw_okq (⟨"RainStreetsModel", "drink", "(I)I"⟩, 82) := ⟨⟨by decide +kernel, by decide +kernel⟩, lw_t6 (List.mem_of_getElem? (i := 111) rfl), lw_t7 (List.mem_of_getElem? (i := 194) rfl), lw_t7 (List.mem_of_getElem? (i := 195) rfl)⟩
theorem lw_p40 : lw_okq (⟨"RainStreetsModel", "drinkBy", "(II)I"⟩, 82) := ⟨⟨by decide +kernel, by decide +kernel⟩, lw_t6 (List.mem_of_getElem? (i := 111) rfl), lw_t7 (List.mem_of_getElem? (i := 198) rfl), lw_t7 (List.mem_of_getElem? (i := 199) rfl)⟩
theorem lw_p41 : lw_okq (⟨"RainStreetsModel", "turns", "()V"⟩, 82) := ⟨⟨by decide +kernel, by decide +kernel⟩, lw_t6 (List.mem_of_getElem? (i := 111) rfl), lw_t7 (List.mem_of_getElem? (i := 206) rfl), lw_t7 (List.mem_of_getElem? (i := 207) rfl)⟩
theorem lw_p42 : lw_okq (⟨"RainStreetsModel", "isTurn", "(II)Z"⟩, 82) := ⟨⟨by decide +kernel, by decide +kernel⟩, lw_t6 (List.mem_of_getElem? (i := 111) rfl), lw_t7 (List.mem_of_getElem? (i := 210) rfl), lw_t7 (List.mem_of_getElem? (i := 211) rfl)⟩
theorem lw_p43 : lw_okq (⟨"RainStreetsModel", "falls", "(I)V"⟩, 82) := ⟨⟨by decide +kernel, by decide +kernel⟩, lw_t6 (List.mem_of_getElem? (i := 111) rfl), lw_t7 (List.mem_of_getElem? (i := 226) rfl), lw_t7 (List.mem_of_getElem? (i := 227) rfl)⟩
theorem lw_p44 : lw_okq (⟨"RainStreetsModel", "minute", "(II)V"⟩, 82) := ⟨⟨by decide +kernel, by decide +kernel⟩, lw_t6 (List.mem_of_getElem? (i := 111) rfl), lw_t7 (List.mem_of_getElem? (i := 230) rfl), lw_t7 (List.mem_of_getElem? (i := 231) rfl)⟩
theorem lw_p45 : lw_okq (⟨"RainStreetsModel", "roofsGive", "(II)J"⟩, 82) := ⟨⟨by decide +kernel, by decide +kernel⟩, lw_t6 (List.mem_of_getElem? (i := 111) rfl), lw_t7 (List.mem_of_getElem? (i := 234) rfl), lw_t7 (List.mem_of_getElem? (i := 235) rfl)⟩
theorem lw_p46 : lw_okq (⟨"RainStreetsModel", "isNew", "(I)Z"⟩, 82) := ⟨⟨by decide +kernel, by decide +kernel⟩, lw_t6 (List.mem_of_getElem? (i := 111) rfl), lw_t8 (List.mem_of_getElem? (i := 8) rfl), lw_t8 (List.mem_of_getElem? (i := 9) rfl)⟩
theorem lw_p47 : lw_okq (⟨"RainStreetsModel", "like", "(II)I"⟩, 82) := ⟨⟨by decide +kernel, by decide +kernel⟩, lw_t6 (List.mem_of_getElem? (i := 111) rfl), lw_t8 (List.mem_of_getElem? (i := 52) rfl), lw_t8 (List.mem_of_getElem? (i := 53) rfl)⟩
def lw_privs_3 : List (MethodName × Nat) := [(⟨"RainStreetsModel", "isCorner", "(I)Z"⟩, 82), (⟨"RainStreetsModel", "parked", "(I)I"⟩, 82), (⟨"RainStreetsModel", "now", "(I)I"⟩, 82), (⟨"RainStreetsModel", "lawOn", "(II)I"⟩, 82), (⟨"RainStreetsModel", "inForce", "(I)I"⟩, 82), (⟨"RainStreetsModel", "isBed", "(I)Z"⟩, 82), (⟨"RainStreetsModel", "ages", "(I)V"⟩, 82), (⟨"RainStreetsModel", "drink", "(I)I"⟩, 82), (⟨"RainStreetsModel", "drinkBy", "(II)I"⟩, 82), (⟨"RainStreetsModel", "turns", "()V"⟩, 82), (⟨"RainStreetsModel", "isTurn", "(II)Z"⟩, 82), (⟨"RainStreetsModel", "falls", "(I)V"⟩, 82), (⟨"RainStreetsModel", "minute", "(II)V"⟩, 82), (⟨"RainStreetsModel", "roofsGive", "(II)J"⟩, 82), (⟨"RainStreetsModel", "isNew", "(I)Z"⟩, 82), (⟨"RainStreetsModel", "like", "(II)I"⟩, 82)]
theorem lw_r3 : ∀ q ∈ lw_privs_3, lw_okq q := List.forall_mem_cons.mpr ⟨lw_p32, List.forall_mem_cons.mpr ⟨lw_p33, List.forall_mem_cons.mpr ⟨lw_p34, List.forall_mem_cons.mpr ⟨lw_p35, List.forall_mem_cons.mpr ⟨lw_p36, List.forall_mem_cons.mpr ⟨lw_p37, List.forall_mem_cons.mpr ⟨lw_p38, List.forall_mem_cons.mpr ⟨lw_p39, List.forall_mem_cons.mpr ⟨lw_p40, List.forall_mem_cons.mpr ⟨lw_p41, List.forall_mem_cons.mpr ⟨lw_p42, List.forall_mem_cons.mpr ⟨lw_p43, List.forall_mem_cons.mpr ⟨lw_p44, List.forall_mem_cons.mpr ⟨lw_p45, List.forall_mem_cons.mpr ⟨lw_p46, List.forall_mem_cons.mpr ⟨lw_p47, fun _ h => absurd h List.not_mem_nil⟩⟩⟩⟩⟩⟩⟩⟩⟩⟩⟩⟩⟩⟩⟩⟩
theorem lw_p48 : lw_okq (⟨"RainStreetsModel", "four", "(I)V"⟩, 82) := ⟨⟨by decide +kernel, by decide +kernel⟩, lw_t6 (List.mem_of_getElem? (i := 111) rfl), lw_t8 (List.mem_of_getElem? (i := 91) rfl), lw_t8 (List.mem_of_getElem? (i := 92) rfl)⟩
theorem lw_p49 : lw_okq (⟨"RainStreetsModel", "blanks", "()V"⟩, 82) := ⟨⟨by decide +kernel, by decide +kernel⟩, lw_t6 (List.mem_of_getElem? (i := 111) rfl), lw_t8 (List.mem_of_getElem? (i := 99) rfl), lw_t8 (List.mem_of_getElem? (i := 100) rfl)⟩
theorem lw_p50 : lw_okq (⟨"RainStreetsModel", "statement", "(I)Z"⟩, 82) := ⟨⟨by decide +kernel, by decide +kernel⟩, lw_t6 (List.mem_of_getElem? (i := 111) rfl), lw_t8 (List.mem_of_getElem? (i := 103) rfl), lw_t8 (List.mem_of_getElem? (i := 104) rfl)⟩
theorem lw_p51 : lw_okq (⟨"RainStreetsModel", "takes", "(J)Z"⟩, 82) := ⟨⟨by decide +kernel, by decide +kernel⟩, lw_t6 (List.mem_of_getElem? (i := 111) rfl), lw_t8 (List.mem_of_getElem? (i := 108) rfl), lw_t8 (List.mem_of_getElem? (i := 109) rfl)⟩
theorem lw_p52 : lw_okq (⟨"RainStreetsModel", "turnsIn", "(I)Z"⟩, 82) := ⟨⟨by decide +kernel, by decide +kernel⟩, lw_t6 (List.mem_of_getElem? (i := 111) rfl), lw_t8 (List.mem_of_getElem? (i := 112) rfl), lw_t8 (List.mem_of_getElem? (i := 113) rfl)⟩
theorem lw_p53 : lw_okq (⟨"RainStreetsModel", "takesPlain", "()Z"⟩, 82) := ⟨⟨by decide +kernel, by decide +kernel⟩, lw_t6 (List.mem_of_getElem? (i := 111) rfl), lw_t8 (List.mem_of_getElem? (i := 116) rfl), lw_t8 (List.mem_of_getElem? (i := 117) rfl)⟩
theorem lw_p54 : lw_okq (⟨"RainStreetsModel", "takesNumber", "(II)Z"⟩, 82) := ⟨⟨by decide +kernel, by decide +kernel⟩, lw_t6 (List.mem_of_getElem? (i := 111) rfl), lw_t8 (List.mem_of_getElem? (i := 120) rfl), lw_t8 (List.mem_of_getElem? (i := 121) rfl)⟩
theorem lw_p55 : lw_okq (⟨"RainStreetsModel", "grades", "(I)Z"⟩, 82) := ⟨⟨by decide +kernel, by decide +kernel⟩, lw_t6 (List.mem_of_getElem? (i := 111) rfl), lw_t8 (List.mem_of_getElem? (i := 128) rfl), lw_t8 (List.mem_of_getElem? (i := 129) rfl)⟩
theorem lw_p56 : lw_okq (⟨"RainStreetsModel", "row", "(IIJJ)Z"⟩, 82) := ⟨⟨by decide +kernel, by decide +kernel⟩, lw_t6 (List.mem_of_getElem? (i := 111) rfl), lw_t8 (List.mem_of_getElem? (i := 134) rfl), lw_t8 (List.mem_of_getElem? (i := 135) rfl)⟩
theorem lw_p57 : lw_okq (⟨"RainStreetsModel", "others", "(I)Z"⟩, 82) := ⟨⟨by decide +kernel, by decide +kernel⟩, lw_t6 (List.mem_of_getElem? (i := 111) rfl), lw_t8 (List.mem_of_getElem? (i := 143) rfl), lw_t8 (List.mem_of_getElem? (i := 144) rfl)⟩
def lw_privs_4 : List (MethodName × Nat) := [(⟨"RainStreetsModel", "four", "(I)V"⟩, 82), (⟨"RainStreetsModel", "blanks", "()V"⟩, 82), (⟨"RainStreetsModel", "statement", "(I)Z"⟩, 82), (⟨"RainStreetsModel", "takes", "(J)Z"⟩, 82), (⟨"RainStreetsModel", "turnsIn", "(I)Z"⟩, 82), (⟨"RainStreetsModel", "takesPlain", "()Z"⟩, 82), (⟨"RainStreetsModel", "takesNumber", "(II)Z"⟩, 82), (⟨"RainStreetsModel", "grades", "(I)Z"⟩, 82), (⟨"RainStreetsModel", "row", "(IIJJ)Z"⟩, 82), (⟨"RainStreetsModel", "others", "(I)Z"⟩, 82)]
theorem lw_r4 : ∀ q ∈ lw_privs_4, lw_okq q := List.forall_mem_cons.mpr ⟨lw_p48, List.forall_mem_cons.mpr ⟨lw_p49, List.forall_mem_cons.mpr ⟨lw_p50, List.forall_mem_cons.mpr ⟨lw_p51, List.forall_mem_cons.mpr ⟨lw_p52, List.forall_mem_cons.mpr ⟨lw_p53, List.forall_mem_cons.mpr ⟨lw_p54, List.forall_mem_cons.mpr ⟨lw_p55, List.forall_mem_cons.mpr ⟨lw_p56, List.forall_mem_cons.mpr ⟨lw_p57, fun _ h => absurd h List.not_mem_nil⟩⟩⟩⟩⟩⟩⟩⟩⟩⟩
def lw_privs : List (MethodName × Nat) := lw_privs_1 ++ (lw_privs_2 ++ (lw_privs_3 ++ (lw_privs_4)))
def lw_tbl : List Cond := k2_sels lw_privs ++ tables_1
theorem lw_privs_ok : ∀ q ∈ lw_privs, lw_okq q := by
  show ∀ q ∈ lw_privs_1 ++ (lw_privs_2 ++ (lw_privs_3 ++ (lw_privs_4))), lw_okq q
  exact List.forall_mem_append.mpr ⟨lw_r1, List.forall_mem_append.mpr ⟨lw_r2, List.forall_mem_append.mpr ⟨lw_r3, lw_r4⟩⟩⟩
-- ===== ONE list of words for every method: the tables' words that hold all through a run =====
def lw_all : List Cond := lw_tbl.filter goodWord
/-- a word of the tables by its place: claim/WORDS.tsv -/
theorem lw_w {w : Cond} (i : Nat) (h : lw_tbl[i]? = some w) (g : goodWord w = true) : w ∈ lw_all := List.mem_filter.mpr ⟨List.mem_of_getElem? h, g⟩
theorem lw_all_tbl {w : Cond} (h : w ∈ lw_all) : w ∈ lw_tbl := (List.mem_filter.mp h).1
theorem lw_self : GoodIn lw_all lw_all := fun w h => ⟨h, good_of_word (List.mem_filter.mp h).2⟩
/-- a class's field words, by their places -/
theorem lw_in (ws : List Cond) (ps : List Nat) (hp : ws = ps.filterMap (fun i => lw_tbl[i]?)) (hg : ws.all goodWord = true) : ∀ w ∈ ws, w ∈ lw_all := by
  intro w h
  have h1 := List.all_eq_true.mp hg w h
  rw [hp] at h
  obtain ⟨i, -, hi⟩ := List.mem_filterMap.mp h
  exact lw_w i hi h1
/-- the words of a contract for the method y with code b, L locals, answer r -/
abbrev ws_ (y : MethodName) (b : ByteArray) (L : Nat) (r : Option FieldType) : List Cond := Cond.code y b L r :: lw_all
theorem lw_meth {y : MethodName} {b : ByteArray} {L : Nat} {r : Option FieldType} (h : Cond.code y b L r ∈ lw_all) : GoodIn lw_all (ws_ y b L r) := by
  intro w hw
  rcases List.mem_cons.mp hw with e | e
  · rw [e]
    exact lw_self _ h
  · exact lw_self _ e
theorem lw_app {a c : List Cond} (ha : ∀ w ∈ a, w ∈ lw_all) (hc : GoodIn lw_all c) : GoodIn lw_all (a ++ c) := by
  intro w hw
  rcases List.mem_append.mp hw with e | e
  · exact lw_self w (ha w e)
  · exact hc w e
/-- what a call through an object asks: cwV n hts (lw_V ..) -/
theorem lw_V {own : String} {idx : Nat} {C : String} {y : MethodName} {b : ByteArray} {L : Nat} {r : Option FieldType} (h1 : Cond.methodLink own idx y ∈ lw_all) (h2 : Cond.instanceMethod y ∈ lw_all) (h3 : Cond.selects C y y ∈ lw_all) (h4 : Cond.initialized C ∈ lw_all) (h5 : Cond.code y b L r ∈ lw_all) : GoodIn lw_all (wsV own idx C y (ws_ y b L r)) := by
  refine lw_app ?_ (lw_meth h5)
  intro w hw
  simp only [List.mem_cons, List.not_mem_nil, or_false] at hw
  rcases hw with e | e | e | e
  · rw [e]; exact h1
  · rw [e]; exact h2
  · rw [e]; exact h3
  · rw [e]; exact h4
/-- what a static call asks: va_cwS n hts (lw_S ..) -/
theorem lw_S {own : String} {idx : Nat} {y : MethodName} {b : ByteArray} {L : Nat} {r : Option FieldType} (h1 : Cond.methodLink own idx y ∈ lw_all) (h2 : Cond.static y ∈ lw_all) (h3 : Cond.initialized y.cls ∈ lw_all) (h4 : Cond.code y b L r ∈ lw_all) : GoodIn lw_all (va_wsS own idx y (ws_ y b L r)) := by
  refine lw_app ?_ (lw_meth h4)
  intro w hw
  simp only [List.mem_cons, List.not_mem_nil, or_false] at hw
  rcases hw with e | e | e
  · rw [e]; exact h1
  · rw [e]; exact h2
  · rw [e]; exact h3
/-- the words of a contract for a method WITH HANDLERS (hh: its table) -/
abbrev wsW_ (y : MethodName) (b : ByteArray) (L : Nat) (r : Option FieldType) (hh : List (Nat × Nat × Nat × Nat)) : List Cond := Cond.codeWith y b L r hh :: lw_all
theorem lw_methW {y : MethodName} {b : ByteArray} {L : Nat} {r : Option FieldType} {hh : List (Nat × Nat × Nat × Nat)} (h : Cond.codeWith y b L r hh ∈ lw_all) : GoodIn lw_all (wsW_ y b L r hh) := by
  intro w hw
  rcases List.mem_cons.mp hw with e | e
  · rw [e]
    exact lw_self _ h
  · exact lw_self _ e
/-- any list of words by their places (lw_in), good -/
theorem lw_good {ws : List Cond} (h : ∀ w ∈ ws, w ∈ lw_all) : GoodIn lw_all ws := fun w hw => lw_self w (h w hw)
/-- what a call of a method with handlers asks: vx_cwVW n hts (lw_VW ..), vx_cwSW n hts (lw_SW ..) -/
theorem lw_VW {own : String} {idx : Nat} {C : String} {y : MethodName} {b : ByteArray} {L : Nat} {r : Option FieldType} {hh : List (Nat × Nat × Nat × Nat)} (h1 : Cond.methodLink own idx y ∈ lw_all) (h2 : Cond.instanceMethod y ∈ lw_all) (h3 : Cond.selects C y y ∈ lw_all) (h4 : Cond.initialized C ∈ lw_all) (h5 : Cond.codeWith y b L r hh ∈ lw_all) : GoodIn lw_all (wsV own idx C y (wsW_ y b L r hh)) := by
  refine lw_app ?_ (lw_methW h5)
  intro w hw
  simp only [List.mem_cons, List.not_mem_nil, or_false] at hw
  rcases hw with e | e | e | e
  · rw [e]; exact h1
  · rw [e]; exact h2
  · rw [e]; exact h3
  · rw [e]; exact h4
theorem lw_SW {own : String} {idx : Nat} {y : MethodName} {b : ByteArray} {L : Nat} {r : Option FieldType} {hh : List (Nat × Nat × Nat × Nat)} (h1 : Cond.methodLink own idx y ∈ lw_all) (h2 : Cond.static y ∈ lw_all) (h3 : Cond.initialized y.cls ∈ lw_all) (h4 : Cond.codeWith y b L r hh ∈ lw_all) : GoodIn lw_all (va_wsS own idx y (wsW_ y b L r hh)) := by
  refine lw_app ?_ (lw_methW h4)
  intro w hw
  simp only [List.mem_cons, List.not_mem_nil, or_false] at hw
  rcases hw with e | e | e
  · rw [e]; exact h1
  · rw [e]; exact h2
  · rw [e]; exact h3
/-- a word by its place in its run of the tables -/
theorem lw_at {r : List Cond} (hr : ∀ w ∈ r, w ∈ lw_tbl) {w : Cond} (i : Nat) (h : r[i]? = some w) : w ∈ lw_tbl := hr w (List.mem_of_getElem? h)
theorem lw_g {w : Cond} (h : w ∈ lw_tbl) (g : goodWord w = true) : w ∈ lw_all := List.mem_filter.mpr ⟨h, g⟩
theorem lw_ms : ∀ w ∈ k2_sels lw_privs, w ∈ lw_tbl := fun w h => show w ∈ k2_sels lw_privs ++ tables_1 from List.mem_append_left _ h
theorem lw_m1 : ∀ w ∈ tables_1_1, w ∈ lw_tbl := fun w h => show w ∈ k2_sels lw_privs ++ tables_1 from List.mem_append_right (k2_sels lw_privs) (show w ∈ tables_1 from List.mem_append_left _ h)
theorem lw_m2 : ∀ w ∈ tables_1_2, w ∈ lw_tbl := fun w h => show w ∈ k2_sels lw_privs ++ tables_1 from List.mem_append_right (k2_sels lw_privs) (show w ∈ tables_1 from List.mem_append_right _ (List.mem_append_left _ h))
theorem lw_m3 : ∀ w ∈ tables_1_3, w ∈ lw_tbl := fun w h => show w ∈ k2_sels lw_privs ++ tables_1 from List.mem_append_right (k2_sels lw_privs) (show w ∈ tables_1 from List.mem_append_right _ (List.mem_append_right _ (List.mem_append_left _ h)))
theorem lw_m4 : ∀ w ∈ tables_1_4, w ∈ lw_tbl := fun w h => show w ∈ k2_sels lw_privs ++ tables_1 from List.mem_append_right (k2_sels lw_privs) (show w ∈ tables_1 from List.mem_append_right _ (List.mem_append_right _ (List.mem_append_right _ (List.mem_append_left _ h))))
theorem lw_m5 : ∀ w ∈ tables_1_5, w ∈ lw_tbl := fun w h => show w ∈ k2_sels lw_privs ++ tables_1 from List.mem_append_right (k2_sels lw_privs) (show w ∈ tables_1 from List.mem_append_right _ (List.mem_append_right _ (List.mem_append_right _ (List.mem_append_right _ (List.mem_append_left _ h)))))
theorem lw_m6 : ∀ w ∈ tables_1_6, w ∈ lw_tbl := fun w h => show w ∈ k2_sels lw_privs ++ tables_1 from List.mem_append_right (k2_sels lw_privs) (show w ∈ tables_1 from List.mem_append_right _ (List.mem_append_right _ (List.mem_append_right _ (List.mem_append_right _ (List.mem_append_right _ (List.mem_append_left _ h))))))
theorem lw_m7 : ∀ w ∈ tables_1_7, w ∈ lw_tbl := fun w h => show w ∈ k2_sels lw_privs ++ tables_1 from List.mem_append_right (k2_sels lw_privs) (show w ∈ tables_1 from List.mem_append_right _ (List.mem_append_right _ (List.mem_append_right _ (List.mem_append_right _ (List.mem_append_right _ (List.mem_append_right _ (List.mem_append_left _ h)))))))
theorem lw_m8 : ∀ w ∈ tables_1_8, w ∈ lw_tbl := fun w h => show w ∈ k2_sels lw_privs ++ tables_1 from List.mem_append_right (k2_sels lw_privs) (show w ∈ tables_1 from List.mem_append_right _ (List.mem_append_right _ (List.mem_append_right _ (List.mem_append_right _ (List.mem_append_right _ (List.mem_append_right _ (List.mem_append_right _ h)))))))
theorem qs0 : (Cond.selects "java/util/ArrayList" ⟨"java/util/ArrayList", "add", "(Ljava/lang/Object;[Ljava/lang/Object;I)V"⟩ ⟨"java/util/ArrayList", "add", "(Ljava/lang/Object;[Ljava/lang/Object;I)V"⟩) ∈ lw_all := lw_g (lw_at lw_ms 0 rfl) rfl
theorem qs1 : (Cond.selects "java/util/ArrayList" ⟨"java/util/ArrayList", "grow", "()[Ljava/lang/Object;"⟩ ⟨"java/util/ArrayList", "grow", "()[Ljava/lang/Object;"⟩) ∈ lw_all := lw_g (lw_at lw_ms 1 rfl) rfl
theorem qs2 : (Cond.selects "java/util/ArrayList" ⟨"java/util/ArrayList", "grow", "(I)[Ljava/lang/Object;"⟩ ⟨"java/util/ArrayList", "grow", "(I)[Ljava/lang/Object;"⟩) ∈ lw_all := lw_g (lw_at lw_ms 2 rfl) rfl
theorem qs3 : (Cond.selects "RainStreets" ⟨"RainStreets", "at", "(I)LRainStreets$Corner;"⟩ ⟨"RainStreets", "at", "(I)LRainStreets$Corner;"⟩) ∈ lw_all := lw_g (lw_at lw_ms 3 rfl) rfl
theorem qs4 : (Cond.selects "RainStreets" ⟨"RainStreets", "parking", "()I"⟩ ⟨"RainStreets", "parking", "()I"⟩) ∈ lw_all := lw_g (lw_at lw_ms 4 rfl) rfl
theorem qs5 : (Cond.selects "RainStreets" ⟨"RainStreets", "on", "(I)LRainStreets$Rules;"⟩ ⟨"RainStreets", "on", "(I)LRainStreets$Rules;"⟩) ∈ lw_all := lw_g (lw_at lw_ms 5 rfl) rfl
theorem qs6 : (Cond.selects "RainStreets" ⟨"RainStreets", "numberOn", "(I)I"⟩ ⟨"RainStreets", "numberOn", "(I)I"⟩) ∈ lw_all := lw_g (lw_at lw_ms 6 rfl) rfl
theorem qs7 : (Cond.selects "RainStreets" ⟨"RainStreets", "bedAt", "(I)LRainStreets$Bed;"⟩ ⟨"RainStreets", "bedAt", "(I)LRainStreets$Bed;"⟩) ∈ lw_all := lw_g (lw_at lw_ms 7 rfl) rfl
theorem qs8 : (Cond.selects "RainStreets" ⟨"RainStreets", "tapes", "([I)I"⟩ ⟨"RainStreets", "tapes", "([I)I"⟩) ∈ lw_all := lw_g (lw_at lw_ms 8 rfl) rfl
theorem qs9 : (Cond.selects "RainStreets" ⟨"RainStreets", "next", "()V"⟩ ⟨"RainStreets", "next", "()V"⟩) ∈ lw_all := lw_g (lw_at lw_ms 9 rfl) rfl
theorem qs10 : (Cond.selects "RainStreets" ⟨"RainStreets", "here", "(I)I"⟩ ⟨"RainStreets", "here", "(I)I"⟩) ∈ lw_all := lw_g (lw_at lw_ms 10 rfl) rfl
theorem qs11 : (Cond.selects "java/lang/Throwable" ⟨"java/lang/Throwable", "fillInStackTrace", "(I)Ljava/lang/Throwable;"⟩ ⟨"java/lang/Throwable", "fillInStackTrace", "(I)Ljava/lang/Throwable;"⟩) ∈ lw_all := lw_g (lw_at lw_ms 11 rfl) rfl
theorem qs12 : (Cond.selects "RainStreets" ⟨"RainStreets", "statement", "(LRainStreets$Rules;)V"⟩ ⟨"RainStreets", "statement", "(LRainStreets$Rules;)V"⟩) ∈ lw_all := lw_g (lw_at lw_ms 12 rfl) rfl
theorem qs13 : (Cond.selects "RainStreets" ⟨"RainStreets", "must", "(Z)V"⟩ ⟨"RainStreets", "must", "(Z)V"⟩) ∈ lw_all := lw_g (lw_at lw_ms 13 rfl) rfl
theorem qs14 : (Cond.selects "RainStreets" ⟨"RainStreets", "turn", "()LRainStreets$Turn;"⟩ ⟨"RainStreets", "turn", "()LRainStreets$Turn;"⟩) ∈ lw_all := lw_g (lw_at lw_ms 14 rfl) rfl
theorem qs15 : (Cond.selects "RainStreets" ⟨"RainStreets", "any", "()I"⟩ ⟨"RainStreets", "any", "()I"⟩) ∈ lw_all := lw_g (lw_at lw_ms 15 rfl) rfl
theorem qs16 : (Cond.selects "RainStreets" ⟨"RainStreets", "number", "(II)I"⟩ ⟨"RainStreets", "number", "(II)I"⟩) ∈ lw_all := lw_g (lw_at lw_ms 16 rfl) rfl
theorem qs17 : (Cond.selects "RainStreets" ⟨"RainStreets", "after", "(Ljava/lang/String;)I"⟩ ⟨"RainStreets", "after", "(Ljava/lang/String;)I"⟩) ∈ lw_all := lw_g (lw_at lw_ms 17 rfl) rfl
theorem qs18 : (Cond.selects "RainStreets" ⟨"RainStreets", "look", "(LRainStreets$Rules;)V"⟩ ⟨"RainStreets", "look", "(LRainStreets$Rules;)V"⟩) ∈ lw_all := lw_g (lw_at lw_ms 18 rfl) rfl
theorem qs19 : (Cond.selects "RainStreets" ⟨"RainStreets", "day", "()V"⟩ ⟨"RainStreets", "day", "()V"⟩) ∈ lw_all := lw_g (lw_at lw_ms 19 rfl) rfl
theorem qs20 : (Cond.selects "RainStreets" ⟨"RainStreets", "beds", "(LRainStreets$Rules;I)V"⟩ ⟨"RainStreets", "beds", "(LRainStreets$Rules;I)V"⟩) ∈ lw_all := lw_g (lw_at lw_ms 20 rfl) rfl
theorem qs21 : (Cond.selects "RainStreets" ⟨"RainStreets", "complains", "(LRainStreets$Corner;I)I"⟩ ⟨"RainStreets", "complains", "(LRainStreets$Corner;I)I"⟩) ∈ lw_all := lw_g (lw_at lw_ms 21 rfl) rfl
theorem qs22 : (Cond.selects "RainStreets" ⟨"RainStreets", "turns", "(LRainStreets$Rules;)V"⟩ ⟨"RainStreets", "turns", "(LRainStreets$Rules;)V"⟩) ∈ lw_all := lw_g (lw_at lw_ms 22 rfl) rfl
theorem qs23 : (Cond.selects "RainStreets$Run" ⟨"RainStreets$Run", "minute", "(I)V"⟩ ⟨"RainStreets$Run", "minute", "(I)V"⟩) ∈ lw_all := lw_g (lw_at lw_ms 23 rfl) rfl
theorem qs24 : (Cond.selects "RainStreets$Run" ⟨"RainStreets$Run", "roofsOf", "(LRainStreets$Corner;I)I"⟩ ⟨"RainStreets$Run", "roofsOf", "(LRainStreets$Corner;I)I"⟩) ∈ lw_all := lw_g (lw_at lw_ms 24 rfl) rfl
theorem qs25 : (Cond.selects "RainStreets$Run" ⟨"RainStreets$Run", "takes", "(LRainStreets$Corner;I)I"⟩ ⟨"RainStreets$Run", "takes", "(LRainStreets$Corner;I)I"⟩) ∈ lw_all := lw_g (lw_at lw_ms 25 rfl) rfl
theorem qs26 : (Cond.selects "RainStreets" ⟨"RainStreets", "free", "()I"⟩ ⟨"RainStreets", "free", "()I"⟩) ∈ lw_all := lw_g (lw_at lw_ms 26 rfl) rfl
theorem qs27 : (Cond.selects "RainStreets" ⟨"RainStreets", "parkingOf", "(I)I"⟩ ⟨"RainStreets", "parkingOf", "(I)I"⟩) ∈ lw_all := lw_g (lw_at lw_ms 27 rfl) rfl
theorem qs28 : (Cond.selects "RainStreets" ⟨"RainStreets", "like", "(LRainStreets$Storm;II)LRainStreets$Storm;"⟩ ⟨"RainStreets", "like", "(LRainStreets$Storm;II)LRainStreets$Storm;"⟩) ∈ lw_all := lw_g (lw_at lw_ms 28 rfl) rfl
theorem qs29 : (Cond.selects "RainStreets" ⟨"RainStreets", "roofAt", "(I)LRainStreets$Roof;"⟩ ⟨"RainStreets", "roofAt", "(I)LRainStreets$Roof;"⟩) ∈ lw_all := lw_g (lw_at lw_ms 29 rfl) rfl
theorem qs30 : (Cond.selects "RainStreets" ⟨"RainStreets", "bedsThat", "(Z)I"⟩ ⟨"RainStreets", "bedsThat", "(Z)I"⟩) ∈ lw_all := lw_g (lw_at lw_ms 30 rfl) rfl
theorem qs31 : (Cond.selects "RainStreets" ⟨"RainStreets", "open", "()I"⟩ ⟨"RainStreets", "open", "()I"⟩) ∈ lw_all := lw_g (lw_at lw_ms 31 rfl) rfl
theorem qs32 : (Cond.selects "RainStreetsModel" ⟨"RainStreetsModel", "isCorner", "(I)Z"⟩ ⟨"RainStreetsModel", "isCorner", "(I)Z"⟩) ∈ lw_all := lw_g (lw_at lw_ms 32 rfl) rfl
theorem qs33 : (Cond.selects "RainStreetsModel" ⟨"RainStreetsModel", "parked", "(I)I"⟩ ⟨"RainStreetsModel", "parked", "(I)I"⟩) ∈ lw_all := lw_g (lw_at lw_ms 33 rfl) rfl
theorem qs34 : (Cond.selects "RainStreetsModel" ⟨"RainStreetsModel", "now", "(I)I"⟩ ⟨"RainStreetsModel", "now", "(I)I"⟩) ∈ lw_all := lw_g (lw_at lw_ms 34 rfl) rfl
theorem qs35 : (Cond.selects "RainStreetsModel" ⟨"RainStreetsModel", "lawOn", "(II)I"⟩ ⟨"RainStreetsModel", "lawOn", "(II)I"⟩) ∈ lw_all := lw_g (lw_at lw_ms 35 rfl) rfl
theorem qs36 : (Cond.selects "RainStreetsModel" ⟨"RainStreetsModel", "inForce", "(I)I"⟩ ⟨"RainStreetsModel", "inForce", "(I)I"⟩) ∈ lw_all := lw_g (lw_at lw_ms 36 rfl) rfl
theorem qs37 : (Cond.selects "RainStreetsModel" ⟨"RainStreetsModel", "isBed", "(I)Z"⟩ ⟨"RainStreetsModel", "isBed", "(I)Z"⟩) ∈ lw_all := lw_g (lw_at lw_ms 37 rfl) rfl
theorem qs38 : (Cond.selects "RainStreetsModel" ⟨"RainStreetsModel", "ages", "(I)V"⟩ ⟨"RainStreetsModel", "ages", "(I)V"⟩) ∈ lw_all := lw_g (lw_at lw_ms 38 rfl) rfl
theorem qs39 : (Cond.selects "RainStreetsModel" ⟨"RainStreetsModel", "drink", "(I)I"⟩ ⟨"RainStreetsModel", "drink", "(I)I"⟩) ∈ lw_all := lw_g (lw_at lw_ms 39 rfl) rfl
theorem qs40 : (Cond.selects "RainStreetsModel" ⟨"RainStreetsModel", "drinkBy", "(II)I"⟩ ⟨"RainStreetsModel", "drinkBy", "(II)I"⟩) ∈ lw_all := lw_g (lw_at lw_ms 40 rfl) rfl
theorem qs41 : (Cond.selects "RainStreetsModel" ⟨"RainStreetsModel", "turns", "()V"⟩ ⟨"RainStreetsModel", "turns", "()V"⟩) ∈ lw_all := lw_g (lw_at lw_ms 41 rfl) rfl
theorem qs42 : (Cond.selects "RainStreetsModel" ⟨"RainStreetsModel", "isTurn", "(II)Z"⟩ ⟨"RainStreetsModel", "isTurn", "(II)Z"⟩) ∈ lw_all := lw_g (lw_at lw_ms 42 rfl) rfl
theorem qs43 : (Cond.selects "RainStreetsModel" ⟨"RainStreetsModel", "falls", "(I)V"⟩ ⟨"RainStreetsModel", "falls", "(I)V"⟩) ∈ lw_all := lw_g (lw_at lw_ms 43 rfl) rfl
theorem qs44 : (Cond.selects "RainStreetsModel" ⟨"RainStreetsModel", "minute", "(II)V"⟩ ⟨"RainStreetsModel", "minute", "(II)V"⟩) ∈ lw_all := lw_g (lw_at lw_ms 44 rfl) rfl
theorem qs45 : (Cond.selects "RainStreetsModel" ⟨"RainStreetsModel", "roofsGive", "(II)J"⟩ ⟨"RainStreetsModel", "roofsGive", "(II)J"⟩) ∈ lw_all := lw_g (lw_at lw_ms 45 rfl) rfl
theorem qs46 : (Cond.selects "RainStreetsModel" ⟨"RainStreetsModel", "isNew", "(I)Z"⟩ ⟨"RainStreetsModel", "isNew", "(I)Z"⟩) ∈ lw_all := lw_g (lw_at lw_ms 46 rfl) rfl
theorem qs47 : (Cond.selects "RainStreetsModel" ⟨"RainStreetsModel", "like", "(II)I"⟩ ⟨"RainStreetsModel", "like", "(II)I"⟩) ∈ lw_all := lw_g (lw_at lw_ms 47 rfl) rfl
theorem qs48 : (Cond.selects "RainStreetsModel" ⟨"RainStreetsModel", "four", "(I)V"⟩ ⟨"RainStreetsModel", "four", "(I)V"⟩) ∈ lw_all := lw_g (lw_at lw_ms 48 rfl) rfl
theorem qs49 : (Cond.selects "RainStreetsModel" ⟨"RainStreetsModel", "blanks", "()V"⟩ ⟨"RainStreetsModel", "blanks", "()V"⟩) ∈ lw_all := lw_g (lw_at lw_ms 49 rfl) rfl
theorem qs50 : (Cond.selects "RainStreetsModel" ⟨"RainStreetsModel", "statement", "(I)Z"⟩ ⟨"RainStreetsModel", "statement", "(I)Z"⟩) ∈ lw_all := lw_g (lw_at lw_ms 50 rfl) rfl
theorem qs51 : (Cond.selects "RainStreetsModel" ⟨"RainStreetsModel", "takes", "(J)Z"⟩ ⟨"RainStreetsModel", "takes", "(J)Z"⟩) ∈ lw_all := lw_g (lw_at lw_ms 51 rfl) rfl
theorem qs52 : (Cond.selects "RainStreetsModel" ⟨"RainStreetsModel", "turnsIn", "(I)Z"⟩ ⟨"RainStreetsModel", "turnsIn", "(I)Z"⟩) ∈ lw_all := lw_g (lw_at lw_ms 52 rfl) rfl
theorem qs53 : (Cond.selects "RainStreetsModel" ⟨"RainStreetsModel", "takesPlain", "()Z"⟩ ⟨"RainStreetsModel", "takesPlain", "()Z"⟩) ∈ lw_all := lw_g (lw_at lw_ms 53 rfl) rfl
theorem qs54 : (Cond.selects "RainStreetsModel" ⟨"RainStreetsModel", "takesNumber", "(II)Z"⟩ ⟨"RainStreetsModel", "takesNumber", "(II)Z"⟩) ∈ lw_all := lw_g (lw_at lw_ms 54 rfl) rfl
theorem qs55 : (Cond.selects "RainStreetsModel" ⟨"RainStreetsModel", "grades", "(I)Z"⟩ ⟨"RainStreetsModel", "grades", "(I)Z"⟩) ∈ lw_all := lw_g (lw_at lw_ms 55 rfl) rfl
theorem qs56 : (Cond.selects "RainStreetsModel" ⟨"RainStreetsModel", "row", "(IIJJ)Z"⟩ ⟨"RainStreetsModel", "row", "(IIJJ)Z"⟩) ∈ lw_all := lw_g (lw_at lw_ms 56 rfl) rfl
theorem qs57 : (Cond.selects "RainStreetsModel" ⟨"RainStreetsModel", "others", "(I)Z"⟩ ⟨"RainStreetsModel", "others", "(I)Z"⟩) ∈ lw_all := lw_g (lw_at lw_ms 57 rfl) rfl
