-- ===== PART A: goes FIRST, ahead of the names: the tables' words, and 'selects' of the private methods out of them =====
/-- a private method of a class that the tables say can be made, by its rows of tables_1 -/
def lw_okq (q : MethodName × Nat) : Prop := (q.1.cls ≠ "java/lang/invoke/MethodHandle" ∧ q.1.cls ≠ "java/lang/invoke/VarHandle") ∧ Cond.instantiable q.1.cls q.2 ∈ tables_1 ∧ Cond.privateMethod q.1 ∈ tables_1 ∧ Cond.instanceMethod q.1 ∈ tables_1
set_option maxRecDepth 100000
theorem lw_t1 {w : Cond} (h : w ∈ tables_1_1) : w ∈ tables_1 := List.mem_append_left _ h
theorem lw_t2 {w : Cond} (h : w ∈ tables_1_2) : w ∈ tables_1 := List.mem_append_right _ (List.mem_append_left _ h)
theorem lw_t3 {w : Cond} (h : w ∈ tables_1_3) : w ∈ tables_1 := List.mem_append_right _ (List.mem_append_right _ (List.mem_append_left _ h))
theorem lw_t4 {w : Cond} (h : w ∈ tables_1_4) : w ∈ tables_1 := List.mem_append_right _ (List.mem_append_right _ (List.mem_append_right _ (List.mem_append_left _ h)))
theorem lw_t5 {w : Cond} (h : w ∈ tables_1_5) : w ∈ tables_1 := List.mem_append_right _ (List.mem_append_right _ (List.mem_append_right _ (List.mem_append_right _ (List.mem_append_left _ h))))
theorem lw_t6 {w : Cond} (h : w ∈ tables_1_6) : w ∈ tables_1 := List.mem_append_right _ (List.mem_append_right _ (List.mem_append_right _ (List.mem_append_right _ (List.mem_append_right _ (List.mem_append_left _ h)))))
theorem lw_t7 {w : Cond} (h : w ∈ tables_1_7) : w ∈ tables_1 := List.mem_append_right _ (List.mem_append_right _ (List.mem_append_right _ (List.mem_append_right _ (List.mem_append_right _ (List.mem_append_right _ h)))))
theorem lw_p0 : lw_okq (⟨"BreathOnLoan", "isBlower", "(I)Z"⟩, 17) := ⟨⟨by decide +kernel, by decide +kernel⟩, lw_t1 (List.mem_of_getElem? (i := 35) rfl), lw_t1 (List.mem_of_getElem? (i := 168) rfl), lw_t1 (List.mem_of_getElem? (i := 169) rfl)⟩
theorem lw_p1 : lw_okq (⟨"BreathOnLoan", "quarrels", "(IIZ)V"⟩, 17) := ⟨⟨by decide +kernel, by decide +kernel⟩, lw_t1 (List.mem_of_getElem? (i := 35) rfl), lw_t1 (List.mem_of_getElem? (i := 172) rfl), lw_t1 (List.mem_of_getElem? (i := 173) rfl)⟩
theorem lw_p2 : lw_okq (⟨"BreathOnLoan", "put", "(I)V"⟩, 17) := ⟨⟨by decide +kernel, by decide +kernel⟩, lw_t1 (List.mem_of_getElem? (i := 35) rfl), lw_t1 (List.mem_of_getElem? (i := 184) rfl), lw_t1 (List.mem_of_getElem? (i := 185) rfl)⟩
theorem lw_p3 : lw_okq (⟨"BreathOnLoan$Tokens", "next", "()V"⟩, 8) := ⟨⟨by decide +kernel, by decide +kernel⟩, lw_t1 (List.mem_of_getElem? (i := 197) rfl), lw_t2 (List.mem_of_getElem? (i := 40) rfl), lw_t2 (List.mem_of_getElem? (i := 41) rfl)⟩
theorem lw_p4 : lw_okq (⟨"BreathOnLoan$Tokens", "isWord", "(Ljava/lang/String;)Z"⟩, 8) := ⟨⟨by decide +kernel, by decide +kernel⟩, lw_t1 (List.mem_of_getElem? (i := 197) rfl), lw_t2 (List.mem_of_getElem? (i := 49) rfl), lw_t2 (List.mem_of_getElem? (i := 50) rfl)⟩
theorem lw_p5 : lw_okq (⟨"BreathOnLoan$Tokens", "wrong", "(I)LBreathOnLoan$Wrong;"⟩, 8) := ⟨⟨by decide +kernel, by decide +kernel⟩, lw_t1 (List.mem_of_getElem? (i := 197) rfl), lw_t2 (List.mem_of_getElem? (i := 109) rfl), lw_t2 (List.mem_of_getElem? (i := 110) rfl)⟩
theorem lw_p6 : lw_okq (⟨"java/lang/Throwable", "fillInStackTrace", "(I)Ljava/lang/Throwable;"⟩, 6) := ⟨⟨by decide +kernel, by decide +kernel⟩, lw_t2 (List.mem_of_getElem? (i := 147) rfl), lw_t2 (List.mem_of_getElem? (i := 145) rfl), lw_t2 (List.mem_of_getElem? (i := 146) rfl)⟩
theorem lw_p7 : lw_okq (⟨"BreathOnLoan$Tokens", "doing", "(I)LBreathOnLoan$Doing;"⟩, 8) := ⟨⟨by decide +kernel, by decide +kernel⟩, lw_t1 (List.mem_of_getElem? (i := 197) rfl), lw_t2 (List.mem_of_getElem? (i := 177) rfl), lw_t2 (List.mem_of_getElem? (i := 178) rfl)⟩
theorem lw_p8 : lw_okq (⟨"BreathOnLoan$Tokens", "number", "(II)I"⟩, 8) := ⟨⟨by decide +kernel, by decide +kernel⟩, lw_t1 (List.mem_of_getElem? (i := 197) rfl), lw_t2 (List.mem_of_getElem? (i := 181) rfl), lw_t2 (List.mem_of_getElem? (i := 182) rfl)⟩
theorem lw_p9 : lw_okq (⟨"BreathOnLoan$Tokens", "want", "(I)V"⟩, 8) := ⟨⟨by decide +kernel, by decide +kernel⟩, lw_t1 (List.mem_of_getElem? (i := 197) rfl), lw_t2 (List.mem_of_getElem? (i := 210) rfl), lw_t2 (List.mem_of_getElem? (i := 211) rfl)⟩
theorem lw_p10 : lw_okq (⟨"java/util/ArrayList", "add", "(Ljava/lang/Object;[Ljava/lang/Object;I)V"⟩, 3) := ⟨⟨by decide +kernel, by decide +kernel⟩, lw_t2 (List.mem_of_getElem? (i := 0) rfl), lw_t2 (List.mem_of_getElem? (i := 218) rfl), lw_t2 (List.mem_of_getElem? (i := 219) rfl)⟩
theorem lw_p11 : lw_okq (⟨"java/util/ArrayList", "grow", "()[Ljava/lang/Object;"⟩, 3) := ⟨⟨by decide +kernel, by decide +kernel⟩, lw_t2 (List.mem_of_getElem? (i := 0) rfl), lw_t2 (List.mem_of_getElem? (i := 222) rfl), lw_t2 (List.mem_of_getElem? (i := 223) rfl)⟩
theorem lw_p12 : lw_okq (⟨"java/util/ArrayList", "grow", "(I)[Ljava/lang/Object;"⟩, 3) := ⟨⟨by decide +kernel, by decide +kernel⟩, lw_t2 (List.mem_of_getElem? (i := 0) rfl), lw_t2 (List.mem_of_getElem? (i := 226) rfl), lw_t2 (List.mem_of_getElem? (i := 227) rfl)⟩
theorem lw_p13 : lw_okq (⟨"BreathOnLoan$Tokens", "sum", "()LBreathOnLoan$Sum;"⟩, 8) := ⟨⟨by decide +kernel, by decide +kernel⟩, lw_t1 (List.mem_of_getElem? (i := 197) rfl), lw_t3 (List.mem_of_getElem? (i := 34) rfl), lw_t3 (List.mem_of_getElem? (i := 35) rfl)⟩
theorem lw_p14 : lw_okq (⟨"BreathOnLoan$Tokens", "product", "()LBreathOnLoan$Sum;"⟩, 8) := ⟨⟨by decide +kernel, by decide +kernel⟩, lw_t1 (List.mem_of_getElem? (i := 197) rfl), lw_t3 (List.mem_of_getElem? (i := 40) rfl), lw_t3 (List.mem_of_getElem? (i := 41) rfl)⟩
theorem lw_p15 : lw_okq (⟨"BreathOnLoan$Tokens", "one", "()LBreathOnLoan$Sum;"⟩, 8) := ⟨⟨by decide +kernel, by decide +kernel⟩, lw_t1 (List.mem_of_getElem? (i := 197) rfl), lw_t3 (List.mem_of_getElem? (i := 44) rfl), lw_t3 (List.mem_of_getElem? (i := 45) rfl)⟩
def lw_privs_1 : List (MethodName × Nat) := [(⟨"BreathOnLoan", "isBlower", "(I)Z"⟩, 17), (⟨"BreathOnLoan", "quarrels", "(IIZ)V"⟩, 17), (⟨"BreathOnLoan", "put", "(I)V"⟩, 17), (⟨"BreathOnLoan$Tokens", "next", "()V"⟩, 8), (⟨"BreathOnLoan$Tokens", "isWord", "(Ljava/lang/String;)Z"⟩, 8), (⟨"BreathOnLoan$Tokens", "wrong", "(I)LBreathOnLoan$Wrong;"⟩, 8), (⟨"java/lang/Throwable", "fillInStackTrace", "(I)Ljava/lang/Throwable;"⟩, 6), (⟨"BreathOnLoan$Tokens", "doing", "(I)LBreathOnLoan$Doing;"⟩, 8), (⟨"BreathOnLoan$Tokens", "number", "(II)I"⟩, 8), (⟨"BreathOnLoan$Tokens", "want", "(I)V"⟩, 8), (⟨"java/util/ArrayList", "add", "(Ljava/lang/Object;[Ljava/lang/Object;I)V"⟩, 3), (⟨"java/util/ArrayList", "grow", "()[Ljava/lang/Object;"⟩, 3), (⟨"java/util/ArrayList", "grow", "(I)[Ljava/lang/Object;"⟩, 3), (⟨"BreathOnLoan$Tokens", "sum", "()LBreathOnLoan$Sum;"⟩, 8), (⟨"BreathOnLoan$Tokens", "product", "()LBreathOnLoan$Sum;"⟩, 8), (⟨"BreathOnLoan$Tokens", "one", "()LBreathOnLoan$Sum;"⟩, 8)]
theorem lw_r1 : ∀ q ∈ lw_privs_1, lw_okq q := List.forall_mem_cons.mpr ⟨lw_p0, List.forall_mem_cons.mpr ⟨lw_p1, List.forall_mem_cons.mpr ⟨lw_p2, List.forall_mem_cons.mpr ⟨lw_p3, List.forall_mem_cons.mpr ⟨lw_p4, List.forall_mem_cons.mpr ⟨lw_p5, List.forall_mem_cons.mpr ⟨lw_p6, List.forall_mem_cons.mpr ⟨lw_p7, List.forall_mem_cons.mpr ⟨lw_p8, List.forall_mem_cons.mpr ⟨lw_p9, List.forall_mem_cons.mpr ⟨lw_p10, List.forall_mem_cons.mpr ⟨lw_p11, List.forall_mem_cons.mpr ⟨lw_p12, List.forall_mem_cons.mpr ⟨lw_p13, List.forall_mem_cons.mpr ⟨lw_p14, List.forall_mem_cons.mpr ⟨lw_p15, fun _ h => absurd h List.not_mem_nil⟩⟩⟩⟩⟩⟩⟩⟩⟩⟩⟩⟩⟩⟩⟩⟩
theorem lw_p16 : lw_okq (⟨"BreathOnLoan$Tokens", "choice", "()LBreathOnLoan$Sum;"⟩, 8) := ⟨⟨by decide +kernel, by decide +kernel⟩, lw_t1 (List.mem_of_getElem? (i := 197) rfl), lw_t3 (List.mem_of_getElem? (i := 70) rfl), lw_t3 (List.mem_of_getElem? (i := 71) rfl)⟩
theorem lw_p17 : lw_okq (⟨"BreathOnLoan$Tokens", "opens", "()V"⟩, 8) := ⟨⟨by decide +kernel, by decide +kernel⟩, lw_t1 (List.mem_of_getElem? (i := 197) rfl), lw_t3 (List.mem_of_getElem? (i := 74) rfl), lw_t3 (List.mem_of_getElem? (i := 75) rfl)⟩
theorem lw_p18 : lw_okq (⟨"BreathOnLoan$Tokens", "either", "()LBreathOnLoan$Asked;"⟩, 8) := ⟨⟨by decide +kernel, by decide +kernel⟩, lw_t1 (List.mem_of_getElem? (i := 197) rfl), lw_t3 (List.mem_of_getElem? (i := 78) rfl), lw_t3 (List.mem_of_getElem? (i := 79) rfl)⟩
theorem lw_p19 : lw_okq (⟨"BreathOnLoan$Tokens", "both", "()LBreathOnLoan$Asked;"⟩, 8) := ⟨⟨by decide +kernel, by decide +kernel⟩, lw_t1 (List.mem_of_getElem? (i := 197) rfl), lw_t3 (List.mem_of_getElem? (i := 84) rfl), lw_t3 (List.mem_of_getElem? (i := 85) rfl)⟩
theorem lw_p20 : lw_okq (⟨"BreathOnLoan$Tokens", "ask", "()LBreathOnLoan$Asked;"⟩, 8) := ⟨⟨by decide +kernel, by decide +kernel⟩, lw_t1 (List.mem_of_getElem? (i := 197) rfl), lw_t3 (List.mem_of_getElem? (i := 88) rfl), lw_t3 (List.mem_of_getElem? (i := 89) rfl)⟩
theorem lw_p21 : lw_okq (⟨"BreathOnLoan", "isText", "(I)Z"⟩, 17) := ⟨⟨by decide +kernel, by decide +kernel⟩, lw_t1 (List.mem_of_getElem? (i := 35) rfl), lw_t3 (List.mem_of_getElem? (i := 231) rfl), lw_t3 (List.mem_of_getElem? (i := 232) rfl)⟩
theorem lw_p22 : lw_okq (⟨"BreathOnLoan", "smokeIn", "(I)I"⟩, 17) := ⟨⟨by decide +kernel, by decide +kernel⟩, lw_t1 (List.mem_of_getElem? (i := 35) rfl), lw_t3 (List.mem_of_getElem? (i := 239) rfl), lw_t4 (List.mem_of_getElem? (i := 0) rfl)⟩
theorem lw_p23 : lw_okq (⟨"BreathOnLoan", "asks", "(III)I"⟩, 17) := ⟨⟨by decide +kernel, by decide +kernel⟩, lw_t1 (List.mem_of_getElem? (i := 35) rfl), lw_t4 (List.mem_of_getElem? (i := 3) rfl), lw_t4 (List.mem_of_getElem? (i := 4) rfl)⟩
theorem lw_p24 : lw_okq (⟨"BreathOnLoan", "costOf", "(II)I"⟩, 17) := ⟨⟨by decide +kernel, by decide +kernel⟩, lw_t1 (List.mem_of_getElem? (i := 35) rfl), lw_t4 (List.mem_of_getElem? (i := 100) rfl), lw_t4 (List.mem_of_getElem? (i := 101) rfl)⟩
theorem lw_p25 : lw_okq (⟨"BreathOnLoan", "namesBlower", "(I)V"⟩, 17) := ⟨⟨by decide +kernel, by decide +kernel⟩, lw_t1 (List.mem_of_getElem? (i := 35) rfl), lw_t4 (List.mem_of_getElem? (i := 104) rfl), lw_t4 (List.mem_of_getElem? (i := 105) rfl)⟩
theorem lw_p26 : lw_okq (⟨"BreathOnLoan", "isKind", "(I)Z"⟩, 17) := ⟨⟨by decide +kernel, by decide +kernel⟩, lw_t1 (List.mem_of_getElem? (i := 35) rfl), lw_t4 (List.mem_of_getElem? (i := 112) rfl), lw_t4 (List.mem_of_getElem? (i := 113) rfl)⟩
theorem lw_p27 : lw_okq (⟨"BreathOnLoan", "canBlow", "(III)Z"⟩, 17) := ⟨⟨by decide +kernel, by decide +kernel⟩, lw_t1 (List.mem_of_getElem? (i := 35) rfl), lw_t4 (List.mem_of_getElem? (i := 133) rfl), lw_t4 (List.mem_of_getElem? (i := 134) rfl)⟩
theorem lw_p28 : lw_okq (⟨"BreathOnLoan", "isPiece", "(I)Z"⟩, 17) := ⟨⟨by decide +kernel, by decide +kernel⟩, lw_t1 (List.mem_of_getElem? (i := 35) rfl), lw_t4 (List.mem_of_getElem? (i := 137) rfl), lw_t4 (List.mem_of_getElem? (i := 138) rfl)⟩
theorem lw_p29 : lw_okq (⟨"BreathOnLoan", "ofPiece", "(II)I"⟩, 17) := ⟨⟨by decide +kernel, by decide +kernel⟩, lw_t1 (List.mem_of_getElem? (i := 35) rfl), lw_t4 (List.mem_of_getElem? (i := 141) rfl), lw_t4 (List.mem_of_getElem? (i := 142) rfl)⟩
theorem lw_p30 : lw_okq (⟨"BreathOnLoan", "givenNow", "()I"⟩, 17) := ⟨⟨by decide +kernel, by decide +kernel⟩, lw_t1 (List.mem_of_getElem? (i := 35) rfl), lw_t4 (List.mem_of_getElem? (i := 145) rfl), lw_t4 (List.mem_of_getElem? (i := 146) rfl)⟩
theorem lw_p31 : lw_okq (⟨"BreathOnLoan", "hour", "()I"⟩, 17) := ⟨⟨by decide +kernel, by decide +kernel⟩, lw_t1 (List.mem_of_getElem? (i := 35) rfl), lw_t4 (List.mem_of_getElem? (i := 149) rfl), lw_t4 (List.mem_of_getElem? (i := 150) rfl)⟩
def lw_privs_2 : List (MethodName × Nat) := [(⟨"BreathOnLoan$Tokens", "choice", "()LBreathOnLoan$Sum;"⟩, 8), (⟨"BreathOnLoan$Tokens", "opens", "()V"⟩, 8), (⟨"BreathOnLoan$Tokens", "either", "()LBreathOnLoan$Asked;"⟩, 8), (⟨"BreathOnLoan$Tokens", "both", "()LBreathOnLoan$Asked;"⟩, 8), (⟨"BreathOnLoan$Tokens", "ask", "()LBreathOnLoan$Asked;"⟩, 8), (⟨"BreathOnLoan", "isText", "(I)Z"⟩, 17), (⟨"BreathOnLoan", "smokeIn", "(I)I"⟩, 17), (⟨"BreathOnLoan", "asks", "(III)I"⟩, 17), (⟨"BreathOnLoan", "costOf", "(II)I"⟩, 17), (⟨"BreathOnLoan", "namesBlower", "(I)V"⟩, 17), (⟨"BreathOnLoan", "isKind", "(I)Z"⟩, 17), (⟨"BreathOnLoan", "canBlow", "(III)Z"⟩, 17), (⟨"BreathOnLoan", "isPiece", "(I)Z"⟩, 17), (⟨"BreathOnLoan", "ofPiece", "(II)I"⟩, 17), (⟨"BreathOnLoan", "givenNow", "()I"⟩, 17), (⟨"BreathOnLoan", "hour", "()I"⟩, 17)]
theorem lw_r2 : ∀ q ∈ lw_privs_2, lw_okq q := List.forall_mem_cons.mpr ⟨lw_p16, List.forall_mem_cons.mpr ⟨lw_p17, List.forall_mem_cons.mpr ⟨lw_p18, List.forall_mem_cons.mpr ⟨lw_p19, List.forall_mem_cons.mpr ⟨lw_p20, List.forall_mem_cons.mpr ⟨lw_p21, List.forall_mem_cons.mpr ⟨lw_p22, List.forall_mem_cons.mpr ⟨lw_p23, List.forall_mem_cons.mpr ⟨lw_p24, List.forall_mem_cons.mpr ⟨lw_p25, List.forall_mem_cons.mpr ⟨lw_p26, List.forall_mem_cons.mpr ⟨lw_p27, List.forall_mem_cons.mpr ⟨lw_p28, List.forall_mem_cons.mpr ⟨lw_p29, List.forall_mem_cons.mpr ⟨lw_p30, List.forall_mem_cons.mpr ⟨lw_p31, fun _ h => absurd h List.not_mem_nil⟩⟩⟩⟩⟩⟩⟩⟩⟩⟩⟩⟩⟩⟩⟩⟩
theorem lw_p32 : lw_okq (⟨"BreathOnLoan", "stateOf", "(I)I"⟩, 17) := ⟨⟨by decide +kernel, by decide +kernel⟩, lw_t1 (List.mem_of_getElem? (i := 35) rfl), lw_t4 (List.mem_of_getElem? (i := 153) rfl), lw_t4 (List.mem_of_getElem? (i := 154) rfl)⟩
theorem lw_p33 : lw_okq (⟨"BreathOnLoan", "voicesOf", "(I)I"⟩, 17) := ⟨⟨by decide +kernel, by decide +kernel⟩, lw_t1 (List.mem_of_getElem? (i := 35) rfl), lw_t4 (List.mem_of_getElem? (i := 157) rfl), lw_t4 (List.mem_of_getElem? (i := 158) rfl)⟩
theorem lw_p34 : lw_okq (⟨"BreathOnLoan", "namesKind", "(I)V"⟩, 17) := ⟨⟨by decide +kernel, by decide +kernel⟩, lw_t1 (List.mem_of_getElem? (i := 35) rfl), lw_t4 (List.mem_of_getElem? (i := 170) rfl), lw_t4 (List.mem_of_getElem? (i := 171) rfl)⟩
theorem lw_p35 : lw_okq (⟨"BreathOnLoan", "brittleOf", "(I)I"⟩, 17) := ⟨⟨by decide +kernel, by decide +kernel⟩, lw_t1 (List.mem_of_getElem? (i := 35) rfl), lw_t4 (List.mem_of_getElem? (i := 226) rfl), lw_t4 (List.mem_of_getElem? (i := 227) rfl)⟩
theorem lw_p36 : lw_okq (⟨"BreathOnLoan", "laysPlan", "()V"⟩, 17) := ⟨⟨by decide +kernel, by decide +kernel⟩, lw_t1 (List.mem_of_getElem? (i := 35) rfl), lw_t5 (List.mem_of_getElem? (i := 5) rfl), lw_t5 (List.mem_of_getElem? (i := 6) rfl)⟩
theorem lw_p37 : lw_okq (⟨"BreathOnLoan", "isTeam", "(I)Z"⟩, 17) := ⟨⟨by decide +kernel, by decide +kernel⟩, lw_t1 (List.mem_of_getElem? (i := 35) rfl), lw_t5 (List.mem_of_getElem? (i := 9) rfl), lw_t5 (List.mem_of_getElem? (i := 10) rfl)⟩
theorem lw_p38 : lw_okq (⟨"BreathOnLoan", "laysWork", "(III)V"⟩, 17) := ⟨⟨by decide +kernel, by decide +kernel⟩, lw_t1 (List.mem_of_getElem? (i := 35) rfl), lw_t5 (List.mem_of_getElem? (i := 13) rfl), lw_t5 (List.mem_of_getElem? (i := 14) rfl)⟩
theorem lw_p39 : lw_okq (⟨"BreathOnLoan", "isMore", "(IIIIZ)Z"⟩, 17) := ⟨⟨by decide +kernel, by decide +kernel⟩, lw_t1 (List.mem_of_getElem? (i := 35) rfl), lw_t5 (List.mem_of_getElem? (i := 17) rfl), lw_t5 (List.mem_of_getElem? (i := 18) rfl)⟩
theorem lw_p40 : lw_okq (⟨"BreathOnLoan", "goesPlan", "()I"⟩, 17) := ⟨⟨by decide +kernel, by decide +kernel⟩, lw_t1 (List.mem_of_getElem? (i := 35) rfl), lw_t5 (List.mem_of_getElem? (i := 21) rfl), lw_t5 (List.mem_of_getElem? (i := 22) rfl)⟩
theorem lw_p41 : lw_okq (⟨"BreathOnLoan", "canBe", "(I)Z"⟩, 17) := ⟨⟨by decide +kernel, by decide +kernel⟩, lw_t1 (List.mem_of_getElem? (i := 35) rfl), lw_t5 (List.mem_of_getElem? (i := 33) rfl), lw_t5 (List.mem_of_getElem? (i := 34) rfl)⟩
theorem lw_p42 : lw_okq (⟨"BreathOnLoan", "isFalse", "([I)Z"⟩, 17) := ⟨⟨by decide +kernel, by decide +kernel⟩, lw_t1 (List.mem_of_getElem? (i := 35) rfl), lw_t5 (List.mem_of_getElem? (i := 46) rfl), lw_t5 (List.mem_of_getElem? (i := 47) rfl)⟩
theorem lw_p43 : lw_okq (⟨"BreathOnLoanModel", "set", "(III)V"⟩, 32) := ⟨⟨by decide +kernel, by decide +kernel⟩, lw_t5 (List.mem_of_getElem? (i := 66) rfl), lw_t5 (List.mem_of_getElem? (i := 179) rfl), lw_t5 (List.mem_of_getElem? (i := 180) rfl)⟩
theorem lw_p44 : lw_okq (⟨"BreathOnLoanModel", "isBlower", "(I)Z"⟩, 32) := ⟨⟨by decide +kernel, by decide +kernel⟩, lw_t5 (List.mem_of_getElem? (i := 66) rfl), lw_t5 (List.mem_of_getElem? (i := 187) rfl), lw_t5 (List.mem_of_getElem? (i := 188) rfl)⟩
theorem lw_p45 : lw_okq (⟨"BreathOnLoanModel", "part", "(IIZ)V"⟩, 32) := ⟨⟨by decide +kernel, by decide +kernel⟩, lw_t5 (List.mem_of_getElem? (i := 66) rfl), lw_t5 (List.mem_of_getElem? (i := 191) rfl), lw_t5 (List.mem_of_getElem? (i := 192) rfl)⟩
theorem lw_p46 : lw_okq (⟨"BreathOnLoanModel", "get", "(II)I"⟩, 32) := ⟨⟨by decide +kernel, by decide +kernel⟩, lw_t5 (List.mem_of_getElem? (i := 66) rfl), lw_t5 (List.mem_of_getElem? (i := 195) rfl), lw_t5 (List.mem_of_getElem? (i := 196) rfl)⟩
theorem lw_p47 : lw_okq (⟨"BreathOnLoanModel", "four", "(I)V"⟩, 32) := ⟨⟨by decide +kernel, by decide +kernel⟩, lw_t5 (List.mem_of_getElem? (i := 66) rfl), lw_t5 (List.mem_of_getElem? (i := 207) rfl), lw_t5 (List.mem_of_getElem? (i := 208) rfl)⟩
def lw_privs_3 : List (MethodName × Nat) := [(⟨"BreathOnLoan", "stateOf", "(I)I"⟩, 17), (⟨"BreathOnLoan", "voicesOf", "(I)I"⟩, 17), (⟨"BreathOnLoan", "namesKind", "(I)V"⟩, 17), (⟨"BreathOnLoan", "brittleOf", "(I)I"⟩, 17), (⟨"BreathOnLoan", "laysPlan", "()V"⟩, 17), (⟨"BreathOnLoan", "isTeam", "(I)Z"⟩, 17), (⟨"BreathOnLoan", "laysWork", "(III)V"⟩, 17), (⟨"BreathOnLoan", "isMore", "(IIIIZ)Z"⟩, 17), (⟨"BreathOnLoan", "goesPlan", "()I"⟩, 17), (⟨"BreathOnLoan", "canBe", "(I)Z"⟩, 17), (⟨"BreathOnLoan", "isFalse", "([I)Z"⟩, 17), (⟨"BreathOnLoanModel", "set", "(III)V"⟩, 32), (⟨"BreathOnLoanModel", "isBlower", "(I)Z"⟩, 32), (⟨"BreathOnLoanModel", "part", "(IIZ)V"⟩, 32), (⟨"BreathOnLoanModel", "get", "(II)I"⟩, 32), (⟨"BreathOnLoanModel", "four", "(I)V"⟩, 32)]
theorem lw_r3 : ∀ q ∈ lw_privs_3, lw_okq q := List.forall_mem_cons.mpr ⟨lw_p32, List.forall_mem_cons.mpr ⟨lw_p33, List.forall_mem_cons.mpr ⟨lw_p34, List.forall_mem_cons.mpr ⟨lw_p35, List.forall_mem_cons.mpr ⟨lw_p36, List.forall_mem_cons.mpr ⟨lw_p37, List.forall_mem_cons.mpr ⟨lw_p38, List.forall_mem_cons.mpr ⟨lw_p39, List.forall_mem_cons.mpr ⟨lw_p40, List.forall_mem_cons.mpr ⟨lw_p41, List.forall_mem_cons.mpr ⟨lw_p42, List.forall_mem_cons.mpr ⟨lw_p43, List.forall_mem_cons.mpr ⟨lw_p44, List.forall_mem_cons.mpr ⟨lw_p45, List.forall_mem_cons.mpr ⟨lw_p46, List.forall_mem_cons.mpr ⟨lw_p47, fun _ h => absurd h List.not_mem_nil⟩⟩⟩⟩⟩⟩⟩⟩⟩⟩⟩⟩⟩⟩⟩⟩
theorem lw_p48 : lw_okq (⟨"BreathOnLoanModel", "readText", "()I"⟩, 32) := ⟨⟨by decide +kernel, by decide +kernel⟩, lw_t5 (List.mem_of_getElem? (i := 66) rfl), lw_t5 (List.mem_of_getElem? (i := 219) rfl), lw_t5 (List.mem_of_getElem? (i := 220) rfl)⟩
theorem lw_p49 : lw_okq (⟨"BreathOnLoanModel", "nextToken", "()V"⟩, 32) := ⟨⟨by decide +kernel, by decide +kernel⟩, lw_t5 (List.mem_of_getElem? (i := 66) rfl), lw_t5 (List.mem_of_getElem? (i := 223) rfl), lw_t5 (List.mem_of_getElem? (i := 224) rfl)⟩
theorem lw_p50 : lw_okq (⟨"BreathOnLoanModel", "byteAt", "(I)I"⟩, 32) := ⟨⟨by decide +kernel, by decide +kernel⟩, lw_t5 (List.mem_of_getElem? (i := 66) rfl), lw_t5 (List.mem_of_getElem? (i := 227) rfl), lw_t5 (List.mem_of_getElem? (i := 228) rfl)⟩
theorem lw_p51 : lw_okq (⟨"BreathOnLoanModel", "clause", "()I"⟩, 32) := ⟨⟨by decide +kernel, by decide +kernel⟩, lw_t5 (List.mem_of_getElem? (i := 66) rfl), lw_t5 (List.mem_of_getElem? (i := 238) rfl), lw_t5 (List.mem_of_getElem? (i := 239) rfl)⟩
theorem lw_p52 : lw_okq (⟨"BreathOnLoanModel", "sortOf", "()I"⟩, 32) := ⟨⟨by decide +kernel, by decide +kernel⟩, lw_t5 (List.mem_of_getElem? (i := 66) rfl), lw_t6 (List.mem_of_getElem? (i := 2) rfl), lw_t6 (List.mem_of_getElem? (i := 3) rfl)⟩
theorem lw_p53 : lw_okq (⟨"BreathOnLoanModel", "isWord", "(J)Z"⟩, 32) := ⟨⟨by decide +kernel, by decide +kernel⟩, lw_t5 (List.mem_of_getElem? (i := 66) rfl), lw_t6 (List.mem_of_getElem? (i := 12) rfl), lw_t6 (List.mem_of_getElem? (i := 13) rfl)⟩
theorem lw_p54 : lw_okq (⟨"BreathOnLoanModel", "parsed", "(Z)I"⟩, 32) := ⟨⟨by decide +kernel, by decide +kernel⟩, lw_t5 (List.mem_of_getElem? (i := 66) rfl), lw_t6 (List.mem_of_getElem? (i := 19) rfl), lw_t6 (List.mem_of_getElem? (i := 20) rfl)⟩
theorem lw_p55 : lw_okq (⟨"BreathOnLoanModel", "behindOne", "(Z)Z"⟩, 32) := ⟨⟨by decide +kernel, by decide +kernel⟩, lw_t5 (List.mem_of_getElem? (i := 66) rfl), lw_t6 (List.mem_of_getElem? (i := 23) rfl), lw_t6 (List.mem_of_getElem? (i := 24) rfl)⟩
theorem lw_p56 : lw_okq (⟨"BreathOnLoanModel", "betweenOf", "(Z)I"⟩, 32) := ⟨⟨by decide +kernel, by decide +kernel⟩, lw_t5 (List.mem_of_getElem? (i := 66) rfl), lw_t6 (List.mem_of_getElem? (i := 27) rfl), lw_t6 (List.mem_of_getElem? (i := 28) rfl)⟩
theorem lw_p57 : lw_okq (⟨"BreathOnLoanModel", "kindOpen", "(Z)I"⟩, 32) := ⟨⟨by decide +kernel, by decide +kernel⟩, lw_t5 (List.mem_of_getElem? (i := 66) rfl), lw_t6 (List.mem_of_getElem? (i := 31) rfl), lw_t6 (List.mem_of_getElem? (i := 32) rfl)⟩
theorem lw_p58 : lw_okq (⟨"BreathOnLoanModel", "marker", "()I"⟩, 32) := ⟨⟨by decide +kernel, by decide +kernel⟩, lw_t5 (List.mem_of_getElem? (i := 66) rfl), lw_t6 (List.mem_of_getElem? (i := 35) rfl), lw_t6 (List.mem_of_getElem? (i := 36) rfl)⟩
theorem lw_p59 : lw_okq (⟨"BreathOnLoanModel", "isCompared", "()Z"⟩, 32) := ⟨⟨by decide +kernel, by decide +kernel⟩, lw_t5 (List.mem_of_getElem? (i := 66) rfl), lw_t6 (List.mem_of_getElem? (i := 39) rfl), lw_t6 (List.mem_of_getElem? (i := 40) rfl)⟩
theorem lw_p60 : lw_okq (⟨"BreathOnLoanModel", "compareOf", "()I"⟩, 32) := ⟨⟨by decide +kernel, by decide +kernel⟩, lw_t5 (List.mem_of_getElem? (i := 66) rfl), lw_t6 (List.mem_of_getElem? (i := 46) rfl), lw_t6 (List.mem_of_getElem? (i := 47) rfl)⟩
theorem lw_p61 : lw_okq (⟨"BreathOnLoanModel", "settle", "(I)V"⟩, 32) := ⟨⟨by decide +kernel, by decide +kernel⟩, lw_t5 (List.mem_of_getElem? (i := 66) rfl), lw_t6 (List.mem_of_getElem? (i := 51) rfl), lw_t6 (List.mem_of_getElem? (i := 52) rfl)⟩
theorem lw_p62 : lw_okq (⟨"BreathOnLoanModel", "emit", "(II)V"⟩, 32) := ⟨⟨by decide +kernel, by decide +kernel⟩, lw_t5 (List.mem_of_getElem? (i := 66) rfl), lw_t6 (List.mem_of_getElem? (i := 55) rfl), lw_t6 (List.mem_of_getElem? (i := 56) rfl)⟩
theorem lw_p63 : lw_okq (⟨"BreathOnLoanModel", "push", "(I)V"⟩, 32) := ⟨⟨by decide +kernel, by decide +kernel⟩, lw_t5 (List.mem_of_getElem? (i := 66) rfl), lw_t6 (List.mem_of_getElem? (i := 59) rfl), lw_t6 (List.mem_of_getElem? (i := 60) rfl)⟩
def lw_privs_4 : List (MethodName × Nat) := [(⟨"BreathOnLoanModel", "readText", "()I"⟩, 32), (⟨"BreathOnLoanModel", "nextToken", "()V"⟩, 32), (⟨"BreathOnLoanModel", "byteAt", "(I)I"⟩, 32), (⟨"BreathOnLoanModel", "clause", "()I"⟩, 32), (⟨"BreathOnLoanModel", "sortOf", "()I"⟩, 32), (⟨"BreathOnLoanModel", "isWord", "(J)Z"⟩, 32), (⟨"BreathOnLoanModel", "parsed", "(Z)I"⟩, 32), (⟨"BreathOnLoanModel", "behindOne", "(Z)Z"⟩, 32), (⟨"BreathOnLoanModel", "betweenOf", "(Z)I"⟩, 32), (⟨"BreathOnLoanModel", "kindOpen", "(Z)I"⟩, 32), (⟨"BreathOnLoanModel", "marker", "()I"⟩, 32), (⟨"BreathOnLoanModel", "isCompared", "()Z"⟩, 32), (⟨"BreathOnLoanModel", "compareOf", "()I"⟩, 32), (⟨"BreathOnLoanModel", "settle", "(I)V"⟩, 32), (⟨"BreathOnLoanModel", "emit", "(II)V"⟩, 32), (⟨"BreathOnLoanModel", "push", "(I)V"⟩, 32)]
theorem lw_r4 : ∀ q ∈ lw_privs_4, lw_okq q := List.forall_mem_cons.mpr ⟨lw_p48, List.forall_mem_cons.mpr ⟨lw_p49, List.forall_mem_cons.mpr ⟨lw_p50, List.forall_mem_cons.mpr ⟨lw_p51, List.forall_mem_cons.mpr ⟨lw_p52, List.forall_mem_cons.mpr ⟨lw_p53, List.forall_mem_cons.mpr ⟨lw_p54, List.forall_mem_cons.mpr ⟨lw_p55, List.forall_mem_cons.mpr ⟨lw_p56, List.forall_mem_cons.mpr ⟨lw_p57, List.forall_mem_cons.mpr ⟨lw_p58, List.forall_mem_cons.mpr ⟨lw_p59, List.forall_mem_cons.mpr ⟨lw_p60, List.forall_mem_cons.mpr ⟨lw_p61, List.forall_mem_cons.mpr ⟨lw_p62, List.forall_mem_cons.mpr ⟨lw_p63, fun _ h => absurd h List.not_mem_nil⟩⟩⟩⟩⟩⟩⟩⟩⟩⟩⟩⟩⟩⟩⟩⟩
theorem lw_p64 : lw_okq (⟨"BreathOnLoanModel", "whole", "()V"⟩, 32) := ⟨⟨by decide +kernel, by decide +kernel⟩, lw_t5 (List.mem_of_getElem? (i := 66) rfl), lw_t6 (List.mem_of_getElem? (i := 63) rfl), lw_t6 (List.mem_of_getElem? (i := 64) rfl)⟩
theorem lw_p65 : lw_okq (⟨"BreathOnLoanModel", "beginOne", "(Z)I"⟩, 32) := ⟨⟨by decide +kernel, by decide +kernel⟩, lw_t5 (List.mem_of_getElem? (i := 66) rfl), lw_t6 (List.mem_of_getElem? (i := 67) rfl), lw_t6 (List.mem_of_getElem? (i := 68) rfl)⟩
theorem lw_p66 : lw_okq (⟨"BreathOnLoanModel", "nameOf", "()I"⟩, 32) := ⟨⟨by decide +kernel, by decide +kernel⟩, lw_t5 (List.mem_of_getElem? (i := 66) rfl), lw_t6 (List.mem_of_getElem? (i := 71) rfl), lw_t6 (List.mem_of_getElem? (i := 72) rfl)⟩
theorem lw_p67 : lw_okq (⟨"BreathOnLoanModel", "isQuarrels", "()Z"⟩, 32) := ⟨⟨by decide +kernel, by decide +kernel⟩, lw_t5 (List.mem_of_getElem? (i := 66) rfl), lw_t6 (List.mem_of_getElem? (i := 78) rfl), lw_t6 (List.mem_of_getElem? (i := 79) rfl)⟩
theorem lw_p68 : lw_okq (⟨"BreathOnLoanModel", "isOf", "(I)Z"⟩, 32) := ⟨⟨by decide +kernel, by decide +kernel⟩, lw_t5 (List.mem_of_getElem? (i := 66) rfl), lw_t6 (List.mem_of_getElem? (i := 82) rfl), lw_t6 (List.mem_of_getElem? (i := 83) rfl)⟩
theorem lw_p69 : lw_okq (⟨"BreathOnLoanModel", "opensBy", "(I)I"⟩, 32) := ⟨⟨by decide +kernel, by decide +kernel⟩, lw_t5 (List.mem_of_getElem? (i := 66) rfl), lw_t6 (List.mem_of_getElem? (i := 86) rfl), lw_t6 (List.mem_of_getElem? (i := 87) rfl)⟩
theorem lw_p70 : lw_okq (⟨"BreathOnLoanModel", "isAskAhead", "(Z)Z"⟩, 32) := ⟨⟨by decide +kernel, by decide +kernel⟩, lw_t5 (List.mem_of_getElem? (i := 66) rfl), lw_t6 (List.mem_of_getElem? (i := 91) rfl), lw_t6 (List.mem_of_getElem? (i := 92) rfl)⟩
theorem lw_p71 : lw_okq (⟨"BreathOnLoanModel", "line", "(II)I"⟩, 32) := ⟨⟨by decide +kernel, by decide +kernel⟩, lw_t5 (List.mem_of_getElem? (i := 66) rfl), lw_t6 (List.mem_of_getElem? (i := 95) rfl), lw_t6 (List.mem_of_getElem? (i := 96) rfl)⟩
theorem lw_p72 : lw_okq (⟨"BreathOnLoanModel", "figure", "(III)I"⟩, 32) := ⟨⟨by decide +kernel, by decide +kernel⟩, lw_t5 (List.mem_of_getElem? (i := 66) rfl), lw_t6 (List.mem_of_getElem? (i := 99) rfl), lw_t6 (List.mem_of_getElem? (i := 100) rfl)⟩
theorem lw_p73 : lw_okq (⟨"BreathOnLoanModel", "blown", "(I)I"⟩, 32) := ⟨⟨by decide +kernel, by decide +kernel⟩, lw_t5 (List.mem_of_getElem? (i := 66) rfl), lw_t6 (List.mem_of_getElem? (i := 103) rfl), lw_t6 (List.mem_of_getElem? (i := 104) rfl)⟩
theorem lw_p74 : lw_okq (⟨"BreathOnLoanModel", "smokeIn", "(I)I"⟩, 32) := ⟨⟨by decide +kernel, by decide +kernel⟩, lw_t5 (List.mem_of_getElem? (i := 66) rfl), lw_t6 (List.mem_of_getElem? (i := 123) rfl), lw_t6 (List.mem_of_getElem? (i := 124) rfl)⟩
theorem lw_p75 : lw_okq (⟨"BreathOnLoanModel", "sumOf", "(III)I"⟩, 32) := ⟨⟨by decide +kernel, by decide +kernel⟩, lw_t5 (List.mem_of_getElem? (i := 66) rfl), lw_t6 (List.mem_of_getElem? (i := 127) rfl), lw_t6 (List.mem_of_getElem? (i := 128) rfl)⟩
theorem lw_p76 : lw_okq (⟨"BreathOnLoanModel", "work", "(I)V"⟩, 32) := ⟨⟨by decide +kernel, by decide +kernel⟩, lw_t5 (List.mem_of_getElem? (i := 66) rfl), lw_t6 (List.mem_of_getElem? (i := 131) rfl), lw_t6 (List.mem_of_getElem? (i := 132) rfl)⟩
theorem lw_p77 : lw_okq (⟨"BreathOnLoanModel", "costOf", "(II)I"⟩, 32) := ⟨⟨by decide +kernel, by decide +kernel⟩, lw_t5 (List.mem_of_getElem? (i := 66) rfl), lw_t6 (List.mem_of_getElem? (i := 153) rfl), lw_t6 (List.mem_of_getElem? (i := 154) rfl)⟩
theorem lw_p78 : lw_okq (⟨"BreathOnLoanModel", "nameBlower", "(II)V"⟩, 32) := ⟨⟨by decide +kernel, by decide +kernel⟩, lw_t5 (List.mem_of_getElem? (i := 66) rfl), lw_t6 (List.mem_of_getElem? (i := 157) rfl), lw_t6 (List.mem_of_getElem? (i := 158) rfl)⟩
theorem lw_p79 : lw_okq (⟨"BreathOnLoanModel", "isKind", "(I)Z"⟩, 32) := ⟨⟨by decide +kernel, by decide +kernel⟩, lw_t5 (List.mem_of_getElem? (i := 66) rfl), lw_t6 (List.mem_of_getElem? (i := 169) rfl), lw_t6 (List.mem_of_getElem? (i := 170) rfl)⟩
def lw_privs_5 : List (MethodName × Nat) := [(⟨"BreathOnLoanModel", "whole", "()V"⟩, 32), (⟨"BreathOnLoanModel", "beginOne", "(Z)I"⟩, 32), (⟨"BreathOnLoanModel", "nameOf", "()I"⟩, 32), (⟨"BreathOnLoanModel", "isQuarrels", "()Z"⟩, 32), (⟨"BreathOnLoanModel", "isOf", "(I)Z"⟩, 32), (⟨"BreathOnLoanModel", "opensBy", "(I)I"⟩, 32), (⟨"BreathOnLoanModel", "isAskAhead", "(Z)Z"⟩, 32), (⟨"BreathOnLoanModel", "line", "(II)I"⟩, 32), (⟨"BreathOnLoanModel", "figure", "(III)I"⟩, 32), (⟨"BreathOnLoanModel", "blown", "(I)I"⟩, 32), (⟨"BreathOnLoanModel", "smokeIn", "(I)I"⟩, 32), (⟨"BreathOnLoanModel", "sumOf", "(III)I"⟩, 32), (⟨"BreathOnLoanModel", "work", "(I)V"⟩, 32), (⟨"BreathOnLoanModel", "costOf", "(II)I"⟩, 32), (⟨"BreathOnLoanModel", "nameBlower", "(II)V"⟩, 32), (⟨"BreathOnLoanModel", "isKind", "(I)Z"⟩, 32)]
theorem lw_r5 : ∀ q ∈ lw_privs_5, lw_okq q := List.forall_mem_cons.mpr ⟨lw_p64, List.forall_mem_cons.mpr ⟨lw_p65, List.forall_mem_cons.mpr ⟨lw_p66, List.forall_mem_cons.mpr ⟨lw_p67, List.forall_mem_cons.mpr ⟨lw_p68, List.forall_mem_cons.mpr ⟨lw_p69, List.forall_mem_cons.mpr ⟨lw_p70, List.forall_mem_cons.mpr ⟨lw_p71, List.forall_mem_cons.mpr ⟨lw_p72, List.forall_mem_cons.mpr ⟨lw_p73, List.forall_mem_cons.mpr ⟨lw_p74, List.forall_mem_cons.mpr ⟨lw_p75, List.forall_mem_cons.mpr ⟨lw_p76, List.forall_mem_cons.mpr ⟨lw_p77, List.forall_mem_cons.mpr ⟨lw_p78, List.forall_mem_cons.mpr ⟨lw_p79, fun _ h => absurd h List.not_mem_nil⟩⟩⟩⟩⟩⟩⟩⟩⟩⟩⟩⟩⟩⟩⟩⟩
theorem lw_p80 : lw_okq (⟨"BreathOnLoanModel", "keep", "()V"⟩, 32) := ⟨⟨by decide +kernel, by decide +kernel⟩, lw_t5 (List.mem_of_getElem? (i := 66) rfl), lw_t6 (List.mem_of_getElem? (i := 173) rfl), lw_t6 (List.mem_of_getElem? (i := 174) rfl)⟩
theorem lw_p81 : lw_okq (⟨"BreathOnLoanModel", "isPiece", "(I)Z"⟩, 32) := ⟨⟨by decide +kernel, by decide +kernel⟩, lw_t5 (List.mem_of_getElem? (i := 66) rfl), lw_t6 (List.mem_of_getElem? (i := 184) rfl), lw_t6 (List.mem_of_getElem? (i := 185) rfl)⟩
theorem lw_p82 : lw_okq (⟨"BreathOnLoanModel", "givenByAll", "()I"⟩, 32) := ⟨⟨by decide +kernel, by decide +kernel⟩, lw_t5 (List.mem_of_getElem? (i := 66) rfl), lw_t6 (List.mem_of_getElem? (i := 188) rfl), lw_t6 (List.mem_of_getElem? (i := 189) rfl)⟩
theorem lw_p83 : lw_okq (⟨"BreathOnLoanModel", "voicesOf", "(I)I"⟩, 32) := ⟨⟨by decide +kernel, by decide +kernel⟩, lw_t5 (List.mem_of_getElem? (i := 66) rfl), lw_t6 (List.mem_of_getElem? (i := 192) rfl), lw_t6 (List.mem_of_getElem? (i := 193) rfl)⟩
theorem lw_p84 : lw_okq (⟨"BreathOnLoanModel", "gave", "(II)I"⟩, 32) := ⟨⟨by decide +kernel, by decide +kernel⟩, lw_t5 (List.mem_of_getElem? (i := 66) rfl), lw_t6 (List.mem_of_getElem? (i := 196) rfl), lw_t6 (List.mem_of_getElem? (i := 197) rfl)⟩
theorem lw_p85 : lw_okq (⟨"BreathOnLoanModel", "shareOf", "(II)I"⟩, 32) := ⟨⟨by decide +kernel, by decide +kernel⟩, lw_t5 (List.mem_of_getElem? (i := 66) rfl), lw_t6 (List.mem_of_getElem? (i := 208) rfl), lw_t6 (List.mem_of_getElem? (i := 209) rfl)⟩
theorem lw_p86 : lw_okq (⟨"BreathOnLoanModel", "nameKind", "(I)V"⟩, 32) := ⟨⟨by decide +kernel, by decide +kernel⟩, lw_t5 (List.mem_of_getElem? (i := 66) rfl), lw_t6 (List.mem_of_getElem? (i := 212) rfl), lw_t6 (List.mem_of_getElem? (i := 213) rfl)⟩
theorem lw_p87 : lw_okq (⟨"BreathOnLoanModel", "isPlayed", "(I)Z"⟩, 32) := ⟨⟨by decide +kernel, by decide +kernel⟩, lw_t5 (List.mem_of_getElem? (i := 66) rfl), lw_t6 (List.mem_of_getElem? (i := 220) rfl), lw_t6 (List.mem_of_getElem? (i := 221) rfl)⟩
theorem lw_p88 : lw_okq (⟨"BreathOnLoanModel", "brittleOf", "(I)I"⟩, 32) := ⟨⟨by decide +kernel, by decide +kernel⟩, lw_t5 (List.mem_of_getElem? (i := 66) rfl), lw_t7 (List.mem_of_getElem? (i := 7) rfl), lw_t7 (List.mem_of_getElem? (i := 8) rfl)⟩
theorem lw_p89 : lw_okq (⟨"BreathOnLoanModel", "reckon", "(IIII)V"⟩, 32) := ⟨⟨by decide +kernel, by decide +kernel⟩, lw_t5 (List.mem_of_getElem? (i := 66) rfl), lw_t7 (List.mem_of_getElem? (i := 23) rfl), lw_t7 (List.mem_of_getElem? (i := 24) rfl)⟩
theorem lw_p90 : lw_okq (⟨"BreathOnLoanModel", "by", "(IIIII)I"⟩, 32) := ⟨⟨by decide +kernel, by decide +kernel⟩, lw_t5 (List.mem_of_getElem? (i := 66) rfl), lw_t7 (List.mem_of_getElem? (i := 27) rfl), lw_t7 (List.mem_of_getElem? (i := 28) rfl)⟩
theorem lw_p91 : lw_okq (⟨"BreathOnLoanModel", "isTeam", "(I)Z"⟩, 32) := ⟨⟨by decide +kernel, by decide +kernel⟩, lw_t5 (List.mem_of_getElem? (i := 66) rfl), lw_t7 (List.mem_of_getElem? (i := 31) rfl), lw_t7 (List.mem_of_getElem? (i := 32) rfl)⟩
theorem lw_p92 : lw_okq (⟨"BreathOnLoanModel", "isDone", "(IIII)Z"⟩, 32) := ⟨⟨by decide +kernel, by decide +kernel⟩, lw_t5 (List.mem_of_getElem? (i := 66) rfl), lw_t7 (List.mem_of_getElem? (i := 35) rfl), lw_t7 (List.mem_of_getElem? (i := 36) rfl)⟩
theorem lw_p93 : lw_okq (⟨"BreathOnLoanModel", "workOf", "(III)I"⟩, 32) := ⟨⟨by decide +kernel, by decide +kernel⟩, lw_t5 (List.mem_of_getElem? (i := 66) rfl), lw_t7 (List.mem_of_getElem? (i := 40) rfl), lw_t7 (List.mem_of_getElem? (i := 41) rfl)⟩
theorem lw_p94 : lw_okq (⟨"BreathOnLoanModel", "canBe", "(I)Z"⟩, 32) := ⟨⟨by decide +kernel, by decide +kernel⟩, lw_t5 (List.mem_of_getElem? (i := 66) rfl), lw_t7 (List.mem_of_getElem? (i := 52) rfl), lw_t7 (List.mem_of_getElem? (i := 53) rfl)⟩
def lw_privs_6 : List (MethodName × Nat) := [(⟨"BreathOnLoanModel", "keep", "()V"⟩, 32), (⟨"BreathOnLoanModel", "isPiece", "(I)Z"⟩, 32), (⟨"BreathOnLoanModel", "givenByAll", "()I"⟩, 32), (⟨"BreathOnLoanModel", "voicesOf", "(I)I"⟩, 32), (⟨"BreathOnLoanModel", "gave", "(II)I"⟩, 32), (⟨"BreathOnLoanModel", "shareOf", "(II)I"⟩, 32), (⟨"BreathOnLoanModel", "nameKind", "(I)V"⟩, 32), (⟨"BreathOnLoanModel", "isPlayed", "(I)Z"⟩, 32), (⟨"BreathOnLoanModel", "brittleOf", "(I)I"⟩, 32), (⟨"BreathOnLoanModel", "reckon", "(IIII)V"⟩, 32), (⟨"BreathOnLoanModel", "by", "(IIIII)I"⟩, 32), (⟨"BreathOnLoanModel", "isTeam", "(I)Z"⟩, 32), (⟨"BreathOnLoanModel", "isDone", "(IIII)Z"⟩, 32), (⟨"BreathOnLoanModel", "workOf", "(III)I"⟩, 32), (⟨"BreathOnLoanModel", "canBe", "(I)Z"⟩, 32)]
theorem lw_r6 : ∀ q ∈ lw_privs_6, lw_okq q := List.forall_mem_cons.mpr ⟨lw_p80, List.forall_mem_cons.mpr ⟨lw_p81, List.forall_mem_cons.mpr ⟨lw_p82, List.forall_mem_cons.mpr ⟨lw_p83, List.forall_mem_cons.mpr ⟨lw_p84, List.forall_mem_cons.mpr ⟨lw_p85, List.forall_mem_cons.mpr ⟨lw_p86, List.forall_mem_cons.mpr ⟨lw_p87, List.forall_mem_cons.mpr ⟨lw_p88, List.forall_mem_cons.mpr ⟨lw_p89, List.forall_mem_cons.mpr ⟨lw_p90, List.forall_mem_cons.mpr ⟨lw_p91, List.forall_mem_cons.mpr ⟨lw_p92, List.forall_mem_cons.mpr ⟨lw_p93, List.forall_mem_cons.mpr ⟨lw_p94, fun _ h => absurd h List.not_mem_nil⟩⟩⟩⟩⟩⟩⟩⟩⟩⟩⟩⟩⟩⟩⟩
def lw_privs : List (MethodName × Nat) := lw_privs_1 ++ (lw_privs_2 ++ (lw_privs_3 ++ (lw_privs_4 ++ (lw_privs_5 ++ (lw_privs_6)))))
def lw_tbl : List Cond := k2_sels lw_privs ++ tables_1
theorem lw_privs_ok : ∀ q ∈ lw_privs, lw_okq q := by
  show ∀ q ∈ lw_privs_1 ++ (lw_privs_2 ++ (lw_privs_3 ++ (lw_privs_4 ++ (lw_privs_5 ++ (lw_privs_6))))), lw_okq q
  exact List.forall_mem_append.mpr ⟨lw_r1, List.forall_mem_append.mpr ⟨lw_r2, List.forall_mem_append.mpr ⟨lw_r3, List.forall_mem_append.mpr ⟨lw_r4, List.forall_mem_append.mpr ⟨lw_r5, lw_r6⟩⟩⟩⟩⟩
-- ===== ONE list of words for every method: the tables' words that hold all through a run =====
def lw_all : List Cond := lw_tbl.filter goodWord
/-- a word of the tables by its place: claim/WORDS.tsv -/
theorem lw_w {w : Cond} (i : Nat) (h : lw_tbl[i]? = some w) (g : goodWord w = true) : w ∈ lw_all := List.mem_filter.mpr ⟨List.mem_of_getElem? h, g⟩
theorem lw_all_tbl {w : Cond} (h : w ∈ lw_all) : w ∈ lw_tbl := (List.mem_filter.mp h).1
theorem lw_self : GoodIn lw_all lw_all := fun w h => ⟨h, good_of_word (List.mem_filter.mp h).2⟩
/-- a class's field words, by their places -/
theorem lw_in (ws : List Cond) (ps : List Nat) (hp : ws = ps.filterMap (fun i => lw_tbl[i]?)) (hg : ws.all goodWord = true) : ∀ w ∈ ws, w ∈ lw_all := by
  intro w h
  have h1 := List.all_eq_true.mp hg w h
  rw [hp] at h
  obtain ⟨i, -, hi⟩ := List.mem_filterMap.mp h
  exact lw_w i hi h1
/-- the words of a contract for the method y with code b, L locals, answer r -/
abbrev ws_ (y : MethodName) (b : ByteArray) (L : Nat) (r : Option FieldType) : List Cond := Cond.code y b L r :: lw_all
theorem lw_meth {y : MethodName} {b : ByteArray} {L : Nat} {r : Option FieldType} (h : Cond.code y b L r ∈ lw_all) : GoodIn lw_all (ws_ y b L r) := by
  intro w hw
  rcases List.mem_cons.mp hw with e | e
  · rw [e]
    exact lw_self _ h
  · exact lw_self _ e
theorem lw_app {a c : List Cond} (ha : ∀ w ∈ a, w ∈ lw_all) (hc : GoodIn lw_all c) : GoodIn lw_all (a ++ c) := by
  intro w hw
  rcases List.mem_append.mp hw with e | e
  · exact lw_self w (ha w e)
  · exact hc w e
/-- what a call through an object asks: cwV n hts (lw_V ..) -/
theorem lw_V {own : String} {idx : Nat} {C : String} {y : MethodName} {b : ByteArray} {L : Nat} {r : Option FieldType} (h1 : Cond.methodLink own idx y ∈ lw_all) (h2 : Cond.instanceMethod y ∈ lw_all) (h3 : Cond.selects C y y ∈ lw_all) (h4 : Cond.initialized C ∈ lw_all) (h5 : Cond.code y b L r ∈ lw_all) : GoodIn lw_all (wsV own idx C y (ws_ y b L r)) := by
  refine lw_app ?_ (lw_meth h5)
  intro w hw
  simp only [List.mem_cons, List.not_mem_nil, or_false] at hw
  rcases hw with e | e | e | e
  · rw [e]; exact h1
  · rw [e]; exact h2
  · rw [e]; exact h3
  · rw [e]; exact h4
/-- what a static call asks: va_cwS n hts (lw_S ..) -/
theorem lw_S {own : String} {idx : Nat} {y : MethodName} {b : ByteArray} {L : Nat} {r : Option FieldType} (h1 : Cond.methodLink own idx y ∈ lw_all) (h2 : Cond.static y ∈ lw_all) (h3 : Cond.initialized y.cls ∈ lw_all) (h4 : Cond.code y b L r ∈ lw_all) : GoodIn lw_all (va_wsS own idx y (ws_ y b L r)) := by
  refine lw_app ?_ (lw_meth h4)
  intro w hw
  simp only [List.mem_cons, List.not_mem_nil, or_false] at hw
  rcases hw with e | e | e
  · rw [e]; exact h1
  · rw [e]; exact h2
  · rw [e]; exact h3
/-- the words of a contract for a method WITH HANDLERS (hh: its table) -/
abbrev wsW_ (y : MethodName) (b : ByteArray) (L : Nat) (r : Option FieldType) (hh : List (Nat × Nat × Nat × Nat)) : List Cond := Cond.codeWith y b L r hh :: lw_all
theorem lw_methW {y : MethodName} {b : ByteArray} {L : Nat} {r : Option FieldType} {hh : List (Nat × Nat × Nat × Nat)} (h : Cond.codeWith y b L r hh ∈ lw_all) : GoodIn lw_all (wsW_ y b L r hh) := by
  intro w hw
  rcases List.mem_cons.mp hw with e | e
  · rw [e]
    exact lw_self _ h
  · exact lw_self _ e
/-- any list of words by their places (lw_in), good -/
theorem lw_good {ws : List Cond} (h : ∀ w ∈ ws, w ∈ lw_all) : GoodIn lw_all ws := fun w hw => lw_self w (h w hw)
/-- what a call of a method with handlers asks: vx_cwVW n hts (lw_VW ..), vx_cwSW n hts (lw_SW ..) -/
theorem lw_VW {own : String} {idx : Nat} {C : String} {y : MethodName} {b : ByteArray} {L : Nat} {r : Option FieldType} {hh : List (Nat × Nat × Nat × Nat)} (h1 : Cond.methodLink own idx y ∈ lw_all) (h2 : Cond.instanceMethod y ∈ lw_all) (h3 : Cond.selects C y y ∈ lw_all) (h4 : Cond.initialized C ∈ lw_all) (h5 : Cond.codeWith y b L r hh ∈ lw_all) : GoodIn lw_all (wsV own idx C y (wsW_ y b L r hh)) := by
  refine lw_app ?_ (lw_methW h5)
  intro w hw
  simp only [List.mem_cons, List.not_mem_nil, or_false] at hw
  rcases hw with e | e | e | e
  · rw [e]; exact h1
  · rw [e]; exact h2
  · rw [e]; exact h3
  · rw [e]; exact h4
theorem lw_SW {own : String} {idx : Nat} {y : MethodName} {b : ByteArray} {L : Nat} {r : Option FieldType} {hh : List (Nat × Nat × Nat × Nat)} (h1 : Cond.methodLink own idx y ∈ lw_all) (h2 : Cond.static y ∈ lw_all) (h3 : Cond.initialized y.cls ∈ lw_all) (h4 : Cond.codeWith y b L r hh ∈ lw_all) : GoodIn lw_all (va_wsS own idx y (wsW_ y b L r hh)) := by
  refine lw_app ?_ (lw_methW h4)
  intro w hw
  simp only [List.mem_cons, List.not_mem_nil, or_false] at hw
  rcases hw with e | e | e
  · rw [e]; exact h1
  · rw [e]; exact h2
  · rw [e]; exact h3
/-- a word by its place in its run of the tables -/
theorem lw_at {r : List Cond} (hr : ∀ w ∈ r, w ∈ lw_tbl) {w : Cond} (i : Nat) (h : r[i]? = some w) : w ∈ lw_tbl := hr w (List.mem_of_getElem? h)
theorem lw_g {w : Cond} (h : w ∈ lw_tbl) (g : goodWord w = true) : w ∈ lw_all := List.mem_filter.mpr ⟨h, g⟩
theorem lw_ms : ∀ w ∈ k2_sels lw_privs, w ∈ lw_tbl := fun w h => show w ∈ k2_sels lw_privs ++ tables_1 from List.mem_append_left _ h
theorem lw_m1 : ∀ w ∈ tables_1_1, w ∈ lw_tbl := fun w h => show w ∈ k2_sels lw_privs ++ tables_1 from List.mem_append_right (k2_sels lw_privs) (show w ∈ tables_1 from List.mem_append_left _ h)
theorem lw_m2 : ∀ w ∈ tables_1_2, w ∈ lw_tbl := fun w h => show w ∈ k2_sels lw_privs ++ tables_1 from List.mem_append_right (k2_sels lw_privs) (show w ∈ tables_1 from List.mem_append_right _ (List.mem_append_left _ h))
theorem lw_m3 : ∀ w ∈ tables_1_3, w ∈ lw_tbl := fun w h => show w ∈ k2_sels lw_privs ++ tables_1 from List.mem_append_right (k2_sels lw_privs) (show w ∈ tables_1 from List.mem_append_right _ (List.mem_append_right _ (List.mem_append_left _ h)))
theorem lw_m4 : ∀ w ∈ tables_1_4, w ∈ lw_tbl := fun w h => show w ∈ k2_sels lw_privs ++ tables_1 from List.mem_append_right (k2_sels lw_privs) (show w ∈ tables_1 from List.mem_append_right _ (List.mem_append_right _ (List.mem_append_right _ (List.mem_append_left _ h))))
theorem lw_m5 : ∀ w ∈ tables_1_5, w ∈ lw_tbl := fun w h => show w ∈ k2_sels lw_privs ++ tables_1 from List.mem_append_right (k2_sels lw_privs) (show w ∈ tables_1 from List.mem_append_right _ (List.mem_append_right _ (List.mem_append_right _ (List.mem_append_right _ (List.mem_append_left _ h)))))
theorem lw_m6 : ∀ w ∈ tables_1_6, w ∈ lw_tbl := fun w h => show w ∈ k2_sels lw_privs ++ tables_1 from List.mem_append_right (k2_sels lw_privs) (show w ∈ tables_1 from List.mem_append_right _ (List.mem_append_right _ (List.mem_append_right _ (List.mem_append_right _ (List.mem_append_right _ (List.mem_append_left _ h))))))
theorem lw_m7 : ∀ w ∈ tables_1_7, w ∈ lw_tbl := fun w h => show w ∈ k2_sels lw_privs ++ tables_1 from List.mem_append_right (k2_sels lw_privs) (show w ∈ tables_1 from List.mem_append_right _ (List.mem_append_right _ (List.mem_append_right _ (List.mem_append_right _ (List.mem_append_right _ (List.mem_append_right _ h))))))
theorem qs0 : (Cond.selects "BreathOnLoan" ⟨"BreathOnLoan", "isBlower", "(I)Z"⟩ ⟨"BreathOnLoan", "isBlower", "(I)Z"⟩) ∈ lw_all := lw_g (lw_at lw_ms 0 rfl) rfl
theorem qs1 : (Cond.selects "BreathOnLoan" ⟨"BreathOnLoan", "quarrels", "(IIZ)V"⟩ ⟨"BreathOnLoan", "quarrels", "(IIZ)V"⟩) ∈ lw_all := lw_g (lw_at lw_ms 1 rfl) rfl
theorem qs2 : (Cond.selects "BreathOnLoan" ⟨"BreathOnLoan", "put", "(I)V"⟩ ⟨"BreathOnLoan", "put", "(I)V"⟩) ∈ lw_all := lw_g (lw_at lw_ms 2 rfl) rfl
theorem qs3 : (Cond.selects "BreathOnLoan$Tokens" ⟨"BreathOnLoan$Tokens", "next", "()V"⟩ ⟨"BreathOnLoan$Tokens", "next", "()V"⟩) ∈ lw_all := lw_g (lw_at lw_ms 3 rfl) rfl
theorem qs4 : (Cond.selects "BreathOnLoan$Tokens" ⟨"BreathOnLoan$Tokens", "isWord", "(Ljava/lang/String;)Z"⟩ ⟨"BreathOnLoan$Tokens", "isWord", "(Ljava/lang/String;)Z"⟩) ∈ lw_all := lw_g (lw_at lw_ms 4 rfl) rfl
theorem qs5 : (Cond.selects "BreathOnLoan$Tokens" ⟨"BreathOnLoan$Tokens", "wrong", "(I)LBreathOnLoan$Wrong;"⟩ ⟨"BreathOnLoan$Tokens", "wrong", "(I)LBreathOnLoan$Wrong;"⟩) ∈ lw_all := lw_g (lw_at lw_ms 5 rfl) rfl
theorem qs6 : (Cond.selects "java/lang/Throwable" ⟨"java/lang/Throwable", "fillInStackTrace", "(I)Ljava/lang/Throwable;"⟩ ⟨"java/lang/Throwable", "fillInStackTrace", "(I)Ljava/lang/Throwable;"⟩) ∈ lw_all := lw_g (lw_at lw_ms 6 rfl) rfl
theorem qs7 : (Cond.selects "BreathOnLoan$Tokens" ⟨"BreathOnLoan$Tokens", "doing", "(I)LBreathOnLoan$Doing;"⟩ ⟨"BreathOnLoan$Tokens", "doing", "(I)LBreathOnLoan$Doing;"⟩) ∈ lw_all := lw_g (lw_at lw_ms 7 rfl) rfl
theorem qs8 : (Cond.selects "BreathOnLoan$Tokens" ⟨"BreathOnLoan$Tokens", "number", "(II)I"⟩ ⟨"BreathOnLoan$Tokens", "number", "(II)I"⟩) ∈ lw_all := lw_g (lw_at lw_ms 8 rfl) rfl
theorem qs9 : (Cond.selects "BreathOnLoan$Tokens" ⟨"BreathOnLoan$Tokens", "want", "(I)V"⟩ ⟨"BreathOnLoan$Tokens", "want", "(I)V"⟩) ∈ lw_all := lw_g (lw_at lw_ms 9 rfl) rfl
theorem qs10 : (Cond.selects "java/util/ArrayList" ⟨"java/util/ArrayList", "add", "(Ljava/lang/Object;[Ljava/lang/Object;I)V"⟩ ⟨"java/util/ArrayList", "add", "(Ljava/lang/Object;[Ljava/lang/Object;I)V"⟩) ∈ lw_all := lw_g (lw_at lw_ms 10 rfl) rfl
theorem qs11 : (Cond.selects "java/util/ArrayList" ⟨"java/util/ArrayList", "grow", "()[Ljava/lang/Object;"⟩ ⟨"java/util/ArrayList", "grow", "()[Ljava/lang/Object;"⟩) ∈ lw_all := lw_g (lw_at lw_ms 11 rfl) rfl
theorem qs12 : (Cond.selects "java/util/ArrayList" ⟨"java/util/ArrayList", "grow", "(I)[Ljava/lang/Object;"⟩ ⟨"java/util/ArrayList", "grow", "(I)[Ljava/lang/Object;"⟩) ∈ lw_all := lw_g (lw_at lw_ms 12 rfl) rfl
theorem qs13 : (Cond.selects "BreathOnLoan$Tokens" ⟨"BreathOnLoan$Tokens", "sum", "()LBreathOnLoan$Sum;"⟩ ⟨"BreathOnLoan$Tokens", "sum", "()LBreathOnLoan$Sum;"⟩) ∈ lw_all := lw_g (lw_at lw_ms 13 rfl) rfl
theorem qs14 : (Cond.selects "BreathOnLoan$Tokens" ⟨"BreathOnLoan$Tokens", "product", "()LBreathOnLoan$Sum;"⟩ ⟨"BreathOnLoan$Tokens", "product", "()LBreathOnLoan$Sum;"⟩) ∈ lw_all := lw_g (lw_at lw_ms 14 rfl) rfl
theorem qs15 : (Cond.selects "BreathOnLoan$Tokens" ⟨"BreathOnLoan$Tokens", "one", "()LBreathOnLoan$Sum;"⟩ ⟨"BreathOnLoan$Tokens", "one", "()LBreathOnLoan$Sum;"⟩) ∈ lw_all := lw_g (lw_at lw_ms 15 rfl) rfl
theorem qs16 : (Cond.selects "BreathOnLoan$Tokens" ⟨"BreathOnLoan$Tokens", "choice", "()LBreathOnLoan$Sum;"⟩ ⟨"BreathOnLoan$Tokens", "choice", "()LBreathOnLoan$Sum;"⟩) ∈ lw_all := lw_g (lw_at lw_ms 16 rfl) rfl
theorem qs17 : (Cond.selects "BreathOnLoan$Tokens" ⟨"BreathOnLoan$Tokens", "opens", "()V"⟩ ⟨"BreathOnLoan$Tokens", "opens", "()V"⟩) ∈ lw_all := lw_g (lw_at lw_ms 17 rfl) rfl
theorem qs18 : (Cond.selects "BreathOnLoan$Tokens" ⟨"BreathOnLoan$Tokens", "either", "()LBreathOnLoan$Asked;"⟩ ⟨"BreathOnLoan$Tokens", "either", "()LBreathOnLoan$Asked;"⟩) ∈ lw_all := lw_g (lw_at lw_ms 18 rfl) rfl
theorem qs19 : (Cond.selects "BreathOnLoan$Tokens" ⟨"BreathOnLoan$Tokens", "both", "()LBreathOnLoan$Asked;"⟩ ⟨"BreathOnLoan$Tokens", "both", "()LBreathOnLoan$Asked;"⟩) ∈ lw_all := lw_g (lw_at lw_ms 19 rfl) rfl
theorem qs20 : (Cond.selects "BreathOnLoan$Tokens" ⟨"BreathOnLoan$Tokens", "ask", "()LBreathOnLoan$Asked;"⟩ ⟨"BreathOnLoan$Tokens", "ask", "()LBreathOnLoan$Asked;"⟩) ∈ lw_all := lw_g (lw_at lw_ms 20 rfl) rfl
theorem qs21 : (Cond.selects "BreathOnLoan" ⟨"BreathOnLoan", "isText", "(I)Z"⟩ ⟨"BreathOnLoan", "isText", "(I)Z"⟩) ∈ lw_all := lw_g (lw_at lw_ms 21 rfl) rfl
theorem qs22 : (Cond.selects "BreathOnLoan" ⟨"BreathOnLoan", "smokeIn", "(I)I"⟩ ⟨"BreathOnLoan", "smokeIn", "(I)I"⟩) ∈ lw_all := lw_g (lw_at lw_ms 22 rfl) rfl
theorem qs23 : (Cond.selects "BreathOnLoan" ⟨"BreathOnLoan", "asks", "(III)I"⟩ ⟨"BreathOnLoan", "asks", "(III)I"⟩) ∈ lw_all := lw_g (lw_at lw_ms 23 rfl) rfl
theorem qs24 : (Cond.selects "BreathOnLoan" ⟨"BreathOnLoan", "costOf", "(II)I"⟩ ⟨"BreathOnLoan", "costOf", "(II)I"⟩) ∈ lw_all := lw_g (lw_at lw_ms 24 rfl) rfl
theorem qs25 : (Cond.selects "BreathOnLoan" ⟨"BreathOnLoan", "namesBlower", "(I)V"⟩ ⟨"BreathOnLoan", "namesBlower", "(I)V"⟩) ∈ lw_all := lw_g (lw_at lw_ms 25 rfl) rfl
theorem qs26 : (Cond.selects "BreathOnLoan" ⟨"BreathOnLoan", "isKind", "(I)Z"⟩ ⟨"BreathOnLoan", "isKind", "(I)Z"⟩) ∈ lw_all := lw_g (lw_at lw_ms 26 rfl) rfl
theorem qs27 : (Cond.selects "BreathOnLoan" ⟨"BreathOnLoan", "canBlow", "(III)Z"⟩ ⟨"BreathOnLoan", "canBlow", "(III)Z"⟩) ∈ lw_all := lw_g (lw_at lw_ms 27 rfl) rfl
theorem qs28 : (Cond.selects "BreathOnLoan" ⟨"BreathOnLoan", "isPiece", "(I)Z"⟩ ⟨"BreathOnLoan", "isPiece", "(I)Z"⟩) ∈ lw_all := lw_g (lw_at lw_ms 28 rfl) rfl
theorem qs29 : (Cond.selects "BreathOnLoan" ⟨"BreathOnLoan", "ofPiece", "(II)I"⟩ ⟨"BreathOnLoan", "ofPiece", "(II)I"⟩) ∈ lw_all := lw_g (lw_at lw_ms 29 rfl) rfl
theorem qs30 : (Cond.selects "BreathOnLoan" ⟨"BreathOnLoan", "givenNow", "()I"⟩ ⟨"BreathOnLoan", "givenNow", "()I"⟩) ∈ lw_all := lw_g (lw_at lw_ms 30 rfl) rfl
theorem qs31 : (Cond.selects "BreathOnLoan" ⟨"BreathOnLoan", "hour", "()I"⟩ ⟨"BreathOnLoan", "hour", "()I"⟩) ∈ lw_all := lw_g (lw_at lw_ms 31 rfl) rfl
theorem qs32 : (Cond.selects "BreathOnLoan" ⟨"BreathOnLoan", "stateOf", "(I)I"⟩ ⟨"BreathOnLoan", "stateOf", "(I)I"⟩) ∈ lw_all := lw_g (lw_at lw_ms 32 rfl) rfl
theorem qs33 : (Cond.selects "BreathOnLoan" ⟨"BreathOnLoan", "voicesOf", "(I)I"⟩ ⟨"BreathOnLoan", "voicesOf", "(I)I"⟩) ∈ lw_all := lw_g (lw_at lw_ms 33 rfl) rfl
theorem qs34 : (Cond.selects "BreathOnLoan" ⟨"BreathOnLoan", "namesKind", "(I)V"⟩ ⟨"BreathOnLoan", "namesKind", "(I)V"⟩) ∈ lw_all := lw_g (lw_at lw_ms 34 rfl) rfl
theorem qs35 : (Cond.selects "BreathOnLoan" ⟨"BreathOnLoan", "brittleOf", "(I)I"⟩ ⟨"BreathOnLoan", "brittleOf", "(I)I"⟩) ∈ lw_all := lw_g (lw_at lw_ms 35 rfl) rfl
theorem qs36 : (Cond.selects "BreathOnLoan" ⟨"BreathOnLoan", "laysPlan", "()V"⟩ ⟨"BreathOnLoan", "laysPlan", "()V"⟩) ∈ lw_all := lw_g (lw_at lw_ms 36 rfl) rfl
theorem qs37 : (Cond.selects "BreathOnLoan" ⟨"BreathOnLoan", "isTeam", "(I)Z"⟩ ⟨"BreathOnLoan", "isTeam", "(I)Z"⟩) ∈ lw_all := lw_g (lw_at lw_ms 37 rfl) rfl
theorem qs38 : (Cond.selects "BreathOnLoan" ⟨"BreathOnLoan", "laysWork", "(III)V"⟩ ⟨"BreathOnLoan", "laysWork", "(III)V"⟩) ∈ lw_all := lw_g (lw_at lw_ms 38 rfl) rfl
theorem qs39 : (Cond.selects "BreathOnLoan" ⟨"BreathOnLoan", "isMore", "(IIIIZ)Z"⟩ ⟨"BreathOnLoan", "isMore", "(IIIIZ)Z"⟩) ∈ lw_all := lw_g (lw_at lw_ms 39 rfl) rfl
theorem qs40 : (Cond.selects "BreathOnLoan" ⟨"BreathOnLoan", "goesPlan", "()I"⟩ ⟨"BreathOnLoan", "goesPlan", "()I"⟩) ∈ lw_all := lw_g (lw_at lw_ms 40 rfl) rfl
theorem qs41 : (Cond.selects "BreathOnLoan" ⟨"BreathOnLoan", "canBe", "(I)Z"⟩ ⟨"BreathOnLoan", "canBe", "(I)Z"⟩) ∈ lw_all := lw_g (lw_at lw_ms 41 rfl) rfl
theorem qs42 : (Cond.selects "BreathOnLoan" ⟨"BreathOnLoan", "isFalse", "([I)Z"⟩ ⟨"BreathOnLoan", "isFalse", "([I)Z"⟩) ∈ lw_all := lw_g (lw_at lw_ms 42 rfl) rfl
theorem qs43 : (Cond.selects "BreathOnLoanModel" ⟨"BreathOnLoanModel", "set", "(III)V"⟩ ⟨"BreathOnLoanModel", "set", "(III)V"⟩) ∈ lw_all := lw_g (lw_at lw_ms 43 rfl) rfl
theorem qs44 : (Cond.selects "BreathOnLoanModel" ⟨"BreathOnLoanModel", "isBlower", "(I)Z"⟩ ⟨"BreathOnLoanModel", "isBlower", "(I)Z"⟩) ∈ lw_all := lw_g (lw_at lw_ms 44 rfl) rfl
theorem qs45 : (Cond.selects "BreathOnLoanModel" ⟨"BreathOnLoanModel", "part", "(IIZ)V"⟩ ⟨"BreathOnLoanModel", "part", "(IIZ)V"⟩) ∈ lw_all := lw_g (lw_at lw_ms 45 rfl) rfl
theorem qs46 : (Cond.selects "BreathOnLoanModel" ⟨"BreathOnLoanModel", "get", "(II)I"⟩ ⟨"BreathOnLoanModel", "get", "(II)I"⟩) ∈ lw_all := lw_g (lw_at lw_ms 46 rfl) rfl
theorem qs47 : (Cond.selects "BreathOnLoanModel" ⟨"BreathOnLoanModel", "four", "(I)V"⟩ ⟨"BreathOnLoanModel", "four", "(I)V"⟩) ∈ lw_all := lw_g (lw_at lw_ms 47 rfl) rfl
theorem qs48 : (Cond.selects "BreathOnLoanModel" ⟨"BreathOnLoanModel", "readText", "()I"⟩ ⟨"BreathOnLoanModel", "readText", "()I"⟩) ∈ lw_all := lw_g (lw_at lw_ms 48 rfl) rfl
theorem qs49 : (Cond.selects "BreathOnLoanModel" ⟨"BreathOnLoanModel", "nextToken", "()V"⟩ ⟨"BreathOnLoanModel", "nextToken", "()V"⟩) ∈ lw_all := lw_g (lw_at lw_ms 49 rfl) rfl
theorem qs50 : (Cond.selects "BreathOnLoanModel" ⟨"BreathOnLoanModel", "byteAt", "(I)I"⟩ ⟨"BreathOnLoanModel", "byteAt", "(I)I"⟩) ∈ lw_all := lw_g (lw_at lw_ms 50 rfl) rfl
theorem qs51 : (Cond.selects "BreathOnLoanModel" ⟨"BreathOnLoanModel", "clause", "()I"⟩ ⟨"BreathOnLoanModel", "clause", "()I"⟩) ∈ lw_all := lw_g (lw_at lw_ms 51 rfl) rfl
theorem qs52 : (Cond.selects "BreathOnLoanModel" ⟨"BreathOnLoanModel", "sortOf", "()I"⟩ ⟨"BreathOnLoanModel", "sortOf", "()I"⟩) ∈ lw_all := lw_g (lw_at lw_ms 52 rfl) rfl
theorem qs53 : (Cond.selects "BreathOnLoanModel" ⟨"BreathOnLoanModel", "isWord", "(J)Z"⟩ ⟨"BreathOnLoanModel", "isWord", "(J)Z"⟩) ∈ lw_all := lw_g (lw_at lw_ms 53 rfl) rfl
theorem qs54 : (Cond.selects "BreathOnLoanModel" ⟨"BreathOnLoanModel", "parsed", "(Z)I"⟩ ⟨"BreathOnLoanModel", "parsed", "(Z)I"⟩) ∈ lw_all := lw_g (lw_at lw_ms 54 rfl) rfl
theorem qs55 : (Cond.selects "BreathOnLoanModel" ⟨"BreathOnLoanModel", "behindOne", "(Z)Z"⟩ ⟨"BreathOnLoanModel", "behindOne", "(Z)Z"⟩) ∈ lw_all := lw_g (lw_at lw_ms 55 rfl) rfl
theorem qs56 : (Cond.selects "BreathOnLoanModel" ⟨"BreathOnLoanModel", "betweenOf", "(Z)I"⟩ ⟨"BreathOnLoanModel", "betweenOf", "(Z)I"⟩) ∈ lw_all := lw_g (lw_at lw_ms 56 rfl) rfl
theorem qs57 : (Cond.selects "BreathOnLoanModel" ⟨"BreathOnLoanModel", "kindOpen", "(Z)I"⟩ ⟨"BreathOnLoanModel", "kindOpen", "(Z)I"⟩) ∈ lw_all := lw_g (lw_at lw_ms 57 rfl) rfl
theorem qs58 : (Cond.selects "BreathOnLoanModel" ⟨"BreathOnLoanModel", "marker", "()I"⟩ ⟨"BreathOnLoanModel", "marker", "()I"⟩) ∈ lw_all := lw_g (lw_at lw_ms 58 rfl) rfl
theorem qs59 : (Cond.selects "BreathOnLoanModel" ⟨"BreathOnLoanModel", "isCompared", "()Z"⟩ ⟨"BreathOnLoanModel", "isCompared", "()Z"⟩) ∈ lw_all := lw_g (lw_at lw_ms 59 rfl) rfl
theorem qs60 : (Cond.selects "BreathOnLoanModel" ⟨"BreathOnLoanModel", "compareOf", "()I"⟩ ⟨"BreathOnLoanModel", "compareOf", "()I"⟩) ∈ lw_all := lw_g (lw_at lw_ms 60 rfl) rfl
theorem qs61 : (Cond.selects "BreathOnLoanModel" ⟨"BreathOnLoanModel", "settle", "(I)V"⟩ ⟨"BreathOnLoanModel", "settle", "(I)V"⟩) ∈ lw_all := lw_g (lw_at lw_ms 61 rfl) rfl
theorem qs62 : (Cond.selects "BreathOnLoanModel" ⟨"BreathOnLoanModel", "emit", "(II)V"⟩ ⟨"BreathOnLoanModel", "emit", "(II)V"⟩) ∈ lw_all := lw_g (lw_at lw_ms 62 rfl) rfl
theorem qs63 : (Cond.selects "BreathOnLoanModel" ⟨"BreathOnLoanModel", "push", "(I)V"⟩ ⟨"BreathOnLoanModel", "push", "(I)V"⟩) ∈ lw_all := lw_g (lw_at lw_ms 63 rfl) rfl
theorem qs64 : (Cond.selects "BreathOnLoanModel" ⟨"BreathOnLoanModel", "whole", "()V"⟩ ⟨"BreathOnLoanModel", "whole", "()V"⟩) ∈ lw_all := lw_g (lw_at lw_ms 64 rfl) rfl
theorem qs65 : (Cond.selects "BreathOnLoanModel" ⟨"BreathOnLoanModel", "beginOne", "(Z)I"⟩ ⟨"BreathOnLoanModel", "beginOne", "(Z)I"⟩) ∈ lw_all := lw_g (lw_at lw_ms 65 rfl) rfl
theorem qs66 : (Cond.selects "BreathOnLoanModel" ⟨"BreathOnLoanModel", "nameOf", "()I"⟩ ⟨"BreathOnLoanModel", "nameOf", "()I"⟩) ∈ lw_all := lw_g (lw_at lw_ms 66 rfl) rfl
theorem qs67 : (Cond.selects "BreathOnLoanModel" ⟨"BreathOnLoanModel", "isQuarrels", "()Z"⟩ ⟨"BreathOnLoanModel", "isQuarrels", "()Z"⟩) ∈ lw_all := lw_g (lw_at lw_ms 67 rfl) rfl
theorem qs68 : (Cond.selects "BreathOnLoanModel" ⟨"BreathOnLoanModel", "isOf", "(I)Z"⟩ ⟨"BreathOnLoanModel", "isOf", "(I)Z"⟩) ∈ lw_all := lw_g (lw_at lw_ms 68 rfl) rfl
theorem qs69 : (Cond.selects "BreathOnLoanModel" ⟨"BreathOnLoanModel", "opensBy", "(I)I"⟩ ⟨"BreathOnLoanModel", "opensBy", "(I)I"⟩) ∈ lw_all := lw_g (lw_at lw_ms 69 rfl) rfl
theorem qs70 : (Cond.selects "BreathOnLoanModel" ⟨"BreathOnLoanModel", "isAskAhead", "(Z)Z"⟩ ⟨"BreathOnLoanModel", "isAskAhead", "(Z)Z"⟩) ∈ lw_all := lw_g (lw_at lw_ms 70 rfl) rfl
theorem qs71 : (Cond.selects "BreathOnLoanModel" ⟨"BreathOnLoanModel", "line", "(II)I"⟩ ⟨"BreathOnLoanModel", "line", "(II)I"⟩) ∈ lw_all := lw_g (lw_at lw_ms 71 rfl) rfl
theorem qs72 : (Cond.selects "BreathOnLoanModel" ⟨"BreathOnLoanModel", "figure", "(III)I"⟩ ⟨"BreathOnLoanModel", "figure", "(III)I"⟩) ∈ lw_all := lw_g (lw_at lw_ms 72 rfl) rfl
theorem qs73 : (Cond.selects "BreathOnLoanModel" ⟨"BreathOnLoanModel", "blown", "(I)I"⟩ ⟨"BreathOnLoanModel", "blown", "(I)I"⟩) ∈ lw_all := lw_g (lw_at lw_ms 73 rfl) rfl
theorem qs74 : (Cond.selects "BreathOnLoanModel" ⟨"BreathOnLoanModel", "smokeIn", "(I)I"⟩ ⟨"BreathOnLoanModel", "smokeIn", "(I)I"⟩) ∈ lw_all := lw_g (lw_at lw_ms 74 rfl) rfl
theorem qs75 : (Cond.selects "BreathOnLoanModel" ⟨"BreathOnLoanModel", "sumOf", "(III)I"⟩ ⟨"BreathOnLoanModel", "sumOf", "(III)I"⟩) ∈ lw_all := lw_g (lw_at lw_ms 75 rfl) rfl
theorem qs76 : (Cond.selects "BreathOnLoanModel" ⟨"BreathOnLoanModel", "work", "(I)V"⟩ ⟨"BreathOnLoanModel", "work", "(I)V"⟩) ∈ lw_all := lw_g (lw_at lw_ms 76 rfl) rfl
theorem qs77 : (Cond.selects "BreathOnLoanModel" ⟨"BreathOnLoanModel", "costOf", "(II)I"⟩ ⟨"BreathOnLoanModel", "costOf", "(II)I"⟩) ∈ lw_all := lw_g (lw_at lw_ms 77 rfl) rfl
theorem qs78 : (Cond.selects "BreathOnLoanModel" ⟨"BreathOnLoanModel", "nameBlower", "(II)V"⟩ ⟨"BreathOnLoanModel", "nameBlower", "(II)V"⟩) ∈ lw_all := lw_g (lw_at lw_ms 78 rfl) rfl
theorem qs79 : (Cond.selects "BreathOnLoanModel" ⟨"BreathOnLoanModel", "isKind", "(I)Z"⟩ ⟨"BreathOnLoanModel", "isKind", "(I)Z"⟩) ∈ lw_all := lw_g (lw_at lw_ms 79 rfl) rfl
theorem qs80 : (Cond.selects "BreathOnLoanModel" ⟨"BreathOnLoanModel", "keep", "()V"⟩ ⟨"BreathOnLoanModel", "keep", "()V"⟩) ∈ lw_all := lw_g (lw_at lw_ms 80 rfl) rfl
theorem qs81 : (Cond.selects "BreathOnLoanModel" ⟨"BreathOnLoanModel", "isPiece", "(I)Z"⟩ ⟨"BreathOnLoanModel", "isPiece", "(I)Z"⟩) ∈ lw_all := lw_g (lw_at lw_ms 81 rfl) rfl
theorem qs82 : (Cond.selects "BreathOnLoanModel" ⟨"BreathOnLoanModel", "givenByAll", "()I"⟩ ⟨"BreathOnLoanModel", "givenByAll", "()I"⟩) ∈ lw_all := lw_g (lw_at lw_ms 82 rfl) rfl
theorem qs83 : (Cond.selects "BreathOnLoanModel" ⟨"BreathOnLoanModel", "voicesOf", "(I)I"⟩ ⟨"BreathOnLoanModel", "voicesOf", "(I)I"⟩) ∈ lw_all := lw_g (lw_at lw_ms 83 rfl) rfl
theorem qs84 : (Cond.selects "BreathOnLoanModel" ⟨"BreathOnLoanModel", "gave", "(II)I"⟩ ⟨"BreathOnLoanModel", "gave", "(II)I"⟩) ∈ lw_all := lw_g (lw_at lw_ms 84 rfl) rfl
theorem qs85 : (Cond.selects "BreathOnLoanModel" ⟨"BreathOnLoanModel", "shareOf", "(II)I"⟩ ⟨"BreathOnLoanModel", "shareOf", "(II)I"⟩) ∈ lw_all := lw_g (lw_at lw_ms 85 rfl) rfl
theorem qs86 : (Cond.selects "BreathOnLoanModel" ⟨"BreathOnLoanModel", "nameKind", "(I)V"⟩ ⟨"BreathOnLoanModel", "nameKind", "(I)V"⟩) ∈ lw_all := lw_g (lw_at lw_ms 86 rfl) rfl
theorem qs87 : (Cond.selects "BreathOnLoanModel" ⟨"BreathOnLoanModel", "isPlayed", "(I)Z"⟩ ⟨"BreathOnLoanModel", "isPlayed", "(I)Z"⟩) ∈ lw_all := lw_g (lw_at lw_ms 87 rfl) rfl
theorem qs88 : (Cond.selects "BreathOnLoanModel" ⟨"BreathOnLoanModel", "brittleOf", "(I)I"⟩ ⟨"BreathOnLoanModel", "brittleOf", "(I)I"⟩) ∈ lw_all := lw_g (lw_at lw_ms 88 rfl) rfl
theorem qs89 : (Cond.selects "BreathOnLoanModel" ⟨"BreathOnLoanModel", "reckon", "(IIII)V"⟩ ⟨"BreathOnLoanModel", "reckon", "(IIII)V"⟩) ∈ lw_all := lw_g (lw_at lw_ms 89 rfl) rfl
theorem qs90 : (Cond.selects "BreathOnLoanModel" ⟨"BreathOnLoanModel", "by", "(IIIII)I"⟩ ⟨"BreathOnLoanModel", "by", "(IIIII)I"⟩) ∈ lw_all := lw_g (lw_at lw_ms 90 rfl) rfl
theorem qs91 : (Cond.selects "BreathOnLoanModel" ⟨"BreathOnLoanModel", "isTeam", "(I)Z"⟩ ⟨"BreathOnLoanModel", "isTeam", "(I)Z"⟩) ∈ lw_all := lw_g (lw_at lw_ms 91 rfl) rfl
theorem qs92 : (Cond.selects "BreathOnLoanModel" ⟨"BreathOnLoanModel", "isDone", "(IIII)Z"⟩ ⟨"BreathOnLoanModel", "isDone", "(IIII)Z"⟩) ∈ lw_all := lw_g (lw_at lw_ms 92 rfl) rfl
theorem qs93 : (Cond.selects "BreathOnLoanModel" ⟨"BreathOnLoanModel", "workOf", "(III)I"⟩ ⟨"BreathOnLoanModel", "workOf", "(III)I"⟩) ∈ lw_all := lw_g (lw_at lw_ms 93 rfl) rfl
theorem qs94 : (Cond.selects "BreathOnLoanModel" ⟨"BreathOnLoanModel", "canBe", "(I)Z"⟩ ⟨"BreathOnLoanModel", "canBe", "(I)Z"⟩) ∈ lw_all := lw_g (lw_at lw_ms 94 rfl) rfl
-- ===== end of PART A; then your names; then what follows =====
