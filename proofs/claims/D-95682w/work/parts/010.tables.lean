-- ===== PART A: goes FIRST, ahead of the names: the tables' words, and 'selects' of the private methods out of them =====
/-- a private method of a class that the tables say can be made, by its rows of tables_1 -/
def lw_okq (q : MethodName × Nat) : Prop := (q.1.cls ≠ "java/lang/invoke/MethodHandle" ∧ q.1.cls ≠ "java/lang/invoke/VarHandle") ∧ Cond.instantiable q.1.cls q.2 ∈ tables_1 ∧ Cond.privateMethod q.1 ∈ tables_1 ∧ Cond.instanceMethod q.1 ∈ tables_1
set_option maxRecDepth 100000
theorem lw_t1 {w : Cond} (h : w ∈ tables_1_1) : w ∈ tables_1 := List.mem_append_left _ h
theorem lw_t2 {w : Cond} (h : w ∈ tables_1_2) : w ∈ tables_1 := List.mem_append_right _ (List.mem_append_left _ h)
theorem lw_t3 {w : Cond} (h : w ∈ tables_1_3) : w ∈ tables_1 := List.mem_append_right _ (List.mem_append_right _ (List.mem_append_left _ h))
theorem lw_t4 {w : Cond} (h : w ∈ tables_1_4) : w ∈ tables_1 := List.mem_append_right _ (List.mem_append_right _ (List.mem_append_right _ (List.mem_append_left _ h)))
theorem lw_t5 {w : Cond} (h : w ∈ tables_1_5) : w ∈ tables_1 := List.mem_append_right _ (List.mem_append_right _ (List.mem_append_right _ (List.mem_append_right _ (List.mem_append_left _ h))))
theorem lw_t6 {w : Cond} (h : w ∈ tables_1_6) : w ∈ tables_1 := List.mem_append_right _ (List.mem_append_right _ (List.mem_append_right _ (List.mem_append_right _ (List.mem_append_right _ (List.mem_append_left _ h)))))
theorem lw_t7 {w : Cond} (h : w ∈ tables_1_7) : w ∈ tables_1 := List.mem_append_right _ (List.mem_append_right _ (List.mem_append_right _ (List.mem_append_right _ (List.mem_append_right _ (List.mem_append_right _ h)))))
theorem lw_p0 : lw_okq (⟨"java/lang/Throwable", "fillInStackTrace", "(I)Ljava/lang/Throwable;"⟩, 6) := ⟨⟨by decide +kernel, by decide +kernel⟩, lw_t2 (List.mem_of_getElem? (i := 8) rfl), lw_t2 (List.mem_of_getElem? (i := 6) rfl), lw_t2 (List.mem_of_getElem? (i := 7) rfl)⟩
theorem lw_p1 : lw_okq (⟨"NightStones", "well", "(I)I"⟩, 12) := ⟨⟨by decide +kernel, by decide +kernel⟩, lw_t1 (List.mem_of_getElem? (i := 37) rfl), lw_t2 (List.mem_of_getElem? (i := 51) rfl), lw_t2 (List.mem_of_getElem? (i := 52) rfl)⟩
theorem lw_p2 : lw_okq (⟨"NightStones", "found", "(LNightStones$Finding;)I"⟩, 12) := ⟨⟨by decide +kernel, by decide +kernel⟩, lw_t1 (List.mem_of_getElem? (i := 37) rfl), lw_t2 (List.mem_of_getElem? (i := 55) rfl), lw_t2 (List.mem_of_getElem? (i := 56) rfl)⟩
theorem lw_p3 : lw_okq (⟨"NightStones", "rowAt", "(I)LNightStones$Row;"⟩, 12) := ⟨⟨by decide +kernel, by decide +kernel⟩, lw_t1 (List.mem_of_getElem? (i := 37) rfl), lw_t2 (List.mem_of_getElem? (i := 64) rfl), lw_t2 (List.mem_of_getElem? (i := 65) rfl)⟩
theorem lw_p4 : lw_okq (⟨"NightStones$Reader", "next", "()V"⟩, 8) := ⟨⟨by decide +kernel, by decide +kernel⟩, lw_t2 (List.mem_of_getElem? (i := 128) rfl), lw_t2 (List.mem_of_getElem? (i := 167) rfl), lw_t2 (List.mem_of_getElem? (i := 168) rfl)⟩
theorem lw_p5 : lw_okq (⟨"NightStones$Reader", "look", "()I"⟩, 8) := ⟨⟨by decide +kernel, by decide +kernel⟩, lw_t2 (List.mem_of_getElem? (i := 128) rfl), lw_t2 (List.mem_of_getElem? (i := 171) rfl), lw_t2 (List.mem_of_getElem? (i := 172) rfl)⟩
theorem lw_p6 : lw_okq (⟨"NightStones$Reader", "isWord", "(Ljava/lang/String;)Z"⟩, 8) := ⟨⟨by decide +kernel, by decide +kernel⟩, lw_t2 (List.mem_of_getElem? (i := 128) rfl), lw_t3 (List.mem_of_getElem? (i := 122) rfl), lw_t3 (List.mem_of_getElem? (i := 123) rfl)⟩
theorem lw_p7 : lw_okq (⟨"NightStones$Reader", "must", "(ZI)V"⟩, 8) := ⟨⟨by decide +kernel, by decide +kernel⟩, lw_t2 (List.mem_of_getElem? (i := 128) rfl), lw_t3 (List.mem_of_getElem? (i := 134) rfl), lw_t3 (List.mem_of_getElem? (i := 135) rfl)⟩
theorem lw_p8 : lw_okq (⟨"NightStones$Reader", "figure", "(II)I"⟩, 8) := ⟨⟨by decide +kernel, by decide +kernel⟩, lw_t2 (List.mem_of_getElem? (i := 128) rfl), lw_t3 (List.mem_of_getElem? (i := 161) rfl), lw_t3 (List.mem_of_getElem? (i := 162) rfl)⟩
theorem lw_p9 : lw_okq (⟨"NightStones$Reader", "sign", "()V"⟩, 8) := ⟨⟨by decide +kernel, by decide +kernel⟩, lw_t2 (List.mem_of_getElem? (i := 128) rfl), lw_t3 (List.mem_of_getElem? (i := 165) rfl), lw_t3 (List.mem_of_getElem? (i := 166) rfl)⟩
theorem lw_p10 : lw_okq (⟨"NightStones$Reader", "begin", "(II)V"⟩, 8) := ⟨⟨by decide +kernel, by decide +kernel⟩, lw_t2 (List.mem_of_getElem? (i := 128) rfl), lw_t3 (List.mem_of_getElem? (i := 170) rfl), lw_t3 (List.mem_of_getElem? (i := 171) rfl)⟩
theorem lw_p11 : lw_okq (⟨"NightStones$Reader", "mover", "()V"⟩, 8) := ⟨⟨by decide +kernel, by decide +kernel⟩, lw_t2 (List.mem_of_getElem? (i := 128) rfl), lw_t3 (List.mem_of_getElem? (i := 175) rfl), lw_t3 (List.mem_of_getElem? (i := 176) rfl)⟩
theorem lw_p12 : lw_okq (⟨"java/util/ArrayList", "add", "(Ljava/lang/Object;[Ljava/lang/Object;I)V"⟩, 3) := ⟨⟨by decide +kernel, by decide +kernel⟩, lw_t1 (List.mem_of_getElem? (i := 53) rfl), lw_t4 (List.mem_of_getElem? (i := 36) rfl), lw_t4 (List.mem_of_getElem? (i := 37) rfl)⟩
theorem lw_p13 : lw_okq (⟨"java/util/ArrayList", "grow", "()[Ljava/lang/Object;"⟩, 3) := ⟨⟨by decide +kernel, by decide +kernel⟩, lw_t1 (List.mem_of_getElem? (i := 53) rfl), lw_t4 (List.mem_of_getElem? (i := 40) rfl), lw_t4 (List.mem_of_getElem? (i := 41) rfl)⟩
theorem lw_p14 : lw_okq (⟨"java/util/ArrayList", "grow", "(I)[Ljava/lang/Object;"⟩, 3) := ⟨⟨by decide +kernel, by decide +kernel⟩, lw_t1 (List.mem_of_getElem? (i := 53) rfl), lw_t4 (List.mem_of_getElem? (i := 44) rfl), lw_t4 (List.mem_of_getElem? (i := 45) rfl)⟩
theorem lw_p15 : lw_okq (⟨"NightStones", "isRoad", "()Z"⟩, 12) := ⟨⟨by decide +kernel, by decide +kernel⟩, lw_t1 (List.mem_of_getElem? (i := 37) rfl), lw_t4 (List.mem_of_getElem? (i := 100) rfl), lw_t4 (List.mem_of_getElem? (i := 101) rfl)⟩
def lw_privs_1 : List (MethodName × Nat) := [(⟨"java/lang/Throwable", "fillInStackTrace", "(I)Ljava/lang/Throwable;"⟩, 6), (⟨"NightStones", "well", "(I)I"⟩, 12), (⟨"NightStones", "found", "(LNightStones$Finding;)I"⟩, 12), (⟨"NightStones", "rowAt", "(I)LNightStones$Row;"⟩, 12), (⟨"NightStones$Reader", "next", "()V"⟩, 8), (⟨"NightStones$Reader", "look", "()I"⟩, 8), (⟨"NightStones$Reader", "isWord", "(Ljava/lang/String;)Z"⟩, 8), (⟨"NightStones$Reader", "must", "(ZI)V"⟩, 8), (⟨"NightStones$Reader", "figure", "(II)I"⟩, 8), (⟨"NightStones$Reader", "sign", "()V"⟩, 8), (⟨"NightStones$Reader", "begin", "(II)V"⟩, 8), (⟨"NightStones$Reader", "mover", "()V"⟩, 8), (⟨"java/util/ArrayList", "add", "(Ljava/lang/Object;[Ljava/lang/Object;I)V"⟩, 3), (⟨"java/util/ArrayList", "grow", "()[Ljava/lang/Object;"⟩, 3), (⟨"java/util/ArrayList", "grow", "(I)[Ljava/lang/Object;"⟩, 3), (⟨"NightStones", "isRoad", "()Z"⟩, 12)]
theorem lw_r1 : ∀ q ∈ lw_privs_1, lw_okq q := List.forall_mem_cons.mpr ⟨lw_p0, List.forall_mem_cons.mpr ⟨lw_p1, List.forall_mem_cons.mpr ⟨lw_p2, List.forall_mem_cons.mpr ⟨lw_p3, List.forall_mem_cons.mpr ⟨lw_p4, List.forall_mem_cons.mpr ⟨lw_p5, List.forall_mem_cons.mpr ⟨lw_p6, List.forall_mem_cons.mpr ⟨lw_p7, List.forall_mem_cons.mpr ⟨lw_p8, List.forall_mem_cons.mpr ⟨lw_p9, List.forall_mem_cons.mpr ⟨lw_p10, List.forall_mem_cons.mpr ⟨lw_p11, List.forall_mem_cons.mpr ⟨lw_p12, List.forall_mem_cons.mpr ⟨lw_p13, List.forall_mem_cons.mpr ⟨lw_p14, List.forall_mem_cons.mpr ⟨lw_p15, fun _ h => absurd h List.not_mem_nil⟩⟩⟩⟩⟩⟩⟩⟩⟩⟩⟩⟩⟩⟩⟩⟩
theorem lw_p16 : lw_okq (⟨"NightStones", "keep", "()V"⟩, 12) := ⟨⟨by decide +kernel, by decide +kernel⟩, lw_t1 (List.mem_of_getElem? (i := 37) rfl), lw_t4 (List.mem_of_getElem? (i := 105) rfl), lw_t4 (List.mem_of_getElem? (i := 106) rfl)⟩
theorem lw_p17 : lw_okq (⟨"NightStones$Road", "push", "(LNightStones$Mover;)V"⟩, 13) := ⟨⟨by decide +kernel, by decide +kernel⟩, lw_t1 (List.mem_of_getElem? (i := 47) rfl), lw_t4 (List.mem_of_getElem? (i := 153) rfl), lw_t4 (List.mem_of_getElem? (i := 154) rfl)⟩
theorem lw_p18 : lw_okq (⟨"NightStones$Road", "isFree", "(I)Z"⟩, 13) := ⟨⟨by decide +kernel, by decide +kernel⟩, lw_t1 (List.mem_of_getElem? (i := 47) rfl), lw_t4 (List.mem_of_getElem? (i := 184) rfl), lw_t4 (List.mem_of_getElem? (i := 185) rfl)⟩
theorem lw_p19 : lw_okq (⟨"NightStones", "isStone", "(I)Z"⟩, 12) := ⟨⟨by decide +kernel, by decide +kernel⟩, lw_t1 (List.mem_of_getElem? (i := 37) rfl), lw_t4 (List.mem_of_getElem? (i := 193) rfl), lw_t4 (List.mem_of_getElem? (i := 194) rfl)⟩
theorem lw_p20 : lw_okq (⟨"NightStones", "measure", "()Z"⟩, 12) := ⟨⟨by decide +kernel, by decide +kernel⟩, lw_t1 (List.mem_of_getElem? (i := 37) rfl), lw_t5 (List.mem_of_getElem? (i := 10) rfl), lw_t5 (List.mem_of_getElem? (i := 11) rfl)⟩
theorem lw_p21 : lw_okq (⟨"NightStones", "at", "(II)I"⟩, 12) := ⟨⟨by decide +kernel, by decide +kernel⟩, lw_t1 (List.mem_of_getElem? (i := 37) rfl), lw_t5 (List.mem_of_getElem? (i := 14) rfl), lw_t5 (List.mem_of_getElem? (i := 15) rfl)⟩
theorem lw_p22 : lw_okq (⟨"NightStones", "lessen", "(III)V"⟩, 12) := ⟨⟨by decide +kernel, by decide +kernel⟩, lw_t1 (List.mem_of_getElem? (i := 37) rfl), lw_t5 (List.mem_of_getElem? (i := 18) rfl), lw_t5 (List.mem_of_getElem? (i := 19) rfl)⟩
theorem lw_p23 : lw_okq (⟨"NightStones", "dareOf", "(II)I"⟩, 12) := ⟨⟨by decide +kernel, by decide +kernel⟩, lw_t1 (List.mem_of_getElem? (i := 37) rfl), lw_t5 (List.mem_of_getElem? (i := 58) rfl), lw_t5 (List.mem_of_getElem? (i := 59) rfl)⟩
theorem lw_p24 : lw_okq (⟨"NightStones", "bestBy", "(I)I"⟩, 12) := ⟨⟨by decide +kernel, by decide +kernel⟩, lw_t1 (List.mem_of_getElem? (i := 37) rfl), lw_t5 (List.mem_of_getElem? (i := 72) rfl), lw_t5 (List.mem_of_getElem? (i := 73) rfl)⟩
theorem lw_p25 : lw_okq (⟨"NightStones", "isMover", "(I)Z"⟩, 12) := ⟨⟨by decide +kernel, by decide +kernel⟩, lw_t1 (List.mem_of_getElem? (i := 37) rfl), lw_t5 (List.mem_of_getElem? (i := 88) rfl), lw_t5 (List.mem_of_getElem? (i := 89) rfl)⟩
theorem lw_p26 : lw_okq (⟨"NightStonesModel", "finding", "(I)I"⟩, 26) := ⟨⟨by decide +kernel, by decide +kernel⟩, lw_t5 (List.mem_of_getElem? (i := 235) rfl), lw_t6 (List.mem_of_getElem? (i := 94) rfl), lw_t6 (List.mem_of_getElem? (i := 95) rfl)⟩
theorem lw_p27 : lw_okq (⟨"NightStonesModel", "begin", "()V"⟩, 26) := ⟨⟨by decide +kernel, by decide +kernel⟩, lw_t5 (List.mem_of_getElem? (i := 235) rfl), lw_t6 (List.mem_of_getElem? (i := 122) rfl), lw_t6 (List.mem_of_getElem? (i := 123) rfl)⟩
theorem lw_p28 : lw_okq (⟨"NightStonesModel", "next", "()V"⟩, 26) := ⟨⟨by decide +kernel, by decide +kernel⟩, lw_t5 (List.mem_of_getElem? (i := 235) rfl), lw_t6 (List.mem_of_getElem? (i := 126) rfl), lw_t6 (List.mem_of_getElem? (i := 127) rfl)⟩
theorem lw_p29 : lw_okq (⟨"NightStonesModel", "byteAt", "(I)I"⟩, 26) := ⟨⟨by decide +kernel, by decide +kernel⟩, lw_t5 (List.mem_of_getElem? (i := 235) rfl), lw_t6 (List.mem_of_getElem? (i := 130) rfl), lw_t6 (List.mem_of_getElem? (i := 131) rfl)⟩
theorem lw_p30 : lw_okq (⟨"NightStonesModel", "name", "()J"⟩, 26) := ⟨⟨by decide +kernel, by decide +kernel⟩, lw_t5 (List.mem_of_getElem? (i := 235) rfl), lw_t6 (List.mem_of_getElem? (i := 141) rfl), lw_t6 (List.mem_of_getElem? (i := 142) rfl)⟩
theorem lw_p31 : lw_okq (⟨"NightStonesModel", "must", "(Z)V"⟩, 26) := ⟨⟨by decide +kernel, by decide +kernel⟩, lw_t5 (List.mem_of_getElem? (i := 235) rfl), lw_t6 (List.mem_of_getElem? (i := 146) rfl), lw_t6 (List.mem_of_getElem? (i := 147) rfl)⟩
def lw_privs_2 : List (MethodName × Nat) := [(⟨"NightStones", "keep", "()V"⟩, 12), (⟨"NightStones$Road", "push", "(LNightStones$Mover;)V"⟩, 13), (⟨"NightStones$Road", "isFree", "(I)Z"⟩, 13), (⟨"NightStones", "isStone", "(I)Z"⟩, 12), (⟨"NightStones", "measure", "()Z"⟩, 12), (⟨"NightStones", "at", "(II)I"⟩, 12), (⟨"NightStones", "lessen", "(III)V"⟩, 12), (⟨"NightStones", "dareOf", "(II)I"⟩, 12), (⟨"NightStones", "bestBy", "(I)I"⟩, 12), (⟨"NightStones", "isMover", "(I)Z"⟩, 12), (⟨"NightStonesModel", "finding", "(I)I"⟩, 26), (⟨"NightStonesModel", "begin", "()V"⟩, 26), (⟨"NightStonesModel", "next", "()V"⟩, 26), (⟨"NightStonesModel", "byteAt", "(I)I"⟩, 26), (⟨"NightStonesModel", "name", "()J"⟩, 26), (⟨"NightStonesModel", "must", "(Z)V"⟩, 26)]
theorem lw_r2 : ∀ q ∈ lw_privs_2, lw_okq q := List.forall_mem_cons.mpr ⟨lw_p16, List.forall_mem_cons.mpr ⟨lw_p17, List.forall_mem_cons.mpr ⟨lw_p18, List.forall_mem_cons.mpr ⟨lw_p19, List.forall_mem_cons.mpr ⟨lw_p20, List.forall_mem_cons.mpr ⟨lw_p21, List.forall_mem_cons.mpr ⟨lw_p22, List.forall_mem_cons.mpr ⟨lw_p23, List.forall_mem_cons.mpr ⟨lw_p24, List.forall_mem_cons.mpr ⟨lw_p25, List.forall_mem_cons.mpr ⟨lw_p26, List.forall_mem_cons.mpr ⟨lw_p27, List.forall_mem_cons.mpr ⟨lw_p28, List.forall_mem_cons.mpr ⟨lw_p29, List.forall_mem_cons.mpr ⟨lw_p30, List.forall_mem_cons.mpr ⟨lw_p31, fun _ h => absurd h List.not_mem_nil⟩⟩⟩⟩⟩⟩⟩⟩⟩⟩⟩⟩⟩⟩⟩⟩
theorem lw_p32 : lw_okq (⟨"NightStonesModel", "bad", "(I)V"⟩, 26) := ⟨⟨by decide +kernel, by decide +kernel⟩, lw_t5 (List.mem_of_getElem? (i := 235) rfl), lw_t6 (List.mem_of_getElem? (i := 150) rfl), lw_t6 (List.mem_of_getElem? (i := 151) rfl)⟩
theorem lw_p33 : lw_okq (⟨"NightStonesModel", "number", "(II)I"⟩, 26) := ⟨⟨by decide +kernel, by decide +kernel⟩, lw_t5 (List.mem_of_getElem? (i := 235) rfl), lw_t6 (List.mem_of_getElem? (i := 154) rfl), lw_t6 (List.mem_of_getElem? (i := 155) rfl)⟩
theorem lw_p34 : lw_okq (⟨"NightStonesModel", "figures", "()I"⟩, 26) := ⟨⟨by decide +kernel, by decide +kernel⟩, lw_t5 (List.mem_of_getElem? (i := 235) rfl), lw_t6 (List.mem_of_getElem? (i := 158) rfl), lw_t6 (List.mem_of_getElem? (i := 159) rfl)⟩
theorem lw_p35 : lw_okq (⟨"NightStonesModel", "mustEnd", "()V"⟩, 26) := ⟨⟨by decide +kernel, by decide +kernel⟩, lw_t5 (List.mem_of_getElem? (i := 235) rfl), lw_t6 (List.mem_of_getElem? (i := 162) rfl), lw_t6 (List.mem_of_getElem? (i := 163) rfl)⟩
theorem lw_p36 : lw_okq (⟨"NightStonesModel", "readStone", "()V"⟩, 26) := ⟨⟨by decide +kernel, by decide +kernel⟩, lw_t5 (List.mem_of_getElem? (i := 235) rfl), lw_t6 (List.mem_of_getElem? (i := 167) rfl), lw_t6 (List.mem_of_getElem? (i := 168) rfl)⟩
theorem lw_p37 : lw_okq (⟨"NightStonesModel", "begins", "(II)V"⟩, 26) := ⟨⟨by decide +kernel, by decide +kernel⟩, lw_t5 (List.mem_of_getElem? (i := 235) rfl), lw_t6 (List.mem_of_getElem? (i := 171) rfl), lw_t6 (List.mem_of_getElem? (i := 172) rfl)⟩
theorem lw_p38 : lw_okq (⟨"NightStonesModel", "readMover", "()V"⟩, 26) := ⟨⟨by decide +kernel, by decide +kernel⟩, lw_t5 (List.mem_of_getElem? (i := 235) rfl), lw_t6 (List.mem_of_getElem? (i := 176) rfl), lw_t6 (List.mem_of_getElem? (i := 177) rfl)⟩
theorem lw_p39 : lw_okq (⟨"NightStonesModel", "isThere", "()Z"⟩, 26) := ⟨⟨by decide +kernel, by decide +kernel⟩, lw_t5 (List.mem_of_getElem? (i := 235) rfl), lw_t6 (List.mem_of_getElem? (i := 197) rfl), lw_t6 (List.mem_of_getElem? (i := 198) rfl)⟩
theorem lw_p40 : lw_okq (⟨"NightStonesModel", "keep", "()V"⟩, 26) := ⟨⟨by decide +kernel, by decide +kernel⟩, lw_t5 (List.mem_of_getElem? (i := 235) rfl), lw_t6 (List.mem_of_getElem? (i := 202) rfl), lw_t6 (List.mem_of_getElem? (i := 203) rfl)⟩
theorem lw_p41 : lw_okq (⟨"NightStonesModel", "stoneOf", "(II)I"⟩, 26) := ⟨⟨by decide +kernel, by decide +kernel⟩, lw_t5 (List.mem_of_getElem? (i := 235) rfl), lw_t6 (List.mem_of_getElem? (i := 206) rfl), lw_t6 (List.mem_of_getElem? (i := 207) rfl)⟩
theorem lw_p42 : lw_okq (⟨"NightStonesModel", "layNow", "(I)V"⟩, 26) := ⟨⟨by decide +kernel, by decide +kernel⟩, lw_t5 (List.mem_of_getElem? (i := 235) rfl), lw_t6 (List.mem_of_getElem? (i := 210) rfl), lw_t6 (List.mem_of_getElem? (i := 211) rfl)⟩
theorem lw_p43 : lw_okq (⟨"NightStonesModel", "goNight", "(II)V"⟩, 26) := ⟨⟨by decide +kernel, by decide +kernel⟩, lw_t5 (List.mem_of_getElem? (i := 235) rfl), lw_t6 (List.mem_of_getElem? (i := 214) rfl), lw_t6 (List.mem_of_getElem? (i := 215) rfl)⟩
theorem lw_p44 : lw_okq (⟨"NightStonesModel", "pushes", "(II)V"⟩, 26) := ⟨⟨by decide +kernel, by decide +kernel⟩, lw_t5 (List.mem_of_getElem? (i := 235) rfl), lw_t6 (List.mem_of_getElem? (i := 218) rfl), lw_t6 (List.mem_of_getElem? (i := 219) rfl)⟩
theorem lw_p45 : lw_okq (⟨"NightStonesModel", "of", "(II)I"⟩, 26) := ⟨⟨by decide +kernel, by decide +kernel⟩, lw_t5 (List.mem_of_getElem? (i := 235) rfl), lw_t6 (List.mem_of_getElem? (i := 222) rfl), lw_t6 (List.mem_of_getElem? (i := 223) rfl)⟩
theorem lw_p46 : lw_okq (⟨"NightStonesModel", "isFree", "(I)Z"⟩, 26) := ⟨⟨by decide +kernel, by decide +kernel⟩, lw_t5 (List.mem_of_getElem? (i := 235) rfl), lw_t6 (List.mem_of_getElem? (i := 226) rfl), lw_t6 (List.mem_of_getElem? (i := 227) rfl)⟩
theorem lw_p47 : lw_okq (⟨"NightStonesModel", "isStone", "(I)Z"⟩, 26) := ⟨⟨by decide +kernel, by decide +kernel⟩, lw_t5 (List.mem_of_getElem? (i := 235) rfl), lw_t6 (List.mem_of_getElem? (i := 234) rfl), lw_t6 (List.mem_of_getElem? (i := 235) rfl)⟩
def lw_privs_3 : List (MethodName × Nat) := [(⟨"NightStonesModel", "bad", "(I)V"⟩, 26), (⟨"NightStonesModel", "number", "(II)I"⟩, 26), (⟨"NightStonesModel", "figures", "()I"⟩, 26), (⟨"NightStonesModel", "mustEnd", "()V"⟩, 26), (⟨"NightStonesModel", "readStone", "()V"⟩, 26), (⟨"NightStonesModel", "begins", "(II)V"⟩, 26), (⟨"NightStonesModel", "readMover", "()V"⟩, 26), (⟨"NightStonesModel", "isThere", "()Z"⟩, 26), (⟨"NightStonesModel", "keep", "()V"⟩, 26), (⟨"NightStonesModel", "stoneOf", "(II)I"⟩, 26), (⟨"NightStonesModel", "layNow", "(I)V"⟩, 26), (⟨"NightStonesModel", "goNight", "(II)V"⟩, 26), (⟨"NightStonesModel", "pushes", "(II)V"⟩, 26), (⟨"NightStonesModel", "of", "(II)I"⟩, 26), (⟨"NightStonesModel", "isFree", "(I)Z"⟩, 26), (⟨"NightStonesModel", "isStone", "(I)Z"⟩, 26)]
theorem lw_r3 : ∀ q ∈ lw_privs_3, lw_okq q := List.forall_mem_cons.mpr ⟨lw_p32, List.forall_mem_cons.mpr ⟨lw_p33, List.forall_mem_cons.mpr ⟨lw_p34, List.forall_mem_cons.mpr ⟨lw_p35, List.forall_mem_cons.mpr ⟨lw_p36, List.forall_mem_cons.mpr ⟨lw_p37, List.forall_mem_cons.mpr ⟨lw_p38, List.forall_mem_cons.mpr ⟨lw_p39, List.forall_mem_cons.mpr ⟨lw_p40, List.forall_mem_cons.mpr ⟨lw_p41, List.forall_mem_cons.mpr ⟨lw_p42, List.forall_mem_cons.mpr ⟨lw_p43, List.forall_mem_cons.mpr ⟨lw_p44, List.forall_mem_cons.mpr ⟨lw_p45, List.forall_mem_cons.mpr ⟨lw_p46, List.forall_mem_cons.mpr ⟨lw_p47, fun _ h => absurd h List.not_mem_nil⟩⟩⟩⟩⟩⟩⟩⟩⟩⟩⟩⟩⟩⟩⟩⟩
theorem lw_p48 : lw_okq (⟨"NightStonesModel", "isTime", "(IIII)Z"⟩, 26) := ⟨⟨by decide +kernel, by decide +kernel⟩, lw_t5 (List.mem_of_getElem? (i := 235) rfl), lw_t7 (List.mem_of_getElem? (i := 17) rfl), lw_t7 (List.mem_of_getElem? (i := 18) rfl)⟩
theorem lw_p49 : lw_okq (⟨"NightStonesModel", "addTime", "(IIII)V"⟩, 26) := ⟨⟨by decide +kernel, by decide +kernel⟩, lw_t5 (List.mem_of_getElem? (i := 235) rfl), lw_t7 (List.mem_of_getElem? (i := 23) rfl), lw_t7 (List.mem_of_getElem? (i := 24) rfl)⟩
theorem lw_p50 : lw_okq (⟨"NightStonesModel", "layMost", "()Z"⟩, 26) := ⟨⟨by decide +kernel, by decide +kernel⟩, lw_t5 (List.mem_of_getElem? (i := 235) rfl), lw_t7 (List.mem_of_getElem? (i := 40) rfl), lw_t7 (List.mem_of_getElem? (i := 41) rfl)⟩
theorem lw_p51 : lw_okq (⟨"NightStonesModel", "atMost", "(III)V"⟩, 26) := ⟨⟨by decide +kernel, by decide +kernel⟩, lw_t5 (List.mem_of_getElem? (i := 235) rfl), lw_t7 (List.mem_of_getElem? (i := 45) rfl), lw_t7 (List.mem_of_getElem? (i := 46) rfl)⟩
theorem lw_p52 : lw_okq (⟨"NightStonesModel", "rests", "(I)Z"⟩, 26) := ⟨⟨by decide +kernel, by decide +kernel⟩, lw_t5 (List.mem_of_getElem? (i := 235) rfl), lw_t7 (List.mem_of_getElem? (i := 57) rfl), lw_t7 (List.mem_of_getElem? (i := 58) rfl)⟩
theorem lw_p53 : lw_okq (⟨"NightStonesModel", "standsBy", "(II)Z"⟩, 26) := ⟨⟨by decide +kernel, by decide +kernel⟩, lw_t5 (List.mem_of_getElem? (i := 235) rfl), lw_t7 (List.mem_of_getElem? (i := 70) rfl), lw_t7 (List.mem_of_getElem? (i := 71) rfl)⟩
theorem lw_p54 : lw_okq (⟨"NightStonesModel", "brings", "(II)I"⟩, 26) := ⟨⟨by decide +kernel, by decide +kernel⟩, lw_t5 (List.mem_of_getElem? (i := 235) rfl), lw_t7 (List.mem_of_getElem? (i := 79) rfl), lw_t7 (List.mem_of_getElem? (i := 80) rfl)⟩
theorem lw_p55 : lw_okq (⟨"NightStonesModel", "bestBy", "(I)I"⟩, 26) := ⟨⟨by decide +kernel, by decide +kernel⟩, lw_t5 (List.mem_of_getElem? (i := 235) rfl), lw_t7 (List.mem_of_getElem? (i := 91) rfl), lw_t7 (List.mem_of_getElem? (i := 92) rfl)⟩
theorem lw_p56 : lw_okq (⟨"NightStonesModel", "isMover", "(I)Z"⟩, 26) := ⟨⟨by decide +kernel, by decide +kernel⟩, lw_t5 (List.mem_of_getElem? (i := 235) rfl), lw_t7 (List.mem_of_getElem? (i := 107) rfl), lw_t7 (List.mem_of_getElem? (i := 108) rfl)⟩
theorem lw_p57 : lw_okq (⟨"NightStonesModel", "sizeOf", "(I)I"⟩, 26) := ⟨⟨by decide +kernel, by decide +kernel⟩, lw_t5 (List.mem_of_getElem? (i := 235) rfl), lw_t7 (List.mem_of_getElem? (i := 123) rfl), lw_t7 (List.mem_of_getElem? (i := 124) rfl)⟩
theorem lw_p58 : lw_okq (⟨"NightStonesModel", "thiefSize", "(I)I"⟩, 26) := ⟨⟨by decide +kernel, by decide +kernel⟩, lw_t5 (List.mem_of_getElem? (i := 235) rfl), lw_t7 (List.mem_of_getElem? (i := 127) rfl), lw_t7 (List.mem_of_getElem? (i := 128) rfl)⟩
theorem lw_p59 : lw_okq (⟨"NightStonesModel", "began", "(I)V"⟩, 26) := ⟨⟨by decide +kernel, by decide +kernel⟩, lw_t5 (List.mem_of_getElem? (i := 235) rfl), lw_t7 (List.mem_of_getElem? (i := 131) rfl), lw_t7 (List.mem_of_getElem? (i := 132) rfl)⟩
theorem lw_p60 : lw_okq (⟨"NightStonesModel", "plainSize", "(I)I"⟩, 26) := ⟨⟨by decide +kernel, by decide +kernel⟩, lw_t5 (List.mem_of_getElem? (i := 235) rfl), lw_t7 (List.mem_of_getElem? (i := 135) rfl), lw_t7 (List.mem_of_getElem? (i := 136) rfl)⟩
theorem lw_p61 : lw_okq (⟨"NightStonesModel", "markOf", "(I)I"⟩, 26) := ⟨⟨by decide +kernel, by decide +kernel⟩, lw_t5 (List.mem_of_getElem? (i := 235) rfl), lw_t7 (List.mem_of_getElem? (i := 139) rfl), lw_t7 (List.mem_of_getElem? (i := 140) rfl)⟩
def lw_privs_4 : List (MethodName × Nat) := [(⟨"NightStonesModel", "isTime", "(IIII)Z"⟩, 26), (⟨"NightStonesModel", "addTime", "(IIII)V"⟩, 26), (⟨"NightStonesModel", "layMost", "()Z"⟩, 26), (⟨"NightStonesModel", "atMost", "(III)V"⟩, 26), (⟨"NightStonesModel", "rests", "(I)Z"⟩, 26), (⟨"NightStonesModel", "standsBy", "(II)Z"⟩, 26), (⟨"NightStonesModel", "brings", "(II)I"⟩, 26), (⟨"NightStonesModel", "bestBy", "(I)I"⟩, 26), (⟨"NightStonesModel", "isMover", "(I)Z"⟩, 26), (⟨"NightStonesModel", "sizeOf", "(I)I"⟩, 26), (⟨"NightStonesModel", "thiefSize", "(I)I"⟩, 26), (⟨"NightStonesModel", "began", "(I)V"⟩, 26), (⟨"NightStonesModel", "plainSize", "(I)I"⟩, 26), (⟨"NightStonesModel", "markOf", "(I)I"⟩, 26)]
theorem lw_r4 : ∀ q ∈ lw_privs_4, lw_okq q := List.forall_mem_cons.mpr ⟨lw_p48, List.forall_mem_cons.mpr ⟨lw_p49, List.forall_mem_cons.mpr ⟨lw_p50, List.forall_mem_cons.mpr ⟨lw_p51, List.forall_mem_cons.mpr ⟨lw_p52, List.forall_mem_cons.mpr ⟨lw_p53, List.forall_mem_cons.mpr ⟨lw_p54, List.forall_mem_cons.mpr ⟨lw_p55, List.forall_mem_cons.mpr ⟨lw_p56, List.forall_mem_cons.mpr ⟨lw_p57, List.forall_mem_cons.mpr ⟨lw_p58, List.forall_mem_cons.mpr ⟨lw_p59, List.forall_mem_cons.mpr ⟨lw_p60, List.forall_mem_cons.mpr ⟨lw_p61, fun _ h => absurd h List.not_mem_nil⟩⟩⟩⟩⟩⟩⟩⟩⟩⟩⟩⟩⟩⟩
def lw_privs : List (MethodName × Nat) := lw_privs_1 ++ (lw_privs_2 ++ (lw_privs_3 ++ (lw_privs_4)))
def lw_tbl : List Cond := k2_sels lw_privs ++ tables_1
theorem lw_privs_ok : ∀ q ∈ lw_privs, lw_okq q := by
  show ∀ q ∈ lw_privs_1 ++ (lw_privs_2 ++ (lw_privs_3 ++ (lw_privs_4))), lw_okq q
  exact List.forall_mem_append.mpr ⟨lw_r1, List.forall_mem_append.mpr ⟨lw_r2, List.forall_mem_append.mpr ⟨lw_r3, lw_r4⟩⟩⟩
-- ===== ONE list of words for every method: the tables' words that hold all through a run =====
def lw_all : List Cond := lw_tbl.filter goodWord
/-- a word of the tables by its place: claim/WORDS.tsv -/
theorem lw_w {w : Cond} (i : Nat) (h : lw_tbl[i]? = some w) (g : goodWord w = true) : w ∈ lw_all := List.mem_filter.mpr ⟨List.mem_of_getElem? h, g⟩
theorem lw_all_tbl {w : Cond} (h : w ∈ lw_all) : w ∈ lw_tbl := (List.mem_filter.mp h).1
theorem lw_self : GoodIn lw_all lw_all := fun w h => ⟨h, good_of_word (List.mem_filter.mp h).2⟩
/-- a class's field words, by their places -/
theorem lw_in (ws : List Cond) (ps : List Nat) (hp : ws = ps.filterMap (fun i => lw_tbl[i]?)) (hg : ws.all goodWord = true) : ∀ w ∈ ws, w ∈ lw_all := by
  intro w h
  have h1 := List.all_eq_true.mp hg w h
  rw [hp] at h
  obtain ⟨i, -, hi⟩ := List.mem_filterMap.mp h
  exact lw_w i hi h1
/-- the words of a contract for the method y with code b, L locals, answer r -/
abbrev ws_ (y : MethodName) (b : ByteArray) (L : Nat) (r : Option FieldType) : List Cond := Cond.code y b L r :: lw_all
theorem lw_meth {y : MethodName} {b : ByteArray} {L : Nat} {r : Option FieldType} (h : Cond.code y b L r ∈ lw_all) : GoodIn lw_all (ws_ y b L r) := by
  intro w hw
  rcases List.mem_cons.mp hw with e | e
  · rw [e]
    exact lw_self _ h
  · exact lw_self _ e
theorem lw_app {a c : List Cond} (ha : ∀ w ∈ a, w ∈ lw_all) (hc : GoodIn lw_all c) : GoodIn lw_all (a ++ c) := by
  intro w hw
  rcases List.mem_append.mp hw with e | e
  · exact lw_self w (ha w e)
  · exact hc w e
/-- what a call through an object asks: cwV n hts (lw_V ..) -/
theorem lw_V {own : String} {idx : Nat} {C : String} {y : MethodName} {b : ByteArray} {L : Nat} {r : Option FieldType} (h1 : Cond.methodLink own idx y ∈ lw_all) (h2 : Cond.instanceMethod y ∈ lw_all) (h3 : Cond.selects C y y ∈ lw_all) (h4 : Cond.initialized C ∈ lw_all) (h5 : Cond.code y b L r ∈ lw_all) : GoodIn lw_all (wsV own idx C y (ws_ y b L r)) := by
  refine lw_app ?_ (lw_meth h5)
  intro w hw
  simp only [List.mem_cons, List.not_mem_nil, or_false] at hw
  rcases hw with e | e | e | e
  · rw [e]; exact h1
  · rw [e]; exact h2
  · rw [e]; exact h3
  · rw [e]; exact h4
/-- what a static call asks: va_cwS n hts (lw_S ..) -/
theorem lw_S {own : String} {idx : Nat} {y : MethodName} {b : ByteArray} {L : Nat} {r : Option FieldType} (h1 : Cond.methodLink own idx y ∈ lw_all) (h2 : Cond.static y ∈ lw_all) (h3 : Cond.initialized y.cls ∈ lw_all) (h4 : Cond.code y b L r ∈ lw_all) : GoodIn lw_all (va_wsS own idx y (ws_ y b L r)) := by
  refine lw_app ?_ (lw_meth h4)
  intro w hw
  simp only [List.mem_cons, List.not_mem_nil, or_false] at hw
  rcases hw with e | e | e
  · rw [e]; exact h1
  · rw [e]; exact h2
  · rw [e]; exact h3
/-- the words of a contract for a method WITH HANDLERS (hh: its table) -/
abbrev wsW_ (y : MethodName) (b : ByteArray) (L : Nat) (r : Option FieldType) (hh : List (Nat × Nat × Nat × Nat)) : List Cond := Cond.codeWith y b L r hh :: lw_all
theorem lw_methW {y : MethodName} {b : ByteArray} {L : Nat} {r : Option FieldType} {hh : List (Nat × Nat × Nat × Nat)} (h : Cond.codeWith y b L r hh ∈ lw_all) : GoodIn lw_all (wsW_ y b L r hh) := by
  intro w hw
  rcases List.mem_cons.mp hw with e | e
  · rw [e]
    exact lw_self _ h
  · exact lw_self _ e
/-- any list of words by their places (lw_in), good -/
theorem lw_good {ws : List Cond} (h : ∀ w ∈ ws, w ∈ lw_all) : GoodIn lw_all ws := fun w hw => lw_self w (h w hw)
/-- what a call of a method with handlers asks: vx_cwVW n hts (lw_VW ..), vx_cwSW n hts (lw_SW ..) -/
theorem lw_VW {own : String} {idx : Nat} {C : String} {y : MethodName} {b : ByteArray} {L : Nat} {r : Option FieldType} {hh : List (Nat × Nat × Nat × Nat)} (h1 : Cond.methodLink own idx y ∈ lw_all) (h2 : Cond.instanceMethod y ∈ lw_all) (h3 : Cond.selects C y y ∈ lw_all) (h4 : Cond.initialized C ∈ lw_all) (h5 : Cond.codeWith y b L r hh ∈ lw_all) : GoodIn lw_all (wsV own idx C y (wsW_ y b L r hh)) := by
  refine lw_app ?_ (lw_methW h5)
  intro w hw
  simp only [List.mem_cons, List.not_mem_nil, or_false] at hw
  rcases hw with e | e | e | e
  · rw [e]; exact h1
  · rw [e]; exact h2
  · rw [e]; exact h3
  · rw [e]; exact h4
theorem lw_SW {own : String} {idx : Nat} {y : MethodName} {b : ByteArray} {L : Nat} {r : Option FieldType} {hh : List (Nat × Nat × Nat × Nat)} (h1 : Cond.methodLink own idx y ∈ lw_all) (h2 : Cond.static y ∈ lw_all) (h3 : Cond.initialized y.cls ∈ lw_all) (h4 : Cond.codeWith y b L r hh ∈ lw_all) : GoodIn lw_all (va_wsS own idx y (wsW_ y b L r hh)) := by
  refine lw_app ?_ (lw_methW h4)
  intro w hw
  simp only [List.mem_cons, List.not_mem_nil, or_false] at hw
  rcases hw with e | e | e
  · rw [e]; exact h1
  · rw [e]; exact h2
  · rw [e]; exact h3
/-- a word by its place in its run of the tables -/
theorem lw_at {r : List Cond} (hr : ∀ w ∈ r, w ∈ lw_tbl) {w : Cond} (i : Nat) (h : r[i]? = some w) : w ∈ lw_tbl := hr w (List.mem_of_getElem? h)
theorem lw_g {w : Cond} (h : w ∈ lw_tbl) (g : goodWord w = true) : w ∈ lw_all := List.mem_filter.mpr ⟨h, g⟩
theorem lw_ms : ∀ w ∈ k2_sels lw_privs, w ∈ lw_tbl := fun w h => show w ∈ k2_sels lw_privs ++ tables_1 from List.mem_append_left _ h
theorem lw_m1 : ∀ w ∈ tables_1_1, w ∈ lw_tbl := fun w h => show w ∈ k2_sels lw_privs ++ tables_1 from List.mem_append_right (k2_sels lw_privs) (show w ∈ tables_1 from List.mem_append_left _ h)
theorem lw_m2 : ∀ w ∈ tables_1_2, w ∈ lw_tbl := fun w h => show w ∈ k2_sels lw_privs ++ tables_1 from List.mem_append_right (k2_sels lw_privs) (show w ∈ tables_1 from List.mem_append_right _ (List.mem_append_left _ h))
theorem lw_m3 : ∀ w ∈ tables_1_3, w ∈ lw_tbl := fun w h => show w ∈ k2_sels lw_privs ++ tables_1 from List.mem_append_right (k2_sels lw_privs) (show w ∈ tables_1 from List.mem_append_right _ (List.mem_append_right _ (List.mem_append_left _ h)))
theorem lw_m4 : ∀ w ∈ tables_1_4, w ∈ lw_tbl := fun w h => show w ∈ k2_sels lw_privs ++ tables_1 from List.mem_append_right (k2_sels lw_privs) (show w ∈ tables_1 from List.mem_append_right _ (List.mem_append_right _ (List.mem_append_right _ (List.mem_append_left _ h))))
theorem lw_m5 : ∀ w ∈ tables_1_5, w ∈ lw_tbl := fun w h => show w ∈ k2_sels lw_privs ++ tables_1 from List.mem_append_right (k2_sels lw_privs) (show w ∈ tables_1 from List.mem_append_right _ (List.mem_append_right _ (List.mem_append_right _ (List.mem_append_right _ (List.mem_append_left _ h)))))
theorem lw_m6 : ∀ w ∈ tables_1_6, w ∈ lw_tbl := fun w h => show w ∈ k2_sels lw_privs ++ tables_1 from List.mem_append_right (k2_sels lw_privs) (show w ∈ tables_1 from List.mem_append_right _ (List.mem_append_right _ (List.mem_append_right _ (List.mem_append_right _ (List.mem_append_right _ (List.mem_append_left _ h))))))
theorem lw_m7 : ∀ w ∈ tables_1_7, w ∈ lw_tbl := fun w h => show w ∈ k2_sels lw_privs ++ tables_1 from List.mem_append_right (k2_sels lw_privs) (show w ∈ tables_1 from List.mem_append_right _ (List.mem_append_right _ (List.mem_append_right _ (List.mem_append_right _ (List.mem_append_right _ (List.mem_append_right _ h))))))
theorem qs0 : (Cond.selects "java/lang/Throwable" ⟨"java/lang/Throwable", "fillInStackTrace", "(I)Ljava/lang/Throwable;"⟩ ⟨"java/lang/Throwable", "fillInStackTrace", "(I)Ljava/lang/Throwable;"⟩) ∈ lw_all := lw_g (lw_at lw_ms 0 rfl) rfl
theorem qs1 : (Cond.selects "NightStones" ⟨"NightStones", "well", "(I)I"⟩ ⟨"NightStones", "well", "(I)I"⟩) ∈ lw_all := lw_g (lw_at lw_ms 1 rfl) rfl
theorem qs2 : (Cond.selects "NightStones" ⟨"NightStones", "found", "(LNightStones$Finding;)I"⟩ ⟨"NightStones", "found", "(LNightStones$Finding;)I"⟩) ∈ lw_all := lw_g (lw_at lw_ms 2 rfl) rfl
theorem qs3 : (Cond.selects "NightStones" ⟨"NightStones", "rowAt", "(I)LNightStones$Row;"⟩ ⟨"NightStones", "rowAt", "(I)LNightStones$Row;"⟩) ∈ lw_all := lw_g (lw_at lw_ms 3 rfl) rfl
theorem qs4 : (Cond.selects "NightStones$Reader" ⟨"NightStones$Reader", "next", "()V"⟩ ⟨"NightStones$Reader", "next", "()V"⟩) ∈ lw_all := lw_g (lw_at lw_ms 4 rfl) rfl
theorem qs5 : (Cond.selects "NightStones$Reader" ⟨"NightStones$Reader", "look", "()I"⟩ ⟨"NightStones$Reader", "look", "()I"⟩) ∈ lw_all := lw_g (lw_at lw_ms 5 rfl) rfl
theorem qs6 : (Cond.selects "NightStones$Reader" ⟨"NightStones$Reader", "isWord", "(Ljava/lang/String;)Z"⟩ ⟨"NightStones$Reader", "isWord", "(Ljava/lang/String;)Z"⟩) ∈ lw_all := lw_g (lw_at lw_ms 6 rfl) rfl
theorem qs7 : (Cond.selects "NightStones$Reader" ⟨"NightStones$Reader", "must", "(ZI)V"⟩ ⟨"NightStones$Reader", "must", "(ZI)V"⟩) ∈ lw_all := lw_g (lw_at lw_ms 7 rfl) rfl
theorem qs8 : (Cond.selects "NightStones$Reader" ⟨"NightStones$Reader", "figure", "(II)I"⟩ ⟨"NightStones$Reader", "figure", "(II)I"⟩) ∈ lw_all := lw_g (lw_at lw_ms 8 rfl) rfl
theorem qs9 : (Cond.selects "NightStones$Reader" ⟨"NightStones$Reader", "sign", "()V"⟩ ⟨"NightStones$Reader", "sign", "()V"⟩) ∈ lw_all := lw_g (lw_at lw_ms 9 rfl) rfl
theorem qs10 : (Cond.selects "NightStones$Reader" ⟨"NightStones$Reader", "begin", "(II)V"⟩ ⟨"NightStones$Reader", "begin", "(II)V"⟩) ∈ lw_all := lw_g (lw_at lw_ms 10 rfl) rfl
theorem qs11 : (Cond.selects "NightStones$Reader" ⟨"NightStones$Reader", "mover", "()V"⟩ ⟨"NightStones$Reader", "mover", "()V"⟩) ∈ lw_all := lw_g (lw_at lw_ms 11 rfl) rfl
theorem qs12 : (Cond.selects "java/util/ArrayList" ⟨"java/util/ArrayList", "add", "(Ljava/lang/Object;[Ljava/lang/Object;I)V"⟩ ⟨"java/util/ArrayList", "add", "(Ljava/lang/Object;[Ljava/lang/Object;I)V"⟩) ∈ lw_all := lw_g (lw_at lw_ms 12 rfl) rfl
theorem qs13 : (Cond.selects "java/util/ArrayList" ⟨"java/util/ArrayList", "grow", "()[Ljava/lang/Object;"⟩ ⟨"java/util/ArrayList", "grow", "()[Ljava/lang/Object;"⟩) ∈ lw_all := lw_g (lw_at lw_ms 13 rfl) rfl
theorem qs14 : (Cond.selects "java/util/ArrayList" ⟨"java/util/ArrayList", "grow", "(I)[Ljava/lang/Object;"⟩ ⟨"java/util/ArrayList", "grow", "(I)[Ljava/lang/Object;"⟩) ∈ lw_all := lw_g (lw_at lw_ms 14 rfl) rfl
theorem qs15 : (Cond.selects "NightStones" ⟨"NightStones", "isRoad", "()Z"⟩ ⟨"NightStones", "isRoad", "()Z"⟩) ∈ lw_all := lw_g (lw_at lw_ms 15 rfl) rfl
theorem qs16 : (Cond.selects "NightStones" ⟨"NightStones", "keep", "()V"⟩ ⟨"NightStones", "keep", "()V"⟩) ∈ lw_all := lw_g (lw_at lw_ms 16 rfl) rfl
theorem qs17 : (Cond.selects "NightStones$Road" ⟨"NightStones$Road", "push", "(LNightStones$Mover;)V"⟩ ⟨"NightStones$Road", "push", "(LNightStones$Mover;)V"⟩) ∈ lw_all := lw_g (lw_at lw_ms 17 rfl) rfl
theorem qs18 : (Cond.selects "NightStones$Road" ⟨"NightStones$Road", "isFree", "(I)Z"⟩ ⟨"NightStones$Road", "isFree", "(I)Z"⟩) ∈ lw_all := lw_g (lw_at lw_ms 18 rfl) rfl
theorem qs19 : (Cond.selects "NightStones" ⟨"NightStones", "isStone", "(I)Z"⟩ ⟨"NightStones", "isStone", "(I)Z"⟩) ∈ lw_all := lw_g (lw_at lw_ms 19 rfl) rfl
theorem qs20 : (Cond.selects "NightStones" ⟨"NightStones", "measure", "()Z"⟩ ⟨"NightStones", "measure", "()Z"⟩) ∈ lw_all := lw_g (lw_at lw_ms 20 rfl) rfl
theorem qs21 : (Cond.selects "NightStones" ⟨"NightStones", "at", "(II)I"⟩ ⟨"NightStones", "at", "(II)I"⟩) ∈ lw_all := lw_g (lw_at lw_ms 21 rfl) rfl
theorem qs22 : (Cond.selects "NightStones" ⟨"NightStones", "lessen", "(III)V"⟩ ⟨"NightStones", "lessen", "(III)V"⟩) ∈ lw_all := lw_g (lw_at lw_ms 22 rfl) rfl
theorem qs23 : (Cond.selects "NightStones" ⟨"NightStones", "dareOf", "(II)I"⟩ ⟨"NightStones", "dareOf", "(II)I"⟩) ∈ lw_all := lw_g (lw_at lw_ms 23 rfl) rfl
theorem qs24 : (Cond.selects "NightStones" ⟨"NightStones", "bestBy", "(I)I"⟩ ⟨"NightStones", "bestBy", "(I)I"⟩) ∈ lw_all := lw_g (lw_at lw_ms 24 rfl) rfl
theorem qs25 : (Cond.selects "NightStones" ⟨"NightStones", "isMover", "(I)Z"⟩ ⟨"NightStones", "isMover", "(I)Z"⟩) ∈ lw_all := lw_g (lw_at lw_ms 25 rfl) rfl
theorem qs26 : (Cond.selects "NightStonesModel" ⟨"NightStonesModel", "finding", "(I)I"⟩ ⟨"NightStonesModel", "finding", "(I)I"⟩) ∈ lw_all := lw_g (lw_at lw_ms 26 rfl) rfl
theorem qs27 : (Cond.selects "NightStonesModel" ⟨"NightStonesModel", "begin", "()V"⟩ ⟨"NightStonesModel", "begin", "()V"⟩) ∈ lw_all := lw_g (lw_at lw_ms 27 rfl) rfl
theorem qs28 : (Cond.selects "NightStonesModel" ⟨"NightStonesModel", "next", "()V"⟩ ⟨"NightStonesModel", "next", "()V"⟩) ∈ lw_all := lw_g (lw_at lw_ms 28 rfl) rfl
theorem qs29 : (Cond.selects "NightStonesModel" ⟨"NightStonesModel", "byteAt", "(I)I"⟩ ⟨"NightStonesModel", "byteAt", "(I)I"⟩) ∈ lw_all := lw_g (lw_at lw_ms 29 rfl) rfl
theorem qs30 : (Cond.selects "NightStonesModel" ⟨"NightStonesModel", "name", "()J"⟩ ⟨"NightStonesModel", "name", "()J"⟩) ∈ lw_all := lw_g (lw_at lw_ms 30 rfl) rfl
theorem qs31 : (Cond.selects "NightStonesModel" ⟨"NightStonesModel", "must", "(Z)V"⟩ ⟨"NightStonesModel", "must", "(Z)V"⟩) ∈ lw_all := lw_g (lw_at lw_ms 31 rfl) rfl
theorem qs32 : (Cond.selects "NightStonesModel" ⟨"NightStonesModel", "bad", "(I)V"⟩ ⟨"NightStonesModel", "bad", "(I)V"⟩) ∈ lw_all := lw_g (lw_at lw_ms 32 rfl) rfl
theorem qs33 : (Cond.selects "NightStonesModel" ⟨"NightStonesModel", "number", "(II)I"⟩ ⟨"NightStonesModel", "number", "(II)I"⟩) ∈ lw_all := lw_g (lw_at lw_ms 33 rfl) rfl
theorem qs34 : (Cond.selects "NightStonesModel" ⟨"NightStonesModel", "figures", "()I"⟩ ⟨"NightStonesModel", "figures", "()I"⟩) ∈ lw_all := lw_g (lw_at lw_ms 34 rfl) rfl
theorem qs35 : (Cond.selects "NightStonesModel" ⟨"NightStonesModel", "mustEnd", "()V"⟩ ⟨"NightStonesModel", "mustEnd", "()V"⟩) ∈ lw_all := lw_g (lw_at lw_ms 35 rfl) rfl
theorem qs36 : (Cond.selects "NightStonesModel" ⟨"NightStonesModel", "readStone", "()V"⟩ ⟨"NightStonesModel", "readStone", "()V"⟩) ∈ lw_all := lw_g (lw_at lw_ms 36 rfl) rfl
theorem qs37 : (Cond.selects "NightStonesModel" ⟨"NightStonesModel", "begins", "(II)V"⟩ ⟨"NightStonesModel", "begins", "(II)V"⟩) ∈ lw_all := lw_g (lw_at lw_ms 37 rfl) rfl
theorem qs38 : (Cond.selects "NightStonesModel" ⟨"NightStonesModel", "readMover", "()V"⟩ ⟨"NightStonesModel", "readMover", "()V"⟩) ∈ lw_all := lw_g (lw_at lw_ms 38 rfl) rfl
theorem qs39 : (Cond.selects "NightStonesModel" ⟨"NightStonesModel", "isThere", "()Z"⟩ ⟨"NightStonesModel", "isThere", "()Z"⟩) ∈ lw_all := lw_g (lw_at lw_ms 39 rfl) rfl
theorem qs40 : (Cond.selects "NightStonesModel" ⟨"NightStonesModel", "keep", "()V"⟩ ⟨"NightStonesModel", "keep", "()V"⟩) ∈ lw_all := lw_g (lw_at lw_ms 40 rfl) rfl
theorem qs41 : (Cond.selects "NightStonesModel" ⟨"NightStonesModel", "stoneOf", "(II)I"⟩ ⟨"NightStonesModel", "stoneOf", "(II)I"⟩) ∈ lw_all := lw_g (lw_at lw_ms 41 rfl) rfl
theorem qs42 : (Cond.selects "NightStonesModel" ⟨"NightStonesModel", "layNow", "(I)V"⟩ ⟨"NightStonesModel", "layNow", "(I)V"⟩) ∈ lw_all := lw_g (lw_at lw_ms 42 rfl) rfl
theorem qs43 : (Cond.selects "NightStonesModel" ⟨"NightStonesModel", "goNight", "(II)V"⟩ ⟨"NightStonesModel", "goNight", "(II)V"⟩) ∈ lw_all := lw_g (lw_at lw_ms 43 rfl) rfl
theorem qs44 : (Cond.selects "NightStonesModel" ⟨"NightStonesModel", "pushes", "(II)V"⟩ ⟨"NightStonesModel", "pushes", "(II)V"⟩) ∈ lw_all := lw_g (lw_at lw_ms 44 rfl) rfl
theorem qs45 : (Cond.selects "NightStonesModel" ⟨"NightStonesModel", "of", "(II)I"⟩ ⟨"NightStonesModel", "of", "(II)I"⟩) ∈ lw_all := lw_g (lw_at lw_ms 45 rfl) rfl
theorem qs46 : (Cond.selects "NightStonesModel" ⟨"NightStonesModel", "isFree", "(I)Z"⟩ ⟨"NightStonesModel", "isFree", "(I)Z"⟩) ∈ lw_all := lw_g (lw_at lw_ms 46 rfl) rfl
theorem qs47 : (Cond.selects "NightStonesModel" ⟨"NightStonesModel", "isStone", "(I)Z"⟩ ⟨"NightStonesModel", "isStone", "(I)Z"⟩) ∈ lw_all := lw_g (lw_at lw_ms 47 rfl) rfl
theorem qs48 : (Cond.selects "NightStonesModel" ⟨"NightStonesModel", "isTime", "(IIII)Z"⟩ ⟨"NightStonesModel", "isTime", "(IIII)Z"⟩) ∈ lw_all := lw_g (lw_at lw_ms 48 rfl) rfl
theorem qs49 : (Cond.selects "NightStonesModel" ⟨"NightStonesModel", "addTime", "(IIII)V"⟩ ⟨"NightStonesModel", "addTime", "(IIII)V"⟩) ∈ lw_all := lw_g (lw_at lw_ms 49 rfl) rfl
theorem qs50 : (Cond.selects "NightStonesModel" ⟨"NightStonesModel", "layMost", "()Z"⟩ ⟨"NightStonesModel", "layMost", "()Z"⟩) ∈ lw_all := lw_g (lw_at lw_ms 50 rfl) rfl
theorem qs51 : (Cond.selects "NightStonesModel" ⟨"NightStonesModel", "atMost", "(III)V"⟩ ⟨"NightStonesModel", "atMost", "(III)V"⟩) ∈ lw_all := lw_g (lw_at lw_ms 51 rfl) rfl
theorem qs52 : (Cond.selects "NightStonesModel" ⟨"NightStonesModel", "rests", "(I)Z"⟩ ⟨"NightStonesModel", "rests", "(I)Z"⟩) ∈ lw_all := lw_g (lw_at lw_ms 52 rfl) rfl
theorem qs53 : (Cond.selects "NightStonesModel" ⟨"NightStonesModel", "standsBy", "(II)Z"⟩ ⟨"NightStonesModel", "standsBy", "(II)Z"⟩) ∈ lw_all := lw_g (lw_at lw_ms 53 rfl) rfl
theorem qs54 : (Cond.selects "NightStonesModel" ⟨"NightStonesModel", "brings", "(II)I"⟩ ⟨"NightStonesModel", "brings", "(II)I"⟩) ∈ lw_all := lw_g (lw_at lw_ms 54 rfl) rfl
theorem qs55 : (Cond.selects "NightStonesModel" ⟨"NightStonesModel", "bestBy", "(I)I"⟩ ⟨"NightStonesModel", "bestBy", "(I)I"⟩) ∈ lw_all := lw_g (lw_at lw_ms 55 rfl) rfl
theorem qs56 : (Cond.selects "NightStonesModel" ⟨"NightStonesModel", "isMover", "(I)Z"⟩ ⟨"NightStonesModel", "isMover", "(I)Z"⟩) ∈ lw_all := lw_g (lw_at lw_ms 56 rfl) rfl
theorem qs57 : (Cond.selects "NightStonesModel" ⟨"NightStonesModel", "sizeOf", "(I)I"⟩ ⟨"NightStonesModel", "sizeOf", "(I)I"⟩) ∈ lw_all := lw_g (lw_at lw_ms 57 rfl) rfl
theorem qs58 : (Cond.selects "NightStonesModel" ⟨"NightStonesModel", "thiefSize", "(I)I"⟩ ⟨"NightStonesModel", "thiefSize", "(I)I"⟩) ∈ lw_all := lw_g (lw_at lw_ms 58 rfl) rfl
theorem qs59 : (Cond.selects "NightStonesModel" ⟨"NightStonesModel", "began", "(I)V"⟩ ⟨"NightStonesModel", "began", "(I)V"⟩) ∈ lw_all := lw_g (lw_at lw_ms 59 rfl) rfl
theorem qs60 : (Cond.selects "NightStonesModel" ⟨"NightStonesModel", "plainSize", "(I)I"⟩ ⟨"NightStonesModel", "plainSize", "(I)I"⟩) ∈ lw_all := lw_g (lw_at lw_ms 60 rfl) rfl
theorem qs61 : (Cond.selects "NightStonesModel" ⟨"NightStonesModel", "markOf", "(I)I"⟩ ⟨"NightStonesModel", "markOf", "(I)I"⟩) ∈ lw_all := lw_g (lw_at lw_ms 61 rfl) rfl
