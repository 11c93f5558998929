-- ===== PART A: goes FIRST, ahead of the names: the tables' words, and 'selects' of the private methods out of them =====
/-- a private method of a class that the tables say can be made, by its rows of tables_1 -/
def lw_okq (q : MethodName × Nat) : Prop := (q.1.cls ≠ "java/lang/invoke/MethodHandle" ∧ q.1.cls ≠ "java/lang/invoke/VarHandle") ∧ Cond.instantiable q.1.cls q.2 ∈ tables_1 ∧ Cond.privateMethod q.1 ∈ tables_1 ∧ Cond.instanceMethod q.1 ∈ tables_1
set_option maxRecDepth 100000
theorem lw_t1 {w : Cond} (h : w ∈ tables_1_1) : w ∈ tables_1 := List.mem_append_left _ h
theorem lw_t2 {w : Cond} (h : w ∈ tables_1_2) : w ∈ tables_1 := List.mem_append_right _ (List.mem_append_left _ h)
theorem lw_t3 {w : Cond} (h : w ∈ tables_1_3) : w ∈ tables_1 := List.mem_append_right _ (List.mem_append_right _ (List.mem_append_left _ h))
theorem lw_t4 {w : Cond} (h : w ∈ tables_1_4) : w ∈ tables_1 := List.mem_append_right _ (List.mem_append_right _ (List.mem_append_right _ (List.mem_append_left _ h)))
theorem lw_t5 {w : Cond} (h : w ∈ tables_1_5) : w ∈ tables_1 := List.mem_append_right _ (List.mem_append_right _ (List.mem_append_right _ (List.mem_append_right _ (List.mem_append_left _ h))))
theorem lw_t6 {w : Cond} (h : w ∈ tables_1_6) : w ∈ tables_1 := List.mem_append_right _ (List.mem_append_right _ (List.mem_append_right _ (List.mem_append_right _ (List.mem_append_right _ (List.mem_append_left _ h)))))
theorem lw_t7 {w : Cond} (h : w ∈ tables_1_7) : w ∈ tables_1 := List.mem_append_right _ (List.mem_append_right _ (List.mem_append_right _ (List.mem_append_right _ (List.mem_append_right _ (List.mem_append_right _ (List.mem_append_left _ h))))))
theorem lw_t8 {w : Cond} (h : w ∈ tables_1_8) : w ∈ tables_1 := List.mem_append_right _ (List.mem_append_right _ (List.mem_append_right _ (List.mem_append_right _ (List.mem_append_right _ (List.mem_append_right _ (List.mem_append_right _ (List.mem_append_left _ h)))))))
theorem lw_t9 {w : Cond} (h : w ∈ tables_1_9) : w ∈ tables_1 := List.mem_append_right _ (List.mem_append_right _ (List.mem_append_right _ (List.mem_append_right _ (List.mem_append_right _ (List.mem_append_right _ (List.mem_append_right _ (List.mem_append_right _ h)))))))
theorem lw_p0 : lw_okq (⟨"java/lang/NullPointerException", "getExtendedNPEMessage", "()Ljava/lang/String;"⟩, 8) := ⟨⟨by decide +kernel, by decide +kernel⟩, lw_t1 (List.mem_of_getElem? (i := 80) rfl), lw_t1 (List.mem_of_getElem? (i := 78) rfl), lw_t1 (List.mem_of_getElem? (i := 79) rfl)⟩
theorem lw_p1 : lw_okq (⟨"java/lang/Throwable", "fillInStackTrace", "(I)Ljava/lang/Throwable;"⟩, 6) := ⟨⟨by decide +kernel, by decide +kernel⟩, lw_t1 (List.mem_of_getElem? (i := 92) rfl), lw_t1 (List.mem_of_getElem? (i := 90) rfl), lw_t1 (List.mem_of_getElem? (i := 91) rfl)⟩
theorem lw_p2 : lw_okq (⟨"TinFen", "is", "(I)Z"⟩, 25) := ⟨⟨by decide +kernel, by decide +kernel⟩, lw_t1 (List.mem_of_getElem? (i := 28) rfl), lw_t2 (List.mem_of_getElem? (i := 183) rfl), lw_t2 (List.mem_of_getElem? (i := 184) rfl)⟩
theorem lw_p3 : lw_okq (⟨"TinFen", "none", "(I)I"⟩, 25) := ⟨⟨by decide +kernel, by decide +kernel⟩, lw_t1 (List.mem_of_getElem? (i := 28) rfl), lw_t3 (List.mem_of_getElem? (i := 12) rfl), lw_t3 (List.mem_of_getElem? (i := 13) rfl)⟩
theorem lw_p4 : lw_okq (⟨"TinFen", "four", "(I)V"⟩, 25) := ⟨⟨by decide +kernel, by decide +kernel⟩, lw_t1 (List.mem_of_getElem? (i := 28) rfl), lw_t3 (List.mem_of_getElem? (i := 33) rfl), lw_t3 (List.mem_of_getElem? (i := 34) rfl)⟩
theorem lw_p5 : lw_okq (⟨"TinFen", "accepts", "(II)Z"⟩, 25) := ⟨⟨by decide +kernel, by decide +kernel⟩, lw_t1 (List.mem_of_getElem? (i := 28) rfl), lw_t3 (List.mem_of_getElem? (i := 41) rfl), lw_t3 (List.mem_of_getElem? (i := 42) rfl)⟩
theorem lw_p6 : lw_okq (⟨"TinFen$Reader", "part", "()V"⟩, 19) := ⟨⟨by decide +kernel, by decide +kernel⟩, lw_t1 (List.mem_of_getElem? (i := 38) rfl), lw_t3 (List.mem_of_getElem? (i := 128) rfl), lw_t3 (List.mem_of_getElem? (i := 129) rfl)⟩
theorem lw_p7 : lw_okq (⟨"TinFen$Reader", "isFullOf", "(I)Z"⟩, 19) := ⟨⟨by decide +kernel, by decide +kernel⟩, lw_t1 (List.mem_of_getElem? (i := 38) rfl), lw_t3 (List.mem_of_getElem? (i := 166) rfl), lw_t3 (List.mem_of_getElem? (i := 167) rfl)⟩
theorem lw_p8 : lw_okq (⟨"TinFen$Reader", "newName", "()J"⟩, 19) := ⟨⟨by decide +kernel, by decide +kernel⟩, lw_t1 (List.mem_of_getElem? (i := 38) rfl), lw_t3 (List.mem_of_getElem? (i := 186) rfl), lw_t3 (List.mem_of_getElem? (i := 187) rfl)⟩
theorem lw_p9 : lw_okq (⟨"TinFen$Reader", "aTrait", "(J)V"⟩, 19) := ⟨⟨by decide +kernel, by decide +kernel⟩, lw_t1 (List.mem_of_getElem? (i := 38) rfl), lw_t3 (List.mem_of_getElem? (i := 213) rfl), lw_t3 (List.mem_of_getElem? (i := 214) rfl)⟩
theorem lw_p10 : lw_okq (⟨"TinFen$Reader", "word", "(I)V"⟩, 19) := ⟨⟨by decide +kernel, by decide +kernel⟩, lw_t1 (List.mem_of_getElem? (i := 38) rfl), lw_t3 (List.mem_of_getElem? (i := 217) rfl), lw_t3 (List.mem_of_getElem? (i := 218) rfl)⟩
theorem lw_p11 : lw_okq (⟨"TinFen$Reader", "aPerson", "(LTinFen$Person;)V"⟩, 19) := ⟨⟨by decide +kernel, by decide +kernel⟩, lw_t1 (List.mem_of_getElem? (i := 38) rfl), lw_t4 (List.mem_of_getElem? (i := 8) rfl), lw_t4 (List.mem_of_getElem? (i := 9) rfl)⟩
theorem lw_p12 : lw_okq (⟨"TinFen$Reader", "isNext", "(I)Z"⟩, 19) := ⟨⟨by decide +kernel, by decide +kernel⟩, lw_t1 (List.mem_of_getElem? (i := 38) rfl), lw_t4 (List.mem_of_getElem? (i := 12) rfl), lw_t4 (List.mem_of_getElem? (i := 13) rfl)⟩
theorem lw_p13 : lw_okq (⟨"TinFen$Reader", "isName", "()Z"⟩, 19) := ⟨⟨by decide +kernel, by decide +kernel⟩, lw_t1 (List.mem_of_getElem? (i := 38) rfl), lw_t4 (List.mem_of_getElem? (i := 16) rfl), lw_t4 (List.mem_of_getElem? (i := 17) rfl)⟩
theorem lw_p14 : lw_okq (⟨"TinFen$Reader", "trait", "()I"⟩, 19) := ⟨⟨by decide +kernel, by decide +kernel⟩, lw_t1 (List.mem_of_getElem? (i := 38) rfl), lw_t4 (List.mem_of_getElem? (i := 24) rfl), lw_t4 (List.mem_of_getElem? (i := 25) rfl)⟩
theorem lw_p15 : lw_okq (⟨"TinFen$Reader", "known", "(I)I"⟩, 19) := ⟨⟨by decide +kernel, by decide +kernel⟩, lw_t1 (List.mem_of_getElem? (i := 38) rfl), lw_t4 (List.mem_of_getElem? (i := 28) rfl), lw_t4 (List.mem_of_getElem? (i := 29) rfl)⟩
def lw_privs_1 : List (MethodName × Nat) := [(⟨"java/lang/NullPointerException", "getExtendedNPEMessage", "()Ljava/lang/String;"⟩, 8), (⟨"java/lang/Throwable", "fillInStackTrace", "(I)Ljava/lang/Throwable;"⟩, 6), (⟨"TinFen", "is", "(I)Z"⟩, 25), (⟨"TinFen", "none", "(I)I"⟩, 25), (⟨"TinFen", "four", "(I)V"⟩, 25), (⟨"TinFen", "accepts", "(II)Z"⟩, 25), (⟨"TinFen$Reader", "part", "()V"⟩, 19), (⟨"TinFen$Reader", "isFullOf", "(I)Z"⟩, 19), (⟨"TinFen$Reader", "newName", "()J"⟩, 19), (⟨"TinFen$Reader", "aTrait", "(J)V"⟩, 19), (⟨"TinFen$Reader", "word", "(I)V"⟩, 19), (⟨"TinFen$Reader", "aPerson", "(LTinFen$Person;)V"⟩, 19), (⟨"TinFen$Reader", "isNext", "(I)Z"⟩, 19), (⟨"TinFen$Reader", "isName", "()Z"⟩, 19), (⟨"TinFen$Reader", "trait", "()I"⟩, 19), (⟨"TinFen$Reader", "known", "(I)I"⟩, 19)]
theorem lw_r1 : ∀ q ∈ lw_privs_1, lw_okq q := List.forall_mem_cons.mpr ⟨lw_p0, List.forall_mem_cons.mpr ⟨lw_p1, List.forall_mem_cons.mpr ⟨lw_p2, List.forall_mem_cons.mpr ⟨lw_p3, List.forall_mem_cons.mpr ⟨lw_p4, List.forall_mem_cons.mpr ⟨lw_p5, List.forall_mem_cons.mpr ⟨lw_p6, List.forall_mem_cons.mpr ⟨lw_p7, List.forall_mem_cons.mpr ⟨lw_p8, List.forall_mem_cons.mpr ⟨lw_p9, List.forall_mem_cons.mpr ⟨lw_p10, List.forall_mem_cons.mpr ⟨lw_p11, List.forall_mem_cons.mpr ⟨lw_p12, List.forall_mem_cons.mpr ⟨lw_p13, List.forall_mem_cons.mpr ⟨lw_p14, List.forall_mem_cons.mpr ⟨lw_p15, fun _ h => absurd h List.not_mem_nil⟩⟩⟩⟩⟩⟩⟩⟩⟩⟩⟩⟩⟩⟩⟩⟩
theorem lw_p16 : lw_okq (⟨"TinFen$Reader", "aLane", "()V"⟩, 19) := ⟨⟨by decide +kernel, by decide +kernel⟩, lw_t1 (List.mem_of_getElem? (i := 38) rfl), lw_t4 (List.mem_of_getElem? (i := 32) rfl), lw_t4 (List.mem_of_getElem? (i := 33) rfl)⟩
theorem lw_p17 : lw_okq (⟨"TinFen$Reader", "person", "()I"⟩, 19) := ⟨⟨by decide +kernel, by decide +kernel⟩, lw_t1 (List.mem_of_getElem? (i := 38) rfl), lw_t4 (List.mem_of_getElem? (i := 36) rfl), lw_t4 (List.mem_of_getElem? (i := 37) rfl)⟩
theorem lw_p18 : lw_okq (⟨"TinFen$Reader", "aTin", "(J)V"⟩, 19) := ⟨⟨by decide +kernel, by decide +kernel⟩, lw_t1 (List.mem_of_getElem? (i := 38) rfl), lw_t4 (List.mem_of_getElem? (i := 45) rfl), lw_t4 (List.mem_of_getElem? (i := 46) rfl)⟩
theorem lw_p19 : lw_okq (⟨"TinFen", "refused", "(LTinFen$Wrong;)I"⟩, 25) := ⟨⟨by decide +kernel, by decide +kernel⟩, lw_t1 (List.mem_of_getElem? (i := 28) rfl), lw_t4 (List.mem_of_getElem? (i := 107) rfl), lw_t4 (List.mem_of_getElem? (i := 108) rfl)⟩
theorem lw_p20 : lw_okq (⟨"TinFen", "gives", "(I)I"⟩, 25) := ⟨⟨by decide +kernel, by decide +kernel⟩, lw_t1 (List.mem_of_getElem? (i := 28) rfl), lw_t4 (List.mem_of_getElem? (i := 111) rfl), lw_t4 (List.mem_of_getElem? (i := 112) rfl)⟩
theorem lw_p21 : lw_okq (⟨"TinFen$Reader", "step", "()V"⟩, 19) := ⟨⟨by decide +kernel, by decide +kernel⟩, lw_t1 (List.mem_of_getElem? (i := 38) rfl), lw_t4 (List.mem_of_getElem? (i := 125) rfl), lw_t4 (List.mem_of_getElem? (i := 126) rfl)⟩
theorem lw_p22 : lw_okq (⟨"TinFen$Reader", "order", "(LTinFen$Step;)V"⟩, 19) := ⟨⟨by decide +kernel, by decide +kernel⟩, lw_t1 (List.mem_of_getElem? (i := 38) rfl), lw_t4 (List.mem_of_getElem? (i := 163) rfl), lw_t4 (List.mem_of_getElem? (i := 164) rfl)⟩
theorem lw_p23 : lw_okq (⟨"TinFen$Reader", "tin", "()I"⟩, 19) := ⟨⟨by decide +kernel, by decide +kernel⟩, lw_t1 (List.mem_of_getElem? (i := 38) rfl), lw_t4 (List.mem_of_getElem? (i := 167) rfl), lw_t4 (List.mem_of_getElem? (i := 168) rfl)⟩
theorem lw_p24 : lw_okq (⟨"TinFen$Reader", "test", "(LTinFen$Step;)V"⟩, 19) := ⟨⟨by decide +kernel, by decide +kernel⟩, lw_t1 (List.mem_of_getElem? (i := 38) rfl), lw_t4 (List.mem_of_getElem? (i := 172) rfl), lw_t4 (List.mem_of_getElem? (i := 173) rfl)⟩
theorem lw_p25 : lw_okq (⟨"TinFen", "ofLead", "()I"⟩, 25) := ⟨⟨by decide +kernel, by decide +kernel⟩, lw_t1 (List.mem_of_getElem? (i := 28) rfl), lw_t4 (List.mem_of_getElem? (i := 196) rfl), lw_t4 (List.mem_of_getElem? (i := 197) rfl)⟩
theorem lw_p26 : lw_okq (⟨"TinFen", "allTins", "()I"⟩, 25) := ⟨⟨by decide +kernel, by decide +kernel⟩, lw_t1 (List.mem_of_getElem? (i := 28) rfl), lw_t4 (List.mem_of_getElem? (i := 200) rfl), lw_t4 (List.mem_of_getElem? (i := 201) rfl)⟩
theorem lw_p27 : lw_okq (⟨"TinFen", "isTrait", "(I)Z"⟩, 25) := ⟨⟨by decide +kernel, by decide +kernel⟩, lw_t1 (List.mem_of_getElem? (i := 28) rfl), lw_t4 (List.mem_of_getElem? (i := 213) rfl), lw_t4 (List.mem_of_getElem? (i := 214) rfl)⟩
theorem lw_p28 : lw_okq (⟨"TinFen", "isPerson", "(J)Z"⟩, 25) := ⟨⟨by decide +kernel, by decide +kernel⟩, lw_t1 (List.mem_of_getElem? (i := 28) rfl), lw_t4 (List.mem_of_getElem? (i := 221) rfl), lw_t4 (List.mem_of_getElem? (i := 222) rfl)⟩
theorem lw_p29 : lw_okq (⟨"TinFen", "isTin", "(I)Z"⟩, 25) := ⟨⟨by decide +kernel, by decide +kernel⟩, lw_t1 (List.mem_of_getElem? (i := 28) rfl), lw_t4 (List.mem_of_getElem? (i := 229) rfl), lw_t4 (List.mem_of_getElem? (i := 230) rfl)⟩
theorem lw_p30 : lw_okq (⟨"TinFen", "orNothing", "(I)I"⟩, 25) := ⟨⟨by decide +kernel, by decide +kernel⟩, lw_t1 (List.mem_of_getElem? (i := 28) rfl), lw_t4 (List.mem_of_getElem? (i := 233) rfl), lw_t4 (List.mem_of_getElem? (i := 234) rfl)⟩
theorem lw_p31 : lw_okq (⟨"TinFen", "laysFar", "(II)V"⟩, 25) := ⟨⟨by decide +kernel, by decide +kernel⟩, lw_t1 (List.mem_of_getElem? (i := 28) rfl), lw_t5 (List.mem_of_getElem? (i := 85) rfl), lw_t5 (List.mem_of_getElem? (i := 86) rfl)⟩
def lw_privs_2 : List (MethodName × Nat) := [(⟨"TinFen$Reader", "aLane", "()V"⟩, 19), (⟨"TinFen$Reader", "person", "()I"⟩, 19), (⟨"TinFen$Reader", "aTin", "(J)V"⟩, 19), (⟨"TinFen", "refused", "(LTinFen$Wrong;)I"⟩, 25), (⟨"TinFen", "gives", "(I)I"⟩, 25), (⟨"TinFen$Reader", "step", "()V"⟩, 19), (⟨"TinFen$Reader", "order", "(LTinFen$Step;)V"⟩, 19), (⟨"TinFen$Reader", "tin", "()I"⟩, 19), (⟨"TinFen$Reader", "test", "(LTinFen$Step;)V"⟩, 19), (⟨"TinFen", "ofLead", "()I"⟩, 25), (⟨"TinFen", "allTins", "()I"⟩, 25), (⟨"TinFen", "isTrait", "(I)Z"⟩, 25), (⟨"TinFen", "isPerson", "(J)Z"⟩, 25), (⟨"TinFen", "isTin", "(I)Z"⟩, 25), (⟨"TinFen", "orNothing", "(I)I"⟩, 25), (⟨"TinFen", "laysFar", "(II)V"⟩, 25)]
theorem lw_r2 : ∀ q ∈ lw_privs_2, lw_okq q := List.forall_mem_cons.mpr ⟨lw_p16, List.forall_mem_cons.mpr ⟨lw_p17, List.forall_mem_cons.mpr ⟨lw_p18, List.forall_mem_cons.mpr ⟨lw_p19, List.forall_mem_cons.mpr ⟨lw_p20, List.forall_mem_cons.mpr ⟨lw_p21, List.forall_mem_cons.mpr ⟨lw_p22, List.forall_mem_cons.mpr ⟨lw_p23, List.forall_mem_cons.mpr ⟨lw_p24, List.forall_mem_cons.mpr ⟨lw_p25, List.forall_mem_cons.mpr ⟨lw_p26, List.forall_mem_cons.mpr ⟨lw_p27, List.forall_mem_cons.mpr ⟨lw_p28, List.forall_mem_cons.mpr ⟨lw_p29, List.forall_mem_cons.mpr ⟨lw_p30, List.forall_mem_cons.mpr ⟨lw_p31, fun _ h => absurd h List.not_mem_nil⟩⟩⟩⟩⟩⟩⟩⟩⟩⟩⟩⟩⟩⟩⟩⟩
theorem lw_p32 : lw_okq (⟨"TinFen", "wrongTin", "(I)I"⟩, 25) := ⟨⟨by decide +kernel, by decide +kernel⟩, lw_t1 (List.mem_of_getElem? (i := 28) rfl), lw_t5 (List.mem_of_getElem? (i := 98) rfl), lw_t5 (List.mem_of_getElem? (i := 99) rfl)⟩
theorem lw_p33 : lw_okq (⟨"TinFen", "laysRound", "(I)V"⟩, 25) := ⟨⟨by decide +kernel, by decide +kernel⟩, lw_t1 (List.mem_of_getElem? (i := 28) rfl), lw_t5 (List.mem_of_getElem? (i := 110) rfl), lw_t5 (List.mem_of_getElem? (i := 111) rfl)⟩
theorem lw_p34 : lw_okq (⟨"TinFen", "goesRound", "(III)V"⟩, 25) := ⟨⟨by decide +kernel, by decide +kernel⟩, lw_t1 (List.mem_of_getElem? (i := 28) rfl), lw_t5 (List.mem_of_getElem? (i := 114) rfl), lw_t5 (List.mem_of_getElem? (i := 115) rfl)⟩
theorem lw_p35 : lw_okq (⟨"TinFen", "wrongTins", "(I)I"⟩, 25) := ⟨⟨by decide +kernel, by decide +kernel⟩, lw_t1 (List.mem_of_getElem? (i := 28) rfl), lw_t5 (List.mem_of_getElem? (i := 126) rfl), lw_t5 (List.mem_of_getElem? (i := 127) rfl)⟩
theorem lw_p36 : lw_okq (⟨"TinFen", "areTins", "(J)Z"⟩, 25) := ⟨⟨by decide +kernel, by decide +kernel⟩, lw_t1 (List.mem_of_getElem? (i := 28) rfl), lw_t5 (List.mem_of_getElem? (i := 130) rfl), lw_t5 (List.mem_of_getElem? (i := 131) rfl)⟩
theorem lw_p37 : lw_okq (⟨"TinFen", "mostOf", "(II)I"⟩, 25) := ⟨⟨by decide +kernel, by decide +kernel⟩, lw_t1 (List.mem_of_getElem? (i := 28) rfl), lw_t5 (List.mem_of_getElem? (i := 134) rfl), lw_t5 (List.mem_of_getElem? (i := 135) rfl)⟩
theorem lw_p38 : lw_okq (⟨"TinFen", "givingsOf", "(II)I"⟩, 25) := ⟨⟨by decide +kernel, by decide +kernel⟩, lw_t1 (List.mem_of_getElem? (i := 28) rfl), lw_t5 (List.mem_of_getElem? (i := 148) rfl), lw_t5 (List.mem_of_getElem? (i := 149) rfl)⟩
theorem lw_p39 : lw_okq (⟨"TinFen", "covering", "()I"⟩, 25) := ⟨⟨by decide +kernel, by decide +kernel⟩, lw_t1 (List.mem_of_getElem? (i := 28) rfl), lw_t5 (List.mem_of_getElem? (i := 160) rfl), lw_t5 (List.mem_of_getElem? (i := 161) rfl)⟩
theorem lw_p40 : lw_okq (⟨"TinFen", "blaming", "()I"⟩, 25) := ⟨⟨by decide +kernel, by decide +kernel⟩, lw_t1 (List.mem_of_getElem? (i := 28) rfl), lw_t5 (List.mem_of_getElem? (i := 175) rfl), lw_t5 (List.mem_of_getElem? (i := 176) rfl)⟩
theorem lw_p41 : lw_okq (⟨"TinFen", "wheelsFrom", "(IIII)I"⟩, 25) := ⟨⟨by decide +kernel, by decide +kernel⟩, lw_t1 (List.mem_of_getElem? (i := 28) rfl), lw_t5 (List.mem_of_getElem? (i := 189) rfl), lw_t5 (List.mem_of_getElem? (i := 190) rfl)⟩
theorem lw_p42 : lw_okq (⟨"TinFen", "passesTo", "(I)I"⟩, 25) := ⟨⟨by decide +kernel, by decide +kernel⟩, lw_t1 (List.mem_of_getElem? (i := 28) rfl), lw_t5 (List.mem_of_getElem? (i := 193) rfl), lw_t5 (List.mem_of_getElem? (i := 194) rfl)⟩
theorem lw_p43 : lw_okq (⟨"TinFen", "wrongSeen", "(II)I"⟩, 25) := ⟨⟨by decide +kernel, by decide +kernel⟩, lw_t1 (List.mem_of_getElem? (i := 28) rfl), lw_t5 (List.mem_of_getElem? (i := 201) rfl), lw_t5 (List.mem_of_getElem? (i := 202) rfl)⟩
theorem lw_p44 : lw_okq (⟨"TinFen", "seenMany", "(II)I"⟩, 25) := ⟨⟨by decide +kernel, by decide +kernel⟩, lw_t1 (List.mem_of_getElem? (i := 28) rfl), lw_t5 (List.mem_of_getElem? (i := 206) rfl), lw_t5 (List.mem_of_getElem? (i := 207) rfl)⟩
theorem lw_p45 : lw_okq (⟨"TinFen", "isSeen", "(III)Z"⟩, 25) := ⟨⟨by decide +kernel, by decide +kernel⟩, lw_t1 (List.mem_of_getElem? (i := 28) rfl), lw_t5 (List.mem_of_getElem? (i := 210) rfl), lw_t5 (List.mem_of_getElem? (i := 211) rfl)⟩
theorem lw_p46 : lw_okq (⟨"TinFen", "mostAlike", "(III)I"⟩, 25) := ⟨⟨by decide +kernel, by decide +kernel⟩, lw_t1 (List.mem_of_getElem? (i := 28) rfl), lw_t5 (List.mem_of_getElem? (i := 222) rfl), lw_t5 (List.mem_of_getElem? (i := 223) rfl)⟩
theorem lw_p47 : lw_okq (⟨"TinFen", "wrongGame", "(IIII)I"⟩, 25) := ⟨⟨by decide +kernel, by decide +kernel⟩, lw_t1 (List.mem_of_getElem? (i := 28) rfl), lw_t5 (List.mem_of_getElem? (i := 230) rfl), lw_t5 (List.mem_of_getElem? (i := 231) rfl)⟩
def lw_privs_3 : List (MethodName × Nat) := [(⟨"TinFen", "wrongTin", "(I)I"⟩, 25), (⟨"TinFen", "laysRound", "(I)V"⟩, 25), (⟨"TinFen", "goesRound", "(III)V"⟩, 25), (⟨"TinFen", "wrongTins", "(I)I"⟩, 25), (⟨"TinFen", "areTins", "(J)Z"⟩, 25), (⟨"TinFen", "mostOf", "(II)I"⟩, 25), (⟨"TinFen", "givingsOf", "(II)I"⟩, 25), (⟨"TinFen", "covering", "()I"⟩, 25), (⟨"TinFen", "blaming", "()I"⟩, 25), (⟨"TinFen", "wheelsFrom", "(IIII)I"⟩, 25), (⟨"TinFen", "passesTo", "(I)I"⟩, 25), (⟨"TinFen", "wrongSeen", "(II)I"⟩, 25), (⟨"TinFen", "seenMany", "(II)I"⟩, 25), (⟨"TinFen", "isSeen", "(III)Z"⟩, 25), (⟨"TinFen", "mostAlike", "(III)I"⟩, 25), (⟨"TinFen", "wrongGame", "(IIII)I"⟩, 25)]
theorem lw_r3 : ∀ q ∈ lw_privs_3, lw_okq q := List.forall_mem_cons.mpr ⟨lw_p32, List.forall_mem_cons.mpr ⟨lw_p33, List.forall_mem_cons.mpr ⟨lw_p34, List.forall_mem_cons.mpr ⟨lw_p35, List.forall_mem_cons.mpr ⟨lw_p36, List.forall_mem_cons.mpr ⟨lw_p37, List.forall_mem_cons.mpr ⟨lw_p38, List.forall_mem_cons.mpr ⟨lw_p39, List.forall_mem_cons.mpr ⟨lw_p40, List.forall_mem_cons.mpr ⟨lw_p41, List.forall_mem_cons.mpr ⟨lw_p42, List.forall_mem_cons.mpr ⟨lw_p43, List.forall_mem_cons.mpr ⟨lw_p44, List.forall_mem_cons.mpr ⟨lw_p45, List.forall_mem_cons.mpr ⟨lw_p46, List.forall_mem_cons.mpr ⟨lw_p47, fun _ h => absurd h List.not_mem_nil⟩⟩⟩⟩⟩⟩⟩⟩⟩⟩⟩⟩⟩⟩⟩⟩
theorem lw_p48 : lw_okq (⟨"TinFen", "playing", "(III)I"⟩, 25) := ⟨⟨by decide +kernel, by decide +kernel⟩, lw_t1 (List.mem_of_getElem? (i := 28) rfl), lw_t5 (List.mem_of_getElem? (i := 235) rfl), lw_t5 (List.mem_of_getElem? (i := 236) rfl)⟩
theorem lw_p49 : lw_okq (⟨"TinFen", "plays", "(IIII)I"⟩, 25) := ⟨⟨by decide +kernel, by decide +kernel⟩, lw_t1 (List.mem_of_getElem? (i := 28) rfl), lw_t6 (List.mem_of_getElem? (i := 32) rfl), lw_t6 (List.mem_of_getElem? (i := 33) rfl)⟩
theorem lw_p50 : lw_okq (⟨"TinFen", "tell", "(JJ)Z"⟩, 25) := ⟨⟨by decide +kernel, by decide +kernel⟩, lw_t1 (List.mem_of_getElem? (i := 28) rfl), lw_t6 (List.mem_of_getElem? (i := 47) rfl), lw_t6 (List.mem_of_getElem? (i := 48) rfl)⟩
theorem lw_p51 : lw_okq (⟨"TinFen", "livesBy", "(I)V"⟩, 25) := ⟨⟨by decide +kernel, by decide +kernel⟩, lw_t1 (List.mem_of_getElem? (i := 28) rfl), lw_t6 (List.mem_of_getElem? (i := 60) rfl), lw_t6 (List.mem_of_getElem? (i := 61) rfl)⟩
theorem lw_p52 : lw_okq (⟨"TinFen", "does", "(LTinFen$Step;)Z"⟩, 25) := ⟨⟨by decide +kernel, by decide +kernel⟩, lw_t1 (List.mem_of_getElem? (i := 28) rfl), lw_t6 (List.mem_of_getElem? (i := 68) rfl), lw_t6 (List.mem_of_getElem? (i := 69) rfl)⟩
theorem lw_p53 : lw_okq (⟨"TinFen", "passesOn", "(II)Z"⟩, 25) := ⟨⟨by decide +kernel, by decide +kernel⟩, lw_t1 (List.mem_of_getElem? (i := 28) rfl), lw_t6 (List.mem_of_getElem? (i := 72) rfl), lw_t6 (List.mem_of_getElem? (i := 73) rfl)⟩
theorem lw_p54 : lw_okq (⟨"TinFen", "bitesOn", "(I)Z"⟩, 25) := ⟨⟨by decide +kernel, by decide +kernel⟩, lw_t1 (List.mem_of_getElem? (i := 28) rfl), lw_t6 (List.mem_of_getElem? (i := 76) rfl), lw_t6 (List.mem_of_getElem? (i := 77) rfl)⟩
theorem lw_p55 : lw_okq (⟨"TinFen", "draw", "(I)I"⟩, 25) := ⟨⟨by decide +kernel, by decide +kernel⟩, lw_t1 (List.mem_of_getElem? (i := 28) rfl), lw_t6 (List.mem_of_getElem? (i := 80) rfl), lw_t6 (List.mem_of_getElem? (i := 81) rfl)⟩
theorem lw_p56 : lw_okq (⟨"TinFen", "passesAny", "()Z"⟩, 25) := ⟨⟨by decide +kernel, by decide +kernel⟩, lw_t1 (List.mem_of_getElem? (i := 28) rfl), lw_t6 (List.mem_of_getElem? (i := 85) rfl), lw_t6 (List.mem_of_getElem? (i := 86) rfl)⟩
theorem lw_p57 : lw_okq (⟨"TinFen", "holds", "(LTinFen$Step;)Z"⟩, 25) := ⟨⟨by decide +kernel, by decide +kernel⟩, lw_t1 (List.mem_of_getElem? (i := 28) rfl), lw_t6 (List.mem_of_getElem? (i := 89) rfl), lw_t6 (List.mem_of_getElem? (i := 90) rfl)⟩
theorem lw_p58 : lw_okq (⟨"TinFen", "behindEnds", "(I)I"⟩, 25) := ⟨⟨by decide +kernel, by decide +kernel⟩, lw_t1 (List.mem_of_getElem? (i := 28) rfl), lw_t6 (List.mem_of_getElem? (i := 93) rfl), lw_t6 (List.mem_of_getElem? (i := 94) rfl)⟩
theorem lw_p59 : lw_okq (⟨"TinFenModel", "empties", "(I)V"⟩, 47) := ⟨⟨by decide +kernel, by decide +kernel⟩, lw_t6 (List.mem_of_getElem? (i := 132) rfl), lw_t6 (List.mem_of_getElem? (i := 138) rfl), lw_t6 (List.mem_of_getElem? (i := 139) rfl)⟩
theorem lw_p60 : lw_okq (⟨"TinFenModel", "no", "(I)Z"⟩, 47) := ⟨⟨by decide +kernel, by decide +kernel⟩, lw_t6 (List.mem_of_getElem? (i := 132) rfl), lw_t7 (List.mem_of_getElem? (i := 61) rfl), lw_t7 (List.mem_of_getElem? (i := 62) rfl)⟩
theorem lw_p61 : lw_okq (⟨"TinFenModel", "placed", "(II)I"⟩, 47) := ⟨⟨by decide +kernel, by decide +kernel⟩, lw_t6 (List.mem_of_getElem? (i := 132) rfl), lw_t7 (List.mem_of_getElem? (i := 69) rfl), lw_t7 (List.mem_of_getElem? (i := 70) rfl)⟩
theorem lw_p62 : lw_okq (⟨"TinFenModel", "trayed", "(I)I"⟩, 47) := ⟨⟨by decide +kernel, by decide +kernel⟩, lw_t6 (List.mem_of_getElem? (i := 132) rfl), lw_t7 (List.mem_of_getElem? (i := 73) rfl), lw_t7 (List.mem_of_getElem? (i := 74) rfl)⟩
theorem lw_p63 : lw_okq (⟨"TinFenModel", "lay", "(I)V"⟩, 47) := ⟨⟨by decide +kernel, by decide +kernel⟩, lw_t6 (List.mem_of_getElem? (i := 132) rfl), lw_t7 (List.mem_of_getElem? (i := 93) rfl), lw_t7 (List.mem_of_getElem? (i := 94) rfl)⟩
def lw_privs_4 : List (MethodName × Nat) := [(⟨"TinFen", "playing", "(III)I"⟩, 25), (⟨"TinFen", "plays", "(IIII)I"⟩, 25), (⟨"TinFen", "tell", "(JJ)Z"⟩, 25), (⟨"TinFen", "livesBy", "(I)V"⟩, 25), (⟨"TinFen", "does", "(LTinFen$Step;)Z"⟩, 25), (⟨"TinFen", "passesOn", "(II)Z"⟩, 25), (⟨"TinFen", "bitesOn", "(I)Z"⟩, 25), (⟨"TinFen", "draw", "(I)I"⟩, 25), (⟨"TinFen", "passesAny", "()Z"⟩, 25), (⟨"TinFen", "holds", "(LTinFen$Step;)Z"⟩, 25), (⟨"TinFen", "behindEnds", "(I)I"⟩, 25), (⟨"TinFenModel", "empties", "(I)V"⟩, 47), (⟨"TinFenModel", "no", "(I)Z"⟩, 47), (⟨"TinFenModel", "placed", "(II)I"⟩, 47), (⟨"TinFenModel", "trayed", "(I)I"⟩, 47), (⟨"TinFenModel", "lay", "(I)V"⟩, 47)]
theorem lw_r4 : ∀ q ∈ lw_privs_4, lw_okq q := List.forall_mem_cons.mpr ⟨lw_p48, List.forall_mem_cons.mpr ⟨lw_p49, List.forall_mem_cons.mpr ⟨lw_p50, List.forall_mem_cons.mpr ⟨lw_p51, List.forall_mem_cons.mpr ⟨lw_p52, List.forall_mem_cons.mpr ⟨lw_p53, List.forall_mem_cons.mpr ⟨lw_p54, List.forall_mem_cons.mpr ⟨lw_p55, List.forall_mem_cons.mpr ⟨lw_p56, List.forall_mem_cons.mpr ⟨lw_p57, List.forall_mem_cons.mpr ⟨lw_p58, List.forall_mem_cons.mpr ⟨lw_p59, List.forall_mem_cons.mpr ⟨lw_p60, List.forall_mem_cons.mpr ⟨lw_p61, List.forall_mem_cons.mpr ⟨lw_p62, List.forall_mem_cons.mpr ⟨lw_p63, fun _ h => absurd h List.not_mem_nil⟩⟩⟩⟩⟩⟩⟩⟩⟩⟩⟩⟩⟩⟩⟩⟩
theorem lw_p64 : lw_okq (⟨"TinFenModel", "starts", "(II)Z"⟩, 47) := ⟨⟨by decide +kernel, by decide +kernel⟩, lw_t6 (List.mem_of_getElem? (i := 132) rfl), lw_t7 (List.mem_of_getElem? (i := 105) rfl), lw_t7 (List.mem_of_getElem? (i := 106) rfl)⟩
theorem lw_p65 : lw_okq (⟨"TinFenModel", "advance", "()V"⟩, 47) := ⟨⟨by decide +kernel, by decide +kernel⟩, lw_t6 (List.mem_of_getElem? (i := 132) rfl), lw_t7 (List.mem_of_getElem? (i := 109) rfl), lw_t7 (List.mem_of_getElem? (i := 110) rfl)⟩
theorem lw_p66 : lw_okq (⟨"TinFenModel", "look2", "(I)I"⟩, 47) := ⟨⟨by decide +kernel, by decide +kernel⟩, lw_t6 (List.mem_of_getElem? (i := 132) rfl), lw_t7 (List.mem_of_getElem? (i := 113) rfl), lw_t7 (List.mem_of_getElem? (i := 114) rfl)⟩
theorem lw_p67 : lw_okq (⟨"TinFenModel", "isSignByte", "(I)Z"⟩, 47) := ⟨⟨by decide +kernel, by decide +kernel⟩, lw_t6 (List.mem_of_getElem? (i := 132) rfl), lw_t7 (List.mem_of_getElem? (i := 125) rfl), lw_t7 (List.mem_of_getElem? (i := 126) rfl)⟩
theorem lw_p68 : lw_okq (⟨"TinFenModel", "readPart", "()V"⟩, 47) := ⟨⟨by decide +kernel, by decide +kernel⟩, lw_t6 (List.mem_of_getElem? (i := 132) rfl), lw_t7 (List.mem_of_getElem? (i := 129) rfl), lw_t7 (List.mem_of_getElem? (i := 130) rfl)⟩
theorem lw_p69 : lw_okq (⟨"TinFenModel", "isOdds", "()Z"⟩, 47) := ⟨⟨by decide +kernel, by decide +kernel⟩, lw_t6 (List.mem_of_getElem? (i := 132) rfl), lw_t7 (List.mem_of_getElem? (i := 133) rfl), lw_t7 (List.mem_of_getElem? (i := 134) rfl)⟩
theorem lw_p70 : lw_okq (⟨"TinFenModel", "isWord", "(J)Z"⟩, 47) := ⟨⟨by decide +kernel, by decide +kernel⟩, lw_t6 (List.mem_of_getElem? (i := 132) rfl), lw_t7 (List.mem_of_getElem? (i := 140) rfl), lw_t7 (List.mem_of_getElem? (i := 141) rfl)⟩
theorem lw_p71 : lw_okq (⟨"TinFenModel", "readOdds", "()V"⟩, 47) := ⟨⟨by decide +kernel, by decide +kernel⟩, lw_t6 (List.mem_of_getElem? (i := 132) rfl), lw_t7 (List.mem_of_getElem? (i := 144) rfl), lw_t7 (List.mem_of_getElem? (i := 145) rfl)⟩
theorem lw_p72 : lw_okq (⟨"TinFenModel", "fail", "(II)V"⟩, 47) := ⟨⟨by decide +kernel, by decide +kernel⟩, lw_t6 (List.mem_of_getElem? (i := 132) rfl), lw_t7 (List.mem_of_getElem? (i := 148) rfl), lw_t7 (List.mem_of_getElem? (i := 149) rfl)⟩
theorem lw_p73 : lw_okq (⟨"TinFenModel", "count", "(II)I"⟩, 47) := ⟨⟨by decide +kernel, by decide +kernel⟩, lw_t6 (List.mem_of_getElem? (i := 132) rfl), lw_t7 (List.mem_of_getElem? (i := 152) rfl), lw_t7 (List.mem_of_getElem? (i := 153) rfl)⟩
theorem lw_p74 : lw_okq (⟨"TinFenModel", "amiss", "()V"⟩, 47) := ⟨⟨by decide +kernel, by decide +kernel⟩, lw_t6 (List.mem_of_getElem? (i := 132) rfl), lw_t7 (List.mem_of_getElem? (i := 156) rfl), lw_t7 (List.mem_of_getElem? (i := 157) rfl)⟩
theorem lw_p75 : lw_okq (⟨"TinFenModel", "isTrait", "()Z"⟩, 47) := ⟨⟨by decide +kernel, by decide +kernel⟩, lw_t6 (List.mem_of_getElem? (i := 132) rfl), lw_t7 (List.mem_of_getElem? (i := 163) rfl), lw_t7 (List.mem_of_getElem? (i := 164) rfl)⟩
theorem lw_p76 : lw_okq (⟨"TinFenModel", "readTrait", "()V"⟩, 47) := ⟨⟨by decide +kernel, by decide +kernel⟩, lw_t6 (List.mem_of_getElem? (i := 132) rfl), lw_t7 (List.mem_of_getElem? (i := 167) rfl), lw_t7 (List.mem_of_getElem? (i := 168) rfl)⟩
theorem lw_p77 : lw_okq (⟨"TinFenModel", "readNew", "(II)I"⟩, 47) := ⟨⟨by decide +kernel, by decide +kernel⟩, lw_t6 (List.mem_of_getElem? (i := 132) rfl), lw_t7 (List.mem_of_getElem? (i := 171) rfl), lw_t7 (List.mem_of_getElem? (i := 172) rfl)⟩
theorem lw_p78 : lw_okq (⟨"TinFenModel", "isName", "()Z"⟩, 47) := ⟨⟨by decide +kernel, by decide +kernel⟩, lw_t6 (List.mem_of_getElem? (i := 132) rfl), lw_t7 (List.mem_of_getElem? (i := 175) rfl), lw_t7 (List.mem_of_getElem? (i := 176) rfl)⟩
theorem lw_p79 : lw_okq (⟨"TinFenModel", "isKept", "()Z"⟩, 47) := ⟨⟨by decide +kernel, by decide +kernel⟩, lw_t6 (List.mem_of_getElem? (i := 132) rfl), lw_t7 (List.mem_of_getElem? (i := 179) rfl), lw_t7 (List.mem_of_getElem? (i := 180) rfl)⟩
def lw_privs_5 : List (MethodName × Nat) := [(⟨"TinFenModel", "starts", "(II)Z"⟩, 47), (⟨"TinFenModel", "advance", "()V"⟩, 47), (⟨"TinFenModel", "look2", "(I)I"⟩, 47), (⟨"TinFenModel", "isSignByte", "(I)Z"⟩, 47), (⟨"TinFenModel", "readPart", "()V"⟩, 47), (⟨"TinFenModel", "isOdds", "()Z"⟩, 47), (⟨"TinFenModel", "isWord", "(J)Z"⟩, 47), (⟨"TinFenModel", "readOdds", "()V"⟩, 47), (⟨"TinFenModel", "fail", "(II)V"⟩, 47), (⟨"TinFenModel", "count", "(II)I"⟩, 47), (⟨"TinFenModel", "amiss", "()V"⟩, 47), (⟨"TinFenModel", "isTrait", "()Z"⟩, 47), (⟨"TinFenModel", "readTrait", "()V"⟩, 47), (⟨"TinFenModel", "readNew", "(II)I"⟩, 47), (⟨"TinFenModel", "isName", "()Z"⟩, 47), (⟨"TinFenModel", "isKept", "()Z"⟩, 47)]
theorem lw_r5 : ∀ q ∈ lw_privs_5, lw_okq q := List.forall_mem_cons.mpr ⟨lw_p64, List.forall_mem_cons.mpr ⟨lw_p65, List.forall_mem_cons.mpr ⟨lw_p66, List.forall_mem_cons.mpr ⟨lw_p67, List.forall_mem_cons.mpr ⟨lw_p68, List.forall_mem_cons.mpr ⟨lw_p69, List.forall_mem_cons.mpr ⟨lw_p70, List.forall_mem_cons.mpr ⟨lw_p71, List.forall_mem_cons.mpr ⟨lw_p72, List.forall_mem_cons.mpr ⟨lw_p73, List.forall_mem_cons.mpr ⟨lw_p74, List.forall_mem_cons.mpr ⟨lw_p75, List.forall_mem_cons.mpr ⟨lw_p76, List.forall_mem_cons.mpr ⟨lw_p77, List.forall_mem_cons.mpr ⟨lw_p78, List.forall_mem_cons.mpr ⟨lw_p79, fun _ h => absurd h List.not_mem_nil⟩⟩⟩⟩⟩⟩⟩⟩⟩⟩⟩⟩⟩⟩⟩⟩
theorem lw_p80 : lw_okq (⟨"TinFenModel", "isWorth", "()Z"⟩, 47) := ⟨⟨by decide +kernel, by decide +kernel⟩, lw_t6 (List.mem_of_getElem? (i := 132) rfl), lw_t7 (List.mem_of_getElem? (i := 183) rfl), lw_t7 (List.mem_of_getElem? (i := 184) rfl)⟩
theorem lw_p81 : lw_okq (⟨"TinFenModel", "isPerson", "()Z"⟩, 47) := ⟨⟨by decide +kernel, by decide +kernel⟩, lw_t6 (List.mem_of_getElem? (i := 132) rfl), lw_t7 (List.mem_of_getElem? (i := 187) rfl), lw_t7 (List.mem_of_getElem? (i := 188) rfl)⟩
theorem lw_p82 : lw_okq (⟨"TinFenModel", "isIs", "()Z"⟩, 47) := ⟨⟨by decide +kernel, by decide +kernel⟩, lw_t6 (List.mem_of_getElem? (i := 132) rfl), lw_t7 (List.mem_of_getElem? (i := 191) rfl), lw_t7 (List.mem_of_getElem? (i := 192) rfl)⟩
theorem lw_p83 : lw_okq (⟨"TinFenModel", "isLane", "()Z"⟩, 47) := ⟨⟨by decide +kernel, by decide +kernel⟩, lw_t6 (List.mem_of_getElem? (i := 132) rfl), lw_t7 (List.mem_of_getElem? (i := 195) rfl), lw_t7 (List.mem_of_getElem? (i := 196) rfl)⟩
theorem lw_p84 : lw_okq (⟨"TinFenModel", "isTin", "()Z"⟩, 47) := ⟨⟨by decide +kernel, by decide +kernel⟩, lw_t6 (List.mem_of_getElem? (i := 132) rfl), lw_t7 (List.mem_of_getElem? (i := 199) rfl), lw_t7 (List.mem_of_getElem? (i := 200) rfl)⟩
theorem lw_p85 : lw_okq (⟨"TinFenModel", "isOf", "()Z"⟩, 47) := ⟨⟨by decide +kernel, by decide +kernel⟩, lw_t6 (List.mem_of_getElem? (i := 132) rfl), lw_t7 (List.mem_of_getElem? (i := 203) rfl), lw_t7 (List.mem_of_getElem? (i := 204) rfl)⟩
theorem lw_p86 : lw_okq (⟨"TinFenModel", "isLead", "()Z"⟩, 47) := ⟨⟨by decide +kernel, by decide +kernel⟩, lw_t6 (List.mem_of_getElem? (i := 132) rfl), lw_t7 (List.mem_of_getElem? (i := 207) rfl), lw_t7 (List.mem_of_getElem? (i := 208) rfl)⟩
theorem lw_p87 : lw_okq (⟨"TinFenModel", "stepWord", "()I"⟩, 47) := ⟨⟨by decide +kernel, by decide +kernel⟩, lw_t6 (List.mem_of_getElem? (i := 132) rfl), lw_t7 (List.mem_of_getElem? (i := 211) rfl), lw_t7 (List.mem_of_getElem? (i := 212) rfl)⟩
theorem lw_p88 : lw_okq (⟨"TinFenModel", "testWord", "()I"⟩, 47) := ⟨⟨by decide +kernel, by decide +kernel⟩, lw_t6 (List.mem_of_getElem? (i := 132) rfl), lw_t7 (List.mem_of_getElem? (i := 215) rfl), lw_t7 (List.mem_of_getElem? (i := 216) rfl)⟩
theorem lw_p89 : lw_okq (⟨"TinFenModel", "isOn", "()Z"⟩, 47) := ⟨⟨by decide +kernel, by decide +kernel⟩, lw_t6 (List.mem_of_getElem? (i := 132) rfl), lw_t7 (List.mem_of_getElem? (i := 219) rfl), lw_t7 (List.mem_of_getElem? (i := 220) rfl)⟩
theorem lw_p90 : lw_okq (⟨"TinFenModel", "isEnd", "()Z"⟩, 47) := ⟨⟨by decide +kernel, by decide +kernel⟩, lw_t6 (List.mem_of_getElem? (i := 132) rfl), lw_t7 (List.mem_of_getElem? (i := 223) rfl), lw_t7 (List.mem_of_getElem? (i := 224) rfl)⟩
theorem lw_p91 : lw_okq (⟨"TinFenModel", "named", "(II)I"⟩, 47) := ⟨⟨by decide +kernel, by decide +kernel⟩, lw_t6 (List.mem_of_getElem? (i := 132) rfl), lw_t7 (List.mem_of_getElem? (i := 227) rfl), lw_t7 (List.mem_of_getElem? (i := 228) rfl)⟩
theorem lw_p92 : lw_okq (⟨"TinFenModel", "must", "(Z)V"⟩, 47) := ⟨⟨by decide +kernel, by decide +kernel⟩, lw_t6 (List.mem_of_getElem? (i := 132) rfl), lw_t7 (List.mem_of_getElem? (i := 234) rfl), lw_t7 (List.mem_of_getElem? (i := 235) rfl)⟩
theorem lw_p93 : lw_okq (⟨"TinFenModel", "readPerson", "()V"⟩, 47) := ⟨⟨by decide +kernel, by decide +kernel⟩, lw_t6 (List.mem_of_getElem? (i := 132) rfl), lw_t7 (List.mem_of_getElem? (i := 238) rfl), lw_t7 (List.mem_of_getElem? (i := 239) rfl)⟩
theorem lw_p94 : lw_okq (⟨"TinFenModel", "perhaps", "(Z)Z"⟩, 47) := ⟨⟨by decide +kernel, by decide +kernel⟩, lw_t6 (List.mem_of_getElem? (i := 132) rfl), lw_t8 (List.mem_of_getElem? (i := 2) rfl), lw_t8 (List.mem_of_getElem? (i := 3) rfl)⟩
theorem lw_p95 : lw_okq (⟨"TinFenModel", "told", "(II)I"⟩, 47) := ⟨⟨by decide +kernel, by decide +kernel⟩, lw_t6 (List.mem_of_getElem? (i := 132) rfl), lw_t8 (List.mem_of_getElem? (i := 6) rfl), lw_t8 (List.mem_of_getElem? (i := 7) rfl)⟩
def lw_privs_6 : List (MethodName × Nat) := [(⟨"TinFenModel", "isWorth", "()Z"⟩, 47), (⟨"TinFenModel", "isPerson", "()Z"⟩, 47), (⟨"TinFenModel", "isIs", "()Z"⟩, 47), (⟨"TinFenModel", "isLane", "()Z"⟩, 47), (⟨"TinFenModel", "isTin", "()Z"⟩, 47), (⟨"TinFenModel", "isOf", "()Z"⟩, 47), (⟨"TinFenModel", "isLead", "()Z"⟩, 47), (⟨"TinFenModel", "stepWord", "()I"⟩, 47), (⟨"TinFenModel", "testWord", "()I"⟩, 47), (⟨"TinFenModel", "isOn", "()Z"⟩, 47), (⟨"TinFenModel", "isEnd", "()Z"⟩, 47), (⟨"TinFenModel", "named", "(II)I"⟩, 47), (⟨"TinFenModel", "must", "(Z)V"⟩, 47), (⟨"TinFenModel", "readPerson", "()V"⟩, 47), (⟨"TinFenModel", "perhaps", "(Z)Z"⟩, 47), (⟨"TinFenModel", "told", "(II)I"⟩, 47)]
theorem lw_r6 : ∀ q ∈ lw_privs_6, lw_okq q := List.forall_mem_cons.mpr ⟨lw_p80, List.forall_mem_cons.mpr ⟨lw_p81, List.forall_mem_cons.mpr ⟨lw_p82, List.forall_mem_cons.mpr ⟨lw_p83, List.forall_mem_cons.mpr ⟨lw_p84, List.forall_mem_cons.mpr ⟨lw_p85, List.forall_mem_cons.mpr ⟨lw_p86, List.forall_mem_cons.mpr ⟨lw_p87, List.forall_mem_cons.mpr ⟨lw_p88, List.forall_mem_cons.mpr ⟨lw_p89, List.forall_mem_cons.mpr ⟨lw_p90, List.forall_mem_cons.mpr ⟨lw_p91, List.forall_mem_cons.mpr ⟨lw_p92, List.forall_mem_cons.mpr ⟨lw_p93, List.forall_mem_cons.mpr ⟨lw_p94, List.forall_mem_cons.mpr ⟨lw_p95, fun _ h => absurd h List.not_mem_nil⟩⟩⟩⟩⟩⟩⟩⟩⟩⟩⟩⟩⟩⟩⟩⟩
theorem lw_p96 : lw_okq (⟨"TinFenModel", "readLane", "()V"⟩, 47) := ⟨⟨by decide +kernel, by decide +kernel⟩, lw_t6 (List.mem_of_getElem? (i := 132) rfl), lw_t8 (List.mem_of_getElem? (i := 14) rfl), lw_t8 (List.mem_of_getElem? (i := 15) rfl)⟩
theorem lw_p97 : lw_okq (⟨"TinFenModel", "readTold", "(II)I"⟩, 47) := ⟨⟨by decide +kernel, by decide +kernel⟩, lw_t6 (List.mem_of_getElem? (i := 132) rfl), lw_t8 (List.mem_of_getElem? (i := 18) rfl), lw_t8 (List.mem_of_getElem? (i := 19) rfl)⟩
theorem lw_p98 : lw_okq (⟨"TinFenModel", "meet", "(III)V"⟩, 47) := ⟨⟨by decide +kernel, by decide +kernel⟩, lw_t6 (List.mem_of_getElem? (i := 132) rfl), lw_t8 (List.mem_of_getElem? (i := 22) rfl), lw_t8 (List.mem_of_getElem? (i := 23) rfl)⟩
theorem lw_p99 : lw_okq (⟨"TinFenModel", "readTin", "()V"⟩, 47) := ⟨⟨by decide +kernel, by decide +kernel⟩, lw_t6 (List.mem_of_getElem? (i := 132) rfl), lw_t8 (List.mem_of_getElem? (i := 26) rfl), lw_t8 (List.mem_of_getElem? (i := 27) rfl)⟩
theorem lw_p100 : lw_okq (⟨"TinFenModel", "strikes", "(IIIII)V"⟩, 47) := ⟨⟨by decide +kernel, by decide +kernel⟩, lw_t6 (List.mem_of_getElem? (i := 132) rfl), lw_t8 (List.mem_of_getElem? (i := 30) rfl), lw_t8 (List.mem_of_getElem? (i := 31) rfl)⟩
theorem lw_p101 : lw_okq (⟨"TinFenModel", "isSign", "(I)Z"⟩, 47) := ⟨⟨by decide +kernel, by decide +kernel⟩, lw_t6 (List.mem_of_getElem? (i := 132) rfl), lw_t8 (List.mem_of_getElem? (i := 34) rfl), lw_t8 (List.mem_of_getElem? (i := 35) rfl)⟩
theorem lw_p102 : lw_okq (⟨"TinFenModel", "isWell", "()Z"⟩, 47) := ⟨⟨by decide +kernel, by decide +kernel⟩, lw_t6 (List.mem_of_getElem? (i := 132) rfl), lw_t8 (List.mem_of_getElem? (i := 38) rfl), lw_t8 (List.mem_of_getElem? (i := 39) rfl)⟩
theorem lw_p103 : lw_okq (⟨"TinFenModel", "copy", "(II)V"⟩, 47) := ⟨⟨by decide +kernel, by decide +kernel⟩, lw_t6 (List.mem_of_getElem? (i := 132) rfl), lw_t8 (List.mem_of_getElem? (i := 42) rfl), lw_t8 (List.mem_of_getElem? (i := 43) rfl)⟩
theorem lw_p104 : lw_okq (⟨"TinFenModel", "readStep", "(I)V"⟩, 47) := ⟨⟨by decide +kernel, by decide +kernel⟩, lw_t6 (List.mem_of_getElem? (i := 132) rfl), lw_t8 (List.mem_of_getElem? (i := 50) rfl), lw_t8 (List.mem_of_getElem? (i := 51) rfl)⟩
theorem lw_p105 : lw_okq (⟨"TinFenModel", "readRest", "(I)V"⟩, 47) := ⟨⟨by decide +kernel, by decide +kernel⟩, lw_t6 (List.mem_of_getElem? (i := 132) rfl), lw_t8 (List.mem_of_getElem? (i := 54) rfl), lw_t8 (List.mem_of_getElem? (i := 55) rfl)⟩
theorem lw_p106 : lw_okq (⟨"TinFenModel", "readTest", "(I)V"⟩, 47) := ⟨⟨by decide +kernel, by decide +kernel⟩, lw_t6 (List.mem_of_getElem? (i := 132) rfl), lw_t8 (List.mem_of_getElem? (i := 58) rfl), lw_t8 (List.mem_of_getElem? (i := 59) rfl)⟩
theorem lw_p107 : lw_okq (⟨"TinFenModel", "refuse", "(I)I"⟩, 47) := ⟨⟨by decide +kernel, by decide +kernel⟩, lw_t6 (List.mem_of_getElem? (i := 132) rfl), lw_t8 (List.mem_of_getElem? (i := 67) rfl), lw_t8 (List.mem_of_getElem? (i := 68) rfl)⟩
theorem lw_p108 : lw_okq (⟨"TinFenModel", "tinsThat", "(I)I"⟩, 47) := ⟨⟨by decide +kernel, by decide +kernel⟩, lw_t6 (List.mem_of_getElem? (i := 132) rfl), lw_t8 (List.mem_of_getElem? (i := 71) rfl), lw_t8 (List.mem_of_getElem? (i := 72) rfl)⟩
theorem lw_p109 : lw_okq (⟨"TinFenModel", "isGone", "(I)Z"⟩, 47) := ⟨⟨by decide +kernel, by decide +kernel⟩, lw_t6 (List.mem_of_getElem? (i := 132) rfl), lw_t8 (List.mem_of_getElem? (i := 75) rfl), lw_t8 (List.mem_of_getElem? (i := 76) rfl)⟩
theorem lw_p110 : lw_okq (⟨"TinFenModel", "allThere", "()I"⟩, 47) := ⟨⟨by decide +kernel, by decide +kernel⟩, lw_t6 (List.mem_of_getElem? (i := 132) rfl), lw_t8 (List.mem_of_getElem? (i := 79) rfl), lw_t8 (List.mem_of_getElem? (i := 80) rfl)⟩
theorem lw_p111 : lw_okq (⟨"TinFenModel", "allTins", "()I"⟩, 47) := ⟨⟨by decide +kernel, by decide +kernel⟩, lw_t6 (List.mem_of_getElem? (i := 132) rfl), lw_t8 (List.mem_of_getElem? (i := 83) rfl), lw_t8 (List.mem_of_getElem? (i := 84) rfl)⟩
def lw_privs_7 : List (MethodName × Nat) := [(⟨"TinFenModel", "readLane", "()V"⟩, 47), (⟨"TinFenModel", "readTold", "(II)I"⟩, 47), (⟨"TinFenModel", "meet", "(III)V"⟩, 47), (⟨"TinFenModel", "readTin", "()V"⟩, 47), (⟨"TinFenModel", "strikes", "(IIIII)V"⟩, 47), (⟨"TinFenModel", "isSign", "(I)Z"⟩, 47), (⟨"TinFenModel", "isWell", "()Z"⟩, 47), (⟨"TinFenModel", "copy", "(II)V"⟩, 47), (⟨"TinFenModel", "readStep", "(I)V"⟩, 47), (⟨"TinFenModel", "readRest", "(I)V"⟩, 47), (⟨"TinFenModel", "readTest", "(I)V"⟩, 47), (⟨"TinFenModel", "refuse", "(I)I"⟩, 47), (⟨"TinFenModel", "tinsThat", "(I)I"⟩, 47), (⟨"TinFenModel", "isGone", "(I)Z"⟩, 47), (⟨"TinFenModel", "allThere", "()I"⟩, 47), (⟨"TinFenModel", "allTins", "()I"⟩, 47)]
theorem lw_r7 : ∀ q ∈ lw_privs_7, lw_okq q := List.forall_mem_cons.mpr ⟨lw_p96, List.forall_mem_cons.mpr ⟨lw_p97, List.forall_mem_cons.mpr ⟨lw_p98, List.forall_mem_cons.mpr ⟨lw_p99, List.forall_mem_cons.mpr ⟨lw_p100, List.forall_mem_cons.mpr ⟨lw_p101, List.forall_mem_cons.mpr ⟨lw_p102, List.forall_mem_cons.mpr ⟨lw_p103, List.forall_mem_cons.mpr ⟨lw_p104, List.forall_mem_cons.mpr ⟨lw_p105, List.forall_mem_cons.mpr ⟨lw_p106, List.forall_mem_cons.mpr ⟨lw_p107, List.forall_mem_cons.mpr ⟨lw_p108, List.forall_mem_cons.mpr ⟨lw_p109, List.forall_mem_cons.mpr ⟨lw_p110, List.forall_mem_cons.mpr ⟨lw_p111, fun _ h => absurd h List.not_mem_nil⟩⟩⟩⟩⟩⟩⟩⟩⟩⟩⟩⟩⟩⟩⟩⟩
theorem lw_p112 : lw_okq (⟨"TinFenModel", "worthAll", "(I)I"⟩, 47) := ⟨⟨by decide +kernel, by decide +kernel⟩, lw_t6 (List.mem_of_getElem? (i := 132) rfl), lw_t8 (List.mem_of_getElem? (i := 87) rfl), lw_t8 (List.mem_of_getElem? (i := 88) rfl)⟩
theorem lw_p113 : lw_okq (⟨"TinFenModel", "worthOf", "(I)I"⟩, 47) := ⟨⟨by decide +kernel, by decide +kernel⟩, lw_t6 (List.mem_of_getElem? (i := 132) rfl), lw_t8 (List.mem_of_getElem? (i := 91) rfl), lw_t8 (List.mem_of_getElem? (i := 92) rfl)⟩
theorem lw_p114 : lw_okq (⟨"TinFenModel", "isTraitAt", "(I)Z"⟩, 47) := ⟨⟨by decide +kernel, by decide +kernel⟩, lw_t6 (List.mem_of_getElem? (i := 132) rfl), lw_t8 (List.mem_of_getElem? (i := 99) rfl), lw_t8 (List.mem_of_getElem? (i := 100) rfl)⟩
theorem lw_p115 : lw_okq (⟨"TinFenModel", "isPersonAt", "(J)Z"⟩, 47) := ⟨⟨by decide +kernel, by decide +kernel⟩, lw_t6 (List.mem_of_getElem? (i := 132) rfl), lw_t8 (List.mem_of_getElem? (i := 107) rfl), lw_t8 (List.mem_of_getElem? (i := 108) rfl)⟩
theorem lw_p116 : lw_okq (⟨"TinFenModel", "tinsOn", "(I)I"⟩, 47) := ⟨⟨by decide +kernel, by decide +kernel⟩, lw_t6 (List.mem_of_getElem? (i := 132) rfl), lw_t8 (List.mem_of_getElem? (i := 112) rfl), lw_t8 (List.mem_of_getElem? (i := 113) rfl)⟩
theorem lw_p117 : lw_okq (⟨"TinFenModel", "isTinAt", "(I)Z"⟩, 47) := ⟨⟨by decide +kernel, by decide +kernel⟩, lw_t6 (List.mem_of_getElem? (i := 132) rfl), lw_t8 (List.mem_of_getElem? (i := 120) rfl), lw_t8 (List.mem_of_getElem? (i := 121) rfl)⟩
theorem lw_p118 : lw_okq (⟨"TinFenModel", "isTray", "(I)Z"⟩, 47) := ⟨⟨by decide +kernel, by decide +kernel⟩, lw_t6 (List.mem_of_getElem? (i := 132) rfl), lw_t8 (List.mem_of_getElem? (i := 128) rfl), lw_t8 (List.mem_of_getElem? (i := 129) rfl)⟩
theorem lw_p119 : lw_okq (⟨"TinFenModel", "passes", "(II)Z"⟩, 47) := ⟨⟨by decide +kernel, by decide +kernel⟩, lw_t6 (List.mem_of_getElem? (i := 132) rfl), lw_t8 (List.mem_of_getElem? (i := 138) rfl), lw_t8 (List.mem_of_getElem? (i := 139) rfl)⟩
theorem lw_p120 : lw_okq (⟨"TinFenModel", "nextOf", "(II)I"⟩, 47) := ⟨⟨by decide +kernel, by decide +kernel⟩, lw_t6 (List.mem_of_getElem? (i := 132) rfl), lw_t8 (List.mem_of_getElem? (i := 142) rfl), lw_t8 (List.mem_of_getElem? (i := 143) rfl)⟩
theorem lw_p121 : lw_okq (⟨"TinFenModel", "isTrue", "(II)Z"⟩, 47) := ⟨⟨by decide +kernel, by decide +kernel⟩, lw_t6 (List.mem_of_getElem? (i := 132) rfl), lw_t8 (List.mem_of_getElem? (i := 146) rfl), lw_t8 (List.mem_of_getElem? (i := 147) rfl)⟩
theorem lw_p122 : lw_okq (⟨"TinFenModel", "finds", "(I)V"⟩, 47) := ⟨⟨by decide +kernel, by decide +kernel⟩, lw_t6 (List.mem_of_getElem? (i := 132) rfl), lw_t8 (List.mem_of_getElem? (i := 154) rfl), lw_t8 (List.mem_of_getElem? (i := 155) rfl)⟩
theorem lw_p123 : lw_okq (⟨"TinFenModel", "teaches", "(IIZ)Z"⟩, 47) := ⟨⟨by decide +kernel, by decide +kernel⟩, lw_t6 (List.mem_of_getElem? (i := 132) rfl), lw_t8 (List.mem_of_getElem? (i := 174) rfl), lw_t8 (List.mem_of_getElem? (i := 175) rfl)⟩
theorem lw_p124 : lw_okq (⟨"TinFenModel", "whyNoWay", "(II)I"⟩, 47) := ⟨⟨by decide +kernel, by decide +kernel⟩, lw_t6 (List.mem_of_getElem? (i := 132) rfl), lw_t8 (List.mem_of_getElem? (i := 196) rfl), lw_t8 (List.mem_of_getElem? (i := 197) rfl)⟩
theorem lw_p125 : lw_okq (⟨"TinFenModel", "laysFar", "(II)V"⟩, 47) := ⟨⟨by decide +kernel, by decide +kernel⟩, lw_t6 (List.mem_of_getElem? (i := 132) rfl), lw_t8 (List.mem_of_getElem? (i := 200) rfl), lw_t8 (List.mem_of_getElem? (i := 201) rfl)⟩
theorem lw_p126 : lw_okq (⟨"TinFenModel", "whyNoTin", "(I)I"⟩, 47) := ⟨⟨by decide +kernel, by decide +kernel⟩, lw_t6 (List.mem_of_getElem? (i := 132) rfl), lw_t8 (List.mem_of_getElem? (i := 212) rfl), lw_t8 (List.mem_of_getElem? (i := 213) rfl)⟩
theorem lw_p127 : lw_okq (⟨"TinFenModel", "laysRound", "(I)V"⟩, 47) := ⟨⟨by decide +kernel, by decide +kernel⟩, lw_t6 (List.mem_of_getElem? (i := 132) rfl), lw_t8 (List.mem_of_getElem? (i := 224) rfl), lw_t8 (List.mem_of_getElem? (i := 225) rfl)⟩
def lw_privs_8 : List (MethodName × Nat) := [(⟨"TinFenModel", "worthAll", "(I)I"⟩, 47), (⟨"TinFenModel", "worthOf", "(I)I"⟩, 47), (⟨"TinFenModel", "isTraitAt", "(I)Z"⟩, 47), (⟨"TinFenModel", "isPersonAt", "(J)Z"⟩, 47), (⟨"TinFenModel", "tinsOn", "(I)I"⟩, 47), (⟨"TinFenModel", "isTinAt", "(I)Z"⟩, 47), (⟨"TinFenModel", "isTray", "(I)Z"⟩, 47), (⟨"TinFenModel", "passes", "(II)Z"⟩, 47), (⟨"TinFenModel", "nextOf", "(II)I"⟩, 47), (⟨"TinFenModel", "isTrue", "(II)Z"⟩, 47), (⟨"TinFenModel", "finds", "(I)V"⟩, 47), (⟨"TinFenModel", "teaches", "(IIZ)Z"⟩, 47), (⟨"TinFenModel", "whyNoWay", "(II)I"⟩, 47), (⟨"TinFenModel", "laysFar", "(II)V"⟩, 47), (⟨"TinFenModel", "whyNoTin", "(I)I"⟩, 47), (⟨"TinFenModel", "laysRound", "(I)V"⟩, 47)]
theorem lw_r8 : ∀ q ∈ lw_privs_8, lw_okq q := List.forall_mem_cons.mpr ⟨lw_p112, List.forall_mem_cons.mpr ⟨lw_p113, List.forall_mem_cons.mpr ⟨lw_p114, List.forall_mem_cons.mpr ⟨lw_p115, List.forall_mem_cons.mpr ⟨lw_p116, List.forall_mem_cons.mpr ⟨lw_p117, List.forall_mem_cons.mpr ⟨lw_p118, List.forall_mem_cons.mpr ⟨lw_p119, List.forall_mem_cons.mpr ⟨lw_p120, List.forall_mem_cons.mpr ⟨lw_p121, List.forall_mem_cons.mpr ⟨lw_p122, List.forall_mem_cons.mpr ⟨lw_p123, List.forall_mem_cons.mpr ⟨lw_p124, List.forall_mem_cons.mpr ⟨lw_p125, List.forall_mem_cons.mpr ⟨lw_p126, List.forall_mem_cons.mpr ⟨lw_p127, fun _ h => absurd h List.not_mem_nil⟩⟩⟩⟩⟩⟩⟩⟩⟩⟩⟩⟩⟩⟩⟩⟩
theorem lw_p128 : lw_okq (⟨"TinFenModel", "goesRound", "(III)V"⟩, 47) := ⟨⟨by decide +kernel, by decide +kernel⟩, lw_t6 (List.mem_of_getElem? (i := 132) rfl), lw_t8 (List.mem_of_getElem? (i := 228) rfl), lw_t8 (List.mem_of_getElem? (i := 229) rfl)⟩
theorem lw_p129 : lw_okq (⟨"TinFenModel", "whyNoTins", "(I)I"⟩, 47) := ⟨⟨by decide +kernel, by decide +kernel⟩, lw_t6 (List.mem_of_getElem? (i := 132) rfl), lw_t9 (List.mem_of_getElem? (i := 0) rfl), lw_t9 (List.mem_of_getElem? (i := 1) rfl)⟩
theorem lw_p130 : lw_okq (⟨"TinFenModel", "laysGivings", "(IIIZ)I"⟩, 47) := ⟨⟨by decide +kernel, by decide +kernel⟩, lw_t6 (List.mem_of_getElem? (i := 132) rfl), lw_t9 (List.mem_of_getElem? (i := 4) rfl), lw_t9 (List.mem_of_getElem? (i := 5) rfl)⟩
theorem lw_p131 : lw_okq (⟨"TinFenModel", "laysTin", "(IZ)V"⟩, 47) := ⟨⟨by decide +kernel, by decide +kernel⟩, lw_t6 (List.mem_of_getElem? (i := 132) rfl), lw_t9 (List.mem_of_getElem? (i := 8) rfl), lw_t9 (List.mem_of_getElem? (i := 9) rfl)⟩
theorem lw_p132 : lw_okq (⟨"TinFenModel", "covering", "()I"⟩, 47) := ⟨⟨by decide +kernel, by decide +kernel⟩, lw_t6 (List.mem_of_getElem? (i := 132) rfl), lw_t9 (List.mem_of_getElem? (i := 27) rfl), lw_t9 (List.mem_of_getElem? (i := 28) rfl)⟩
theorem lw_p133 : lw_okq (⟨"TinFenModel", "blaming", "()I"⟩, 47) := ⟨⟨by decide +kernel, by decide +kernel⟩, lw_t6 (List.mem_of_getElem? (i := 132) rfl), lw_t9 (List.mem_of_getElem? (i := 39) rfl), lw_t9 (List.mem_of_getElem? (i := 40) rfl)⟩
theorem lw_p134 : lw_okq (⟨"TinFenModel", "rolls", "(IIII)I"⟩, 47) := ⟨⟨by decide +kernel, by decide +kernel⟩, lw_t6 (List.mem_of_getElem? (i := 132) rfl), lw_t9 (List.mem_of_getElem? (i := 53) rfl), lw_t9 (List.mem_of_getElem? (i := 54) rfl)⟩
theorem lw_p135 : lw_okq (⟨"TinFenModel", "canGive", "(II)Z"⟩, 47) := ⟨⟨by decide +kernel, by decide +kernel⟩, lw_t6 (List.mem_of_getElem? (i := 132) rfl), lw_t9 (List.mem_of_getElem? (i := 57) rfl), lw_t9 (List.mem_of_getElem? (i := 58) rfl)⟩
theorem lw_p136 : lw_okq (⟨"TinFenModel", "whyNoWhose", "(II)I"⟩, 47) := ⟨⟨by decide +kernel, by decide +kernel⟩, lw_t6 (List.mem_of_getElem? (i := 132) rfl), lw_t9 (List.mem_of_getElem? (i := 65) rfl), lw_t9 (List.mem_of_getElem? (i := 66) rfl)⟩
theorem lw_p137 : lw_okq (⟨"TinFenModel", "numberOf", "(II)J"⟩, 47) := ⟨⟨by decide +kernel, by decide +kernel⟩, lw_t6 (List.mem_of_getElem? (i := 132) rfl), lw_t9 (List.mem_of_getElem? (i := 69) rfl), lw_t9 (List.mem_of_getElem? (i := 70) rfl)⟩
theorem lw_p138 : lw_okq (⟨"TinFenModel", "laysWhose", "(II)V"⟩, 47) := ⟨⟨by decide +kernel, by decide +kernel⟩, lw_t6 (List.mem_of_getElem? (i := 132) rfl), lw_t9 (List.mem_of_getElem? (i := 74) rfl), lw_t9 (List.mem_of_getElem? (i := 75) rfl)⟩
theorem lw_p139 : lw_okq (⟨"TinFenModel", "mostAlike", "(I)I"⟩, 47) := ⟨⟨by decide +kernel, by decide +kernel⟩, lw_t6 (List.mem_of_getElem? (i := 132) rfl), lw_t9 (List.mem_of_getElem? (i := 86) rfl), lw_t9 (List.mem_of_getElem? (i := 87) rfl)⟩
theorem lw_p140 : lw_okq (⟨"TinFenModel", "whyNoGame", "(IIII)I"⟩, 47) := ⟨⟨by decide +kernel, by decide +kernel⟩, lw_t6 (List.mem_of_getElem? (i := 132) rfl), lw_t9 (List.mem_of_getElem? (i := 94) rfl), lw_t9 (List.mem_of_getElem? (i := 95) rfl)⟩
theorem lw_p141 : lw_okq (⟨"TinFenModel", "plays", "(IIII)I"⟩, 47) := ⟨⟨by decide +kernel, by decide +kernel⟩, lw_t6 (List.mem_of_getElem? (i := 132) rfl), lw_t9 (List.mem_of_getElem? (i := 98) rfl), lw_t9 (List.mem_of_getElem? (i := 99) rfl)⟩
theorem lw_p142 : lw_okq (⟨"TinFenModel", "fraction", "(JJ)Z"⟩, 47) := ⟨⟨by decide +kernel, by decide +kernel⟩, lw_t6 (List.mem_of_getElem? (i := 132) rfl), lw_t9 (List.mem_of_getElem? (i := 110) rfl), lw_t9 (List.mem_of_getElem? (i := 111) rfl)⟩
theorem lw_p143 : lw_okq (⟨"TinFenModel", "runsYears", "(I)V"⟩, 47) := ⟨⟨by decide +kernel, by decide +kernel⟩, lw_t6 (List.mem_of_getElem? (i := 132) rfl), lw_t9 (List.mem_of_getElem? (i := 126) rfl), lw_t9 (List.mem_of_getElem? (i := 127) rfl)⟩
def lw_privs_9 : List (MethodName × Nat) := [(⟨"TinFenModel", "goesRound", "(III)V"⟩, 47), (⟨"TinFenModel", "whyNoTins", "(I)I"⟩, 47), (⟨"TinFenModel", "laysGivings", "(IIIZ)I"⟩, 47), (⟨"TinFenModel", "laysTin", "(IZ)V"⟩, 47), (⟨"TinFenModel", "covering", "()I"⟩, 47), (⟨"TinFenModel", "blaming", "()I"⟩, 47), (⟨"TinFenModel", "rolls", "(IIII)I"⟩, 47), (⟨"TinFenModel", "canGive", "(II)Z"⟩, 47), (⟨"TinFenModel", "whyNoWhose", "(II)I"⟩, 47), (⟨"TinFenModel", "numberOf", "(II)J"⟩, 47), (⟨"TinFenModel", "laysWhose", "(II)V"⟩, 47), (⟨"TinFenModel", "mostAlike", "(I)I"⟩, 47), (⟨"TinFenModel", "whyNoGame", "(IIII)I"⟩, 47), (⟨"TinFenModel", "plays", "(IIII)I"⟩, 47), (⟨"TinFenModel", "fraction", "(JJ)Z"⟩, 47), (⟨"TinFenModel", "runsYears", "(I)V"⟩, 47)]
theorem lw_r9 : ∀ q ∈ lw_privs_9, lw_okq q := List.forall_mem_cons.mpr ⟨lw_p128, List.forall_mem_cons.mpr ⟨lw_p129, List.forall_mem_cons.mpr ⟨lw_p130, List.forall_mem_cons.mpr ⟨lw_p131, List.forall_mem_cons.mpr ⟨lw_p132, List.forall_mem_cons.mpr ⟨lw_p133, List.forall_mem_cons.mpr ⟨lw_p134, List.forall_mem_cons.mpr ⟨lw_p135, List.forall_mem_cons.mpr ⟨lw_p136, List.forall_mem_cons.mpr ⟨lw_p137, List.forall_mem_cons.mpr ⟨lw_p138, List.forall_mem_cons.mpr ⟨lw_p139, List.forall_mem_cons.mpr ⟨lw_p140, List.forall_mem_cons.mpr ⟨lw_p141, List.forall_mem_cons.mpr ⟨lw_p142, List.forall_mem_cons.mpr ⟨lw_p143, fun _ h => absurd h List.not_mem_nil⟩⟩⟩⟩⟩⟩⟩⟩⟩⟩⟩⟩⟩⟩⟩⟩
theorem lw_p144 : lw_okq (⟨"TinFenModel", "allGot", "()I"⟩, 47) := ⟨⟨by decide +kernel, by decide +kernel⟩, lw_t6 (List.mem_of_getElem? (i := 132) rfl), lw_t9 (List.mem_of_getElem? (i := 130) rfl), lw_t9 (List.mem_of_getElem? (i := 131) rfl)⟩
theorem lw_p145 : lw_okq (⟨"TinFenModel", "doAll", "(II)V"⟩, 47) := ⟨⟨by decide +kernel, by decide +kernel⟩, lw_t6 (List.mem_of_getElem? (i := 132) rfl), lw_t9 (List.mem_of_getElem? (i := 134) rfl), lw_t9 (List.mem_of_getElem? (i := 135) rfl)⟩
theorem lw_p146 : lw_okq (⟨"TinFenModel", "doOne", "(I)V"⟩, 47) := ⟨⟨by decide +kernel, by decide +kernel⟩, lw_t6 (List.mem_of_getElem? (i := 132) rfl), lw_t9 (List.mem_of_getElem? (i := 138) rfl), lw_t9 (List.mem_of_getElem? (i := 139) rfl)⟩
theorem lw_p147 : lw_okq (⟨"TinFenModel", "does", "(I)Z"⟩, 47) := ⟨⟨by decide +kernel, by decide +kernel⟩, lw_t6 (List.mem_of_getElem? (i := 132) rfl), lw_t9 (List.mem_of_getElem? (i := 142) rfl), lw_t9 (List.mem_of_getElem? (i := 143) rfl)⟩
theorem lw_p148 : lw_okq (⟨"TinFenModel", "isBitten", "(I)Z"⟩, 47) := ⟨⟨by decide +kernel, by decide +kernel⟩, lw_t6 (List.mem_of_getElem? (i := 132) rfl), lw_t9 (List.mem_of_getElem? (i := 146) rfl), lw_t9 (List.mem_of_getElem? (i := 147) rfl)⟩
theorem lw_p149 : lw_okq (⟨"TinFenModel", "draw", "(I)I"⟩, 47) := ⟨⟨by decide +kernel, by decide +kernel⟩, lw_t6 (List.mem_of_getElem? (i := 132) rfl), lw_t9 (List.mem_of_getElem? (i := 150) rfl), lw_t9 (List.mem_of_getElem? (i := 151) rfl)⟩
theorem lw_p150 : lw_okq (⟨"TinFenModel", "isAny", "()Z"⟩, 47) := ⟨⟨by decide +kernel, by decide +kernel⟩, lw_t6 (List.mem_of_getElem? (i := 132) rfl), lw_t9 (List.mem_of_getElem? (i := 155) rfl), lw_t9 (List.mem_of_getElem? (i := 156) rfl)⟩
theorem lw_p151 : lw_okq (⟨"TinFenModel", "isSo", "(I)Z"⟩, 47) := ⟨⟨by decide +kernel, by decide +kernel⟩, lw_t6 (List.mem_of_getElem? (i := 132) rfl), lw_t9 (List.mem_of_getElem? (i := 159) rfl), lw_t9 (List.mem_of_getElem? (i := 160) rfl)⟩
def lw_privs_10 : List (MethodName × Nat) := [(⟨"TinFenModel", "allGot", "()I"⟩, 47), (⟨"TinFenModel", "doAll", "(II)V"⟩, 47), (⟨"TinFenModel", "doOne", "(I)V"⟩, 47), (⟨"TinFenModel", "does", "(I)Z"⟩, 47), (⟨"TinFenModel", "isBitten", "(I)Z"⟩, 47), (⟨"TinFenModel", "draw", "(I)I"⟩, 47), (⟨"TinFenModel", "isAny", "()Z"⟩, 47), (⟨"TinFenModel", "isSo", "(I)Z"⟩, 47)]
theorem lw_r10 : ∀ q ∈ lw_privs_10, lw_okq q := List.forall_mem_cons.mpr ⟨lw_p144, List.forall_mem_cons.mpr ⟨lw_p145, List.forall_mem_cons.mpr ⟨lw_p146, List.forall_mem_cons.mpr ⟨lw_p147, List.forall_mem_cons.mpr ⟨lw_p148, List.forall_mem_cons.mpr ⟨lw_p149, List.forall_mem_cons.mpr ⟨lw_p150, List.forall_mem_cons.mpr ⟨lw_p151, fun _ h => absurd h List.not_mem_nil⟩⟩⟩⟩⟩⟩⟩⟩
def lw_privs : List (MethodName × Nat) := lw_privs_1 ++ (lw_privs_2 ++ (lw_privs_3 ++ (lw_privs_4 ++ (lw_privs_5 ++ (lw_privs_6 ++ (lw_privs_7 ++ (lw_privs_8 ++ (lw_privs_9 ++ (lw_privs_10)))))))))
def lw_tbl : List Cond := k2_sels lw_privs ++ tables_1
theorem lw_privs_ok : ∀ q ∈ lw_privs, lw_okq q := by
  show ∀ q ∈ lw_privs_1 ++ (lw_privs_2 ++ (lw_privs_3 ++ (lw_privs_4 ++ (lw_privs_5 ++ (lw_privs_6 ++ (lw_privs_7 ++ (lw_privs_8 ++ (lw_privs_9 ++ (lw_privs_10))))))))), lw_okq q
  exact List.forall_mem_append.mpr ⟨lw_r1, List.forall_mem_append.mpr ⟨lw_r2, List.forall_mem_append.mpr ⟨lw_r3, List.forall_mem_append.mpr ⟨lw_r4, List.forall_mem_append.mpr ⟨lw_r5, List.forall_mem_append.mpr ⟨lw_r6, List.forall_mem_append.mpr ⟨lw_r7, List.forall_mem_append.mpr ⟨lw_r8, List.forall_mem_append.mpr ⟨lw_r9, lw_r10⟩⟩⟩⟩⟩⟩⟩⟩⟩
-- ===== ONE list of words for every method: the tables' words that hold all through a run =====
def lw_all : List Cond := lw_tbl.filter goodWord
/-- a word of the tables by its place: claim/WORDS.tsv -/
theorem lw_w {w : Cond} (i : Nat) (h : lw_tbl[i]? = some w) (g : goodWord w = true) : w ∈ lw_all := List.mem_filter.mpr ⟨List.mem_of_getElem? h, g⟩
theorem lw_all_tbl {w : Cond} (h : w ∈ lw_all) : w ∈ lw_tbl := (List.mem_filter.mp h).1
theorem lw_self : GoodIn lw_all lw_all := fun w h => ⟨h, good_of_word (List.mem_filter.mp h).2⟩
/-- a class's field words, by their places -/
theorem lw_in (ws : List Cond) (ps : List Nat) (hp : ws = ps.filterMap (fun i => lw_tbl[i]?)) (hg : ws.all goodWord = true) : ∀ w ∈ ws, w ∈ lw_all := by
  intro w h
  have h1 := List.all_eq_true.mp hg w h
  rw [hp] at h
  obtain ⟨i, -, hi⟩ := List.mem_filterMap.mp h
  exact lw_w i hi h1
/-- the words of a contract for the method y with code b, L locals, answer r -/
abbrev ws_ (y : MethodName) (b : ByteArray) (L : Nat) (r : Option FieldType) : List Cond := Cond.code y b L r :: lw_all
theorem lw_meth {y : MethodName} {b : ByteArray} {L : Nat} {r : Option FieldType} (h : Cond.code y b L r ∈ lw_all) : GoodIn lw_all (ws_ y b L r) := by
  intro w hw
  rcases List.mem_cons.mp hw with e | e
  · rw [e]
    exact lw_self _ h
  · exact lw_self _ e
theorem lw_app {a c : List Cond} (ha : ∀ w ∈ a, w ∈ lw_all) (hc : GoodIn lw_all c) : GoodIn lw_all (a ++ c) := by
  intro w hw
  rcases List.mem_append.mp hw with e | e
  · exact lw_self w (ha w e)
  · exact hc w e
/-- what a call through an object asks: cwV n hts (lw_V ..) -/
theorem lw_V {own : String} {idx : Nat} {C : String} {y : MethodName} {b : ByteArray} {L : Nat} {r : Option FieldType} (h1 : Cond.methodLink own idx y ∈ lw_all) (h2 : Cond.instanceMethod y ∈ lw_all) (h3 : Cond.selects C y y ∈ lw_all) (h4 : Cond.initialized C ∈ lw_all) (h5 : Cond.code y b L r ∈ lw_all) : GoodIn lw_all (wsV own idx C y (ws_ y b L r)) := by
  refine lw_app ?_ (lw_meth h5)
  intro w hw
  simp only [List.mem_cons, List.not_mem_nil, or_false] at hw
  rcases hw with e | e | e | e
  · rw [e]; exact h1
  · rw [e]; exact h2
  · rw [e]; exact h3
  · rw [e]; exact h4
/-- what a static call asks: va_cwS n hts (lw_S ..) -/
theorem lw_S {own : String} {idx : Nat} {y : MethodName} {b : ByteArray} {L : Nat} {r : Option FieldType} (h1 : Cond.methodLink own idx y ∈ lw_all) (h2 : Cond.static y ∈ lw_all) (h3 : Cond.initialized y.cls ∈ lw_all) (h4 : Cond.code y b L r ∈ lw_all) : GoodIn lw_all (va_wsS own idx y (ws_ y b L r)) := by
  refine lw_app ?_ (lw_meth h4)
  intro w hw
  simp only [List.mem_cons, List.not_mem_nil, or_false] at hw
  rcases hw with e | e | e
  · rw [e]; exact h1
  · rw [e]; exact h2
  · rw [e]; exact h3
/-- the words of a contract for a method WITH HANDLERS (hh: its table) -/
abbrev wsW_ (y : MethodName) (b : ByteArray) (L : Nat) (r : Option FieldType) (hh : List (Nat × Nat × Nat × Nat)) : List Cond := Cond.codeWith y b L r hh :: lw_all
theorem lw_methW {y : MethodName} {b : ByteArray} {L : Nat} {r : Option FieldType} {hh : List (Nat × Nat × Nat × Nat)} (h : Cond.codeWith y b L r hh ∈ lw_all) : GoodIn lw_all (wsW_ y b L r hh) := by
  intro w hw
  rcases List.mem_cons.mp hw with e | e
  · rw [e]
    exact lw_self _ h
  · exact lw_self _ e
/-- any list of words by their places (lw_in), good -/
theorem lw_good {ws : List Cond} (h : ∀ w ∈ ws, w ∈ lw_all) : GoodIn lw_all ws := fun w hw => lw_self w (h w hw)
/-- what a call of a method with handlers asks: vx_cwVW n hts (lw_VW ..), vx_cwSW n hts (lw_SW ..) -/
theorem lw_VW {own : String} {idx : Nat} {C : String} {y : MethodName} {b : ByteArray} {L : Nat} {r : Option FieldType} {hh : List (Nat × Nat × Nat × Nat)} (h1 : Cond.methodLink own idx y ∈ lw_all) (h2 : Cond.instanceMethod y ∈ lw_all) (h3 : Cond.selects C y y ∈ lw_all) (h4 : Cond.initialized C ∈ lw_all) (h5 : Cond.codeWith y b L r hh ∈ lw_all) : GoodIn lw_all (wsV own idx C y (wsW_ y b L r hh)) := by
  refine lw_app ?_ (lw_methW h5)
  intro w hw
  simp only [List.mem_cons, List.not_mem_nil, or_false] at hw
  rcases hw with e | e | e | e
  · rw [e]; exact h1
  · rw [e]; exact h2
  · rw [e]; exact h3
  · rw [e]; exact h4
theorem lw_SW {own : String} {idx : Nat} {y : MethodName} {b : ByteArray} {L : Nat} {r : Option FieldType} {hh : List (Nat × Nat × Nat × Nat)} (h1 : Cond.methodLink own idx y ∈ lw_all) (h2 : Cond.static y ∈ lw_all) (h3 : Cond.initialized y.cls ∈ lw_all) (h4 : Cond.codeWith y b L r hh ∈ lw_all) : GoodIn lw_all (va_wsS own idx y (wsW_ y b L r hh)) := by
  refine lw_app ?_ (lw_methW h4)
  intro w hw
  simp only [List.mem_cons, List.not_mem_nil, or_false] at hw
  rcases hw with e | e | e
  · rw [e]; exact h1
  · rw [e]; exact h2
  · rw [e]; exact h3
/-- a word by its place in its run of the tables -/
theorem lw_at {r : List Cond} (hr : ∀ w ∈ r, w ∈ lw_tbl) {w : Cond} (i : Nat) (h : r[i]? = some w) : w ∈ lw_tbl := hr w (List.mem_of_getElem? h)
theorem lw_g {w : Cond} (h : w ∈ lw_tbl) (g : goodWord w = true) : w ∈ lw_all := List.mem_filter.mpr ⟨h, g⟩
theorem lw_ms : ∀ w ∈ k2_sels lw_privs, w ∈ lw_tbl := fun w h => show w ∈ k2_sels lw_privs ++ tables_1 from List.mem_append_left _ h
theorem lw_m1 : ∀ w ∈ tables_1_1, w ∈ lw_tbl := fun w h => show w ∈ k2_sels lw_privs ++ tables_1 from List.mem_append_right (k2_sels lw_privs) (show w ∈ tables_1 from List.mem_append_left _ h)
theorem lw_m2 : ∀ w ∈ tables_1_2, w ∈ lw_tbl := fun w h => show w ∈ k2_sels lw_privs ++ tables_1 from List.mem_append_right (k2_sels lw_privs) (show w ∈ tables_1 from List.mem_append_right _ (List.mem_append_left _ h))
theorem lw_m3 : ∀ w ∈ tables_1_3, w ∈ lw_tbl := fun w h => show w ∈ k2_sels lw_privs ++ tables_1 from List.mem_append_right (k2_sels lw_privs) (show w ∈ tables_1 from List.mem_append_right _ (List.mem_append_right _ (List.mem_append_left _ h)))
theorem lw_m4 : ∀ w ∈ tables_1_4, w ∈ lw_tbl := fun w h => show w ∈ k2_sels lw_privs ++ tables_1 from List.mem_append_right (k2_sels lw_privs) (show w ∈ tables_1 from List.mem_append_right _ (List.mem_append_right _ (List.mem_append_right _ (List.mem_append_left _ h))))
theorem lw_m5 : ∀ w ∈ tables_1_5, w ∈ lw_tbl := fun w h => show w ∈ k2_sels lw_privs ++ tables_1 from List.mem_append_right (k2_sels lw_privs) (show w ∈ tables_1 from List.mem_append_right _ (List.mem_append_right _ (List.mem_append_right _ (List.mem_append_right _ (List.mem_append_left _ h)))))
theorem lw_m6 : ∀ w ∈ tables_1_6, w ∈ lw_tbl := fun w h => show w ∈ k2_sels lw_privs ++ tables_1 from List.mem_append_right (k2_sels lw_privs) (show w ∈ tables_1 from List.mem_append_right _ (List.mem_append_right _ (List.mem_append_right _ (List.mem_append_right _ (List.mem_append_right _ (List.mem_append_left _ h))))))
theorem lw_m7 : ∀ w ∈ tables_1_7, w ∈ lw_tbl := fun w h => show w ∈ k2_sels lw_privs ++ tables_1 from List.mem_append_right (k2_sels lw_privs) (show w ∈ tables_1 from List.mem_append_right _ (List.mem_append_right _ (List.mem_append_right _ (List.mem_append_right _ (List.mem_append_right _ (List.mem_append_right _ (List.mem_append_left _ h)))))))
theorem lw_m8 : ∀ w ∈ tables_1_8, w ∈ lw_tbl := fun w h => show w ∈ k2_sels lw_privs ++ tables_1 from List.mem_append_right (k2_sels lw_privs) (show w ∈ tables_1 from List.mem_append_right _ (List.mem_append_right _ (List.mem_append_right _ (List.mem_append_right _ (List.mem_append_right _ (List.mem_append_right _ (List.mem_append_right _ (List.mem_append_left _ h))))))))
theorem lw_m9 : ∀ w ∈ tables_1_9, w ∈ lw_tbl := fun w h => show w ∈ k2_sels lw_privs ++ tables_1 from List.mem_append_right (k2_sels lw_privs) (show w ∈ tables_1 from List.mem_append_right _ (List.mem_append_right _ (List.mem_append_right _ (List.mem_append_right _ (List.mem_append_right _ (List.mem_append_right _ (List.mem_append_right _ (List.mem_append_right _ h))))))))
theorem qs0 : (Cond.selects "java/lang/NullPointerException" ⟨"java/lang/NullPointerException", "getExtendedNPEMessage", "()Ljava/lang/String;"⟩ ⟨"java/lang/NullPointerException", "getExtendedNPEMessage", "()Ljava/lang/String;"⟩) ∈ lw_all := lw_g (lw_at lw_ms 0 rfl) rfl
theorem qs1 : (Cond.selects "java/lang/Throwable" ⟨"java/lang/Throwable", "fillInStackTrace", "(I)Ljava/lang/Throwable;"⟩ ⟨"java/lang/Throwable", "fillInStackTrace", "(I)Ljava/lang/Throwable;"⟩) ∈ lw_all := lw_g (lw_at lw_ms 1 rfl) rfl
theorem qs2 : (Cond.selects "TinFen" ⟨"TinFen", "is", "(I)Z"⟩ ⟨"TinFen", "is", "(I)Z"⟩) ∈ lw_all := lw_g (lw_at lw_ms 2 rfl) rfl
theorem qs3 : (Cond.selects "TinFen" ⟨"TinFen", "none", "(I)I"⟩ ⟨"TinFen", "none", "(I)I"⟩) ∈ lw_all := lw_g (lw_at lw_ms 3 rfl) rfl
theorem qs4 : (Cond.selects "TinFen" ⟨"TinFen", "four", "(I)V"⟩ ⟨"TinFen", "four", "(I)V"⟩) ∈ lw_all := lw_g (lw_at lw_ms 4 rfl) rfl
theorem qs5 : (Cond.selects "TinFen" ⟨"TinFen", "accepts", "(II)Z"⟩ ⟨"TinFen", "accepts", "(II)Z"⟩) ∈ lw_all := lw_g (lw_at lw_ms 5 rfl) rfl
theorem qs6 : (Cond.selects "TinFen$Reader" ⟨"TinFen$Reader", "part", "()V"⟩ ⟨"TinFen$Reader", "part", "()V"⟩) ∈ lw_all := lw_g (lw_at lw_ms 6 rfl) rfl
theorem qs7 : (Cond.selects "TinFen$Reader" ⟨"TinFen$Reader", "isFullOf", "(I)Z"⟩ ⟨"TinFen$Reader", "isFullOf", "(I)Z"⟩) ∈ lw_all := lw_g (lw_at lw_ms 7 rfl) rfl
theorem qs8 : (Cond.selects "TinFen$Reader" ⟨"TinFen$Reader", "newName", "()J"⟩ ⟨"TinFen$Reader", "newName", "()J"⟩) ∈ lw_all := lw_g (lw_at lw_ms 8 rfl) rfl
theorem qs9 : (Cond.selects "TinFen$Reader" ⟨"TinFen$Reader", "aTrait", "(J)V"⟩ ⟨"TinFen$Reader", "aTrait", "(J)V"⟩) ∈ lw_all := lw_g (lw_at lw_ms 9 rfl) rfl
theorem qs10 : (Cond.selects "TinFen$Reader" ⟨"TinFen$Reader", "word", "(I)V"⟩ ⟨"TinFen$Reader", "word", "(I)V"⟩) ∈ lw_all := lw_g (lw_at lw_ms 10 rfl) rfl
theorem qs11 : (Cond.selects "TinFen$Reader" ⟨"TinFen$Reader", "aPerson", "(LTinFen$Person;)V"⟩ ⟨"TinFen$Reader", "aPerson", "(LTinFen$Person;)V"⟩) ∈ lw_all := lw_g (lw_at lw_ms 11 rfl) rfl
theorem qs12 : (Cond.selects "TinFen$Reader" ⟨"TinFen$Reader", "isNext", "(I)Z"⟩ ⟨"TinFen$Reader", "isNext", "(I)Z"⟩) ∈ lw_all := lw_g (lw_at lw_ms 12 rfl) rfl
theorem qs13 : (Cond.selects "TinFen$Reader" ⟨"TinFen$Reader", "isName", "()Z"⟩ ⟨"TinFen$Reader", "isName", "()Z"⟩) ∈ lw_all := lw_g (lw_at lw_ms 13 rfl) rfl
theorem qs14 : (Cond.selects "TinFen$Reader" ⟨"TinFen$Reader", "trait", "()I"⟩ ⟨"TinFen$Reader", "trait", "()I"⟩) ∈ lw_all := lw_g (lw_at lw_ms 14 rfl) rfl
theorem qs15 : (Cond.selects "TinFen$Reader" ⟨"TinFen$Reader", "known", "(I)I"⟩ ⟨"TinFen$Reader", "known", "(I)I"⟩) ∈ lw_all := lw_g (lw_at lw_ms 15 rfl) rfl
theorem qs16 : (Cond.selects "TinFen$Reader" ⟨"TinFen$Reader", "aLane", "()V"⟩ ⟨"TinFen$Reader", "aLane", "()V"⟩) ∈ lw_all := lw_g (lw_at lw_ms 16 rfl) rfl
theorem qs17 : (Cond.selects "TinFen$Reader" ⟨"TinFen$Reader", "person", "()I"⟩ ⟨"TinFen$Reader", "person", "()I"⟩) ∈ lw_all := lw_g (lw_at lw_ms 17 rfl) rfl
theorem qs18 : (Cond.selects "TinFen$Reader" ⟨"TinFen$Reader", "aTin", "(J)V"⟩ ⟨"TinFen$Reader", "aTin", "(J)V"⟩) ∈ lw_all := lw_g (lw_at lw_ms 18 rfl) rfl
theorem qs19 : (Cond.selects "TinFen" ⟨"TinFen", "refused", "(LTinFen$Wrong;)I"⟩ ⟨"TinFen", "refused", "(LTinFen$Wrong;)I"⟩) ∈ lw_all := lw_g (lw_at lw_ms 19 rfl) rfl
theorem qs20 : (Cond.selects "TinFen" ⟨"TinFen", "gives", "(I)I"⟩ ⟨"TinFen", "gives", "(I)I"⟩) ∈ lw_all := lw_g (lw_at lw_ms 20 rfl) rfl
theorem qs21 : (Cond.selects "TinFen$Reader" ⟨"TinFen$Reader", "step", "()V"⟩ ⟨"TinFen$Reader", "step", "()V"⟩) ∈ lw_all := lw_g (lw_at lw_ms 21 rfl) rfl
theorem qs22 : (Cond.selects "TinFen$Reader" ⟨"TinFen$Reader", "order", "(LTinFen$Step;)V"⟩ ⟨"TinFen$Reader", "order", "(LTinFen$Step;)V"⟩) ∈ lw_all := lw_g (lw_at lw_ms 22 rfl) rfl
theorem qs23 : (Cond.selects "TinFen$Reader" ⟨"TinFen$Reader", "tin", "()I"⟩ ⟨"TinFen$Reader", "tin", "()I"⟩) ∈ lw_all := lw_g (lw_at lw_ms 23 rfl) rfl
theorem qs24 : (Cond.selects "TinFen$Reader" ⟨"TinFen$Reader", "test", "(LTinFen$Step;)V"⟩ ⟨"TinFen$Reader", "test", "(LTinFen$Step;)V"⟩) ∈ lw_all := lw_g (lw_at lw_ms 24 rfl) rfl
theorem qs25 : (Cond.selects "TinFen" ⟨"TinFen", "ofLead", "()I"⟩ ⟨"TinFen", "ofLead", "()I"⟩) ∈ lw_all := lw_g (lw_at lw_ms 25 rfl) rfl
theorem qs26 : (Cond.selects "TinFen" ⟨"TinFen", "allTins", "()I"⟩ ⟨"TinFen", "allTins", "()I"⟩) ∈ lw_all := lw_g (lw_at lw_ms 26 rfl) rfl
theorem qs27 : (Cond.selects "TinFen" ⟨"TinFen", "isTrait", "(I)Z"⟩ ⟨"TinFen", "isTrait", "(I)Z"⟩) ∈ lw_all := lw_g (lw_at lw_ms 27 rfl) rfl
theorem qs28 : (Cond.selects "TinFen" ⟨"TinFen", "isPerson", "(J)Z"⟩ ⟨"TinFen", "isPerson", "(J)Z"⟩) ∈ lw_all := lw_g (lw_at lw_ms 28 rfl) rfl
theorem qs29 : (Cond.selects "TinFen" ⟨"TinFen", "isTin", "(I)Z"⟩ ⟨"TinFen", "isTin", "(I)Z"⟩) ∈ lw_all := lw_g (lw_at lw_ms 29 rfl) rfl
theorem qs30 : (Cond.selects "TinFen" ⟨"TinFen", "orNothing", "(I)I"⟩ ⟨"TinFen", "orNothing", "(I)I"⟩) ∈ lw_all := lw_g (lw_at lw_ms 30 rfl) rfl
theorem qs31 : (Cond.selects "TinFen" ⟨"TinFen", "laysFar", "(II)V"⟩ ⟨"TinFen", "laysFar", "(II)V"⟩) ∈ lw_all := lw_g (lw_at lw_ms 31 rfl) rfl
theorem qs32 : (Cond.selects "TinFen" ⟨"TinFen", "wrongTin", "(I)I"⟩ ⟨"TinFen", "wrongTin", "(I)I"⟩) ∈ lw_all := lw_g (lw_at lw_ms 32 rfl) rfl
theorem qs33 : (Cond.selects "TinFen" ⟨"TinFen", "laysRound", "(I)V"⟩ ⟨"TinFen", "laysRound", "(I)V"⟩) ∈ lw_all := lw_g (lw_at lw_ms 33 rfl) rfl
theorem qs34 : (Cond.selects "TinFen" ⟨"TinFen", "goesRound", "(III)V"⟩ ⟨"TinFen", "goesRound", "(III)V"⟩) ∈ lw_all := lw_g (lw_at lw_ms 34 rfl) rfl
theorem qs35 : (Cond.selects "TinFen" ⟨"TinFen", "wrongTins", "(I)I"⟩ ⟨"TinFen", "wrongTins", "(I)I"⟩) ∈ lw_all := lw_g (lw_at lw_ms 35 rfl) rfl
theorem qs36 : (Cond.selects "TinFen" ⟨"TinFen", "areTins", "(J)Z"⟩ ⟨"TinFen", "areTins", "(J)Z"⟩) ∈ lw_all := lw_g (lw_at lw_ms 36 rfl) rfl
theorem qs37 : (Cond.selects "TinFen" ⟨"TinFen", "mostOf", "(II)I"⟩ ⟨"TinFen", "mostOf", "(II)I"⟩) ∈ lw_all := lw_g (lw_at lw_ms 37 rfl) rfl
theorem qs38 : (Cond.selects "TinFen" ⟨"TinFen", "givingsOf", "(II)I"⟩ ⟨"TinFen", "givingsOf", "(II)I"⟩) ∈ lw_all := lw_g (lw_at lw_ms 38 rfl) rfl
theorem qs39 : (Cond.selects "TinFen" ⟨"TinFen", "covering", "()I"⟩ ⟨"TinFen", "covering", "()I"⟩) ∈ lw_all := lw_g (lw_at lw_ms 39 rfl) rfl
theorem qs40 : (Cond.selects "TinFen" ⟨"TinFen", "blaming", "()I"⟩ ⟨"TinFen", "blaming", "()I"⟩) ∈ lw_all := lw_g (lw_at lw_ms 40 rfl) rfl
theorem qs41 : (Cond.selects "TinFen" ⟨"TinFen", "wheelsFrom", "(IIII)I"⟩ ⟨"TinFen", "wheelsFrom", "(IIII)I"⟩) ∈ lw_all := lw_g (lw_at lw_ms 41 rfl) rfl
theorem qs42 : (Cond.selects "TinFen" ⟨"TinFen", "passesTo", "(I)I"⟩ ⟨"TinFen", "passesTo", "(I)I"⟩) ∈ lw_all := lw_g (lw_at lw_ms 42 rfl) rfl
theorem qs43 : (Cond.selects "TinFen" ⟨"TinFen", "wrongSeen", "(II)I"⟩ ⟨"TinFen", "wrongSeen", "(II)I"⟩) ∈ lw_all := lw_g (lw_at lw_ms 43 rfl) rfl
theorem qs44 : (Cond.selects "TinFen" ⟨"TinFen", "seenMany", "(II)I"⟩ ⟨"TinFen", "seenMany", "(II)I"⟩) ∈ lw_all := lw_g (lw_at lw_ms 44 rfl) rfl
theorem qs45 : (Cond.selects "TinFen" ⟨"TinFen", "isSeen", "(III)Z"⟩ ⟨"TinFen", "isSeen", "(III)Z"⟩) ∈ lw_all := lw_g (lw_at lw_ms 45 rfl) rfl
theorem qs46 : (Cond.selects "TinFen" ⟨"TinFen", "mostAlike", "(III)I"⟩ ⟨"TinFen", "mostAlike", "(III)I"⟩) ∈ lw_all := lw_g (lw_at lw_ms 46 rfl) rfl
theorem qs47 : (Cond.selects "TinFen" ⟨"TinFen", "wrongGame", "(IIII)I"⟩ ⟨"TinFen", "wrongGame", "(IIII)I"⟩) ∈ lw_all := lw_g (lw_at lw_ms 47 rfl) rfl
theorem qs48 : (Cond.selects "TinFen" ⟨"TinFen", "playing", "(III)I"⟩ ⟨"TinFen", "playing", "(III)I"⟩) ∈ lw_all := lw_g (lw_at lw_ms 48 rfl) rfl
theorem qs49 : (Cond.selects "TinFen" ⟨"TinFen", "plays", "(IIII)I"⟩ ⟨"TinFen", "plays", "(IIII)I"⟩) ∈ lw_all := lw_g (lw_at lw_ms 49 rfl) rfl
theorem qs50 : (Cond.selects "TinFen" ⟨"TinFen", "tell", "(JJ)Z"⟩ ⟨"TinFen", "tell", "(JJ)Z"⟩) ∈ lw_all := lw_g (lw_at lw_ms 50 rfl) rfl
theorem qs51 : (Cond.selects "TinFen" ⟨"TinFen", "livesBy", "(I)V"⟩ ⟨"TinFen", "livesBy", "(I)V"⟩) ∈ lw_all := lw_g (lw_at lw_ms 51 rfl) rfl
theorem qs52 : (Cond.selects "TinFen" ⟨"TinFen", "does", "(LTinFen$Step;)Z"⟩ ⟨"TinFen", "does", "(LTinFen$Step;)Z"⟩) ∈ lw_all := lw_g (lw_at lw_ms 52 rfl) rfl
theorem qs53 : (Cond.selects "TinFen" ⟨"TinFen", "passesOn", "(II)Z"⟩ ⟨"TinFen", "passesOn", "(II)Z"⟩) ∈ lw_all := lw_g (lw_at lw_ms 53 rfl) rfl
theorem qs54 : (Cond.selects "TinFen" ⟨"TinFen", "bitesOn", "(I)Z"⟩ ⟨"TinFen", "bitesOn", "(I)Z"⟩) ∈ lw_all := lw_g (lw_at lw_ms 54 rfl) rfl
theorem qs55 : (Cond.selects "TinFen" ⟨"TinFen", "draw", "(I)I"⟩ ⟨"TinFen", "draw", "(I)I"⟩) ∈ lw_all := lw_g (lw_at lw_ms 55 rfl) rfl
theorem qs56 : (Cond.selects "TinFen" ⟨"TinFen", "passesAny", "()Z"⟩ ⟨"TinFen", "passesAny", "()Z"⟩) ∈ lw_all := lw_g (lw_at lw_ms 56 rfl) rfl
theorem qs57 : (Cond.selects "TinFen" ⟨"TinFen", "holds", "(LTinFen$Step;)Z"⟩ ⟨"TinFen", "holds", "(LTinFen$Step;)Z"⟩) ∈ lw_all := lw_g (lw_at lw_ms 57 rfl) rfl
theorem qs58 : (Cond.selects "TinFen" ⟨"TinFen", "behindEnds", "(I)I"⟩ ⟨"TinFen", "behindEnds", "(I)I"⟩) ∈ lw_all := lw_g (lw_at lw_ms 58 rfl) rfl
theorem qs59 : (Cond.selects "TinFenModel" ⟨"TinFenModel", "empties", "(I)V"⟩ ⟨"TinFenModel", "empties", "(I)V"⟩) ∈ lw_all := lw_g (lw_at lw_ms 59 rfl) rfl
theorem qs60 : (Cond.selects "TinFenModel" ⟨"TinFenModel", "no", "(I)Z"⟩ ⟨"TinFenModel", "no", "(I)Z"⟩) ∈ lw_all := lw_g (lw_at lw_ms 60 rfl) rfl
theorem qs61 : (Cond.selects "TinFenModel" ⟨"TinFenModel", "placed", "(II)I"⟩ ⟨"TinFenModel", "placed", "(II)I"⟩) ∈ lw_all := lw_g (lw_at lw_ms 61 rfl) rfl
theorem qs62 : (Cond.selects "TinFenModel" ⟨"TinFenModel", "trayed", "(I)I"⟩ ⟨"TinFenModel", "trayed", "(I)I"⟩) ∈ lw_all := lw_g (lw_at lw_ms 62 rfl) rfl
theorem qs63 : (Cond.selects "TinFenModel" ⟨"TinFenModel", "lay", "(I)V"⟩ ⟨"TinFenModel", "lay", "(I)V"⟩) ∈ lw_all := lw_g (lw_at lw_ms 63 rfl) rfl
theorem qs64 : (Cond.selects "TinFenModel" ⟨"TinFenModel", "starts", "(II)Z"⟩ ⟨"TinFenModel", "starts", "(II)Z"⟩) ∈ lw_all := lw_g (lw_at lw_ms 64 rfl) rfl
theorem qs65 : (Cond.selects "TinFenModel" ⟨"TinFenModel", "advance", "()V"⟩ ⟨"TinFenModel", "advance", "()V"⟩) ∈ lw_all := lw_g (lw_at lw_ms 65 rfl) rfl
theorem qs66 : (Cond.selects "TinFenModel" ⟨"TinFenModel", "look2", "(I)I"⟩ ⟨"TinFenModel", "look2", "(I)I"⟩) ∈ lw_all := lw_g (lw_at lw_ms 66 rfl) rfl
theorem qs67 : (Cond.selects "TinFenModel" ⟨"TinFenModel", "isSignByte", "(I)Z"⟩ ⟨"TinFenModel", "isSignByte", "(I)Z"⟩) ∈ lw_all := lw_g (lw_at lw_ms 67 rfl) rfl
theorem qs68 : (Cond.selects "TinFenModel" ⟨"TinFenModel", "readPart", "()V"⟩ ⟨"TinFenModel", "readPart", "()V"⟩) ∈ lw_all := lw_g (lw_at lw_ms 68 rfl) rfl
theorem qs69 : (Cond.selects "TinFenModel" ⟨"TinFenModel", "isOdds", "()Z"⟩ ⟨"TinFenModel", "isOdds", "()Z"⟩) ∈ lw_all := lw_g (lw_at lw_ms 69 rfl) rfl
theorem qs70 : (Cond.selects "TinFenModel" ⟨"TinFenModel", "isWord", "(J)Z"⟩ ⟨"TinFenModel", "isWord", "(J)Z"⟩) ∈ lw_all := lw_g (lw_at lw_ms 70 rfl) rfl
theorem qs71 : (Cond.selects "TinFenModel" ⟨"TinFenModel", "readOdds", "()V"⟩ ⟨"TinFenModel", "readOdds", "()V"⟩) ∈ lw_all := lw_g (lw_at lw_ms 71 rfl) rfl
theorem qs72 : (Cond.selects "TinFenModel" ⟨"TinFenModel", "fail", "(II)V"⟩ ⟨"TinFenModel", "fail", "(II)V"⟩) ∈ lw_all := lw_g (lw_at lw_ms 72 rfl) rfl
theorem qs73 : (Cond.selects "TinFenModel" ⟨"TinFenModel", "count", "(II)I"⟩ ⟨"TinFenModel", "count", "(II)I"⟩) ∈ lw_all := lw_g (lw_at lw_ms 73 rfl) rfl
theorem qs74 : (Cond.selects "TinFenModel" ⟨"TinFenModel", "amiss", "()V"⟩ ⟨"TinFenModel", "amiss", "()V"⟩) ∈ lw_all := lw_g (lw_at lw_ms 74 rfl) rfl
theorem qs75 : (Cond.selects "TinFenModel" ⟨"TinFenModel", "isTrait", "()Z"⟩ ⟨"TinFenModel", "isTrait", "()Z"⟩) ∈ lw_all := lw_g (lw_at lw_ms 75 rfl) rfl
theorem qs76 : (Cond.selects "TinFenModel" ⟨"TinFenModel", "readTrait", "()V"⟩ ⟨"TinFenModel", "readTrait", "()V"⟩) ∈ lw_all := lw_g (lw_at lw_ms 76 rfl) rfl
theorem qs77 : (Cond.selects "TinFenModel" ⟨"TinFenModel", "readNew", "(II)I"⟩ ⟨"TinFenModel", "readNew", "(II)I"⟩) ∈ lw_all := lw_g (lw_at lw_ms 77 rfl) rfl
theorem qs78 : (Cond.selects "TinFenModel" ⟨"TinFenModel", "isName", "()Z"⟩ ⟨"TinFenModel", "isName", "()Z"⟩) ∈ lw_all := lw_g (lw_at lw_ms 78 rfl) rfl
theorem qs79 : (Cond.selects "TinFenModel" ⟨"TinFenModel", "isKept", "()Z"⟩ ⟨"TinFenModel", "isKept", "()Z"⟩) ∈ lw_all := lw_g (lw_at lw_ms 79 rfl) rfl
theorem qs80 : (Cond.selects "TinFenModel" ⟨"TinFenModel", "isWorth", "()Z"⟩ ⟨"TinFenModel", "isWorth", "()Z"⟩) ∈ lw_all := lw_g (lw_at lw_ms 80 rfl) rfl
theorem qs81 : (Cond.selects "TinFenModel" ⟨"TinFenModel", "isPerson", "()Z"⟩ ⟨"TinFenModel", "isPerson", "()Z"⟩) ∈ lw_all := lw_g (lw_at lw_ms 81 rfl) rfl
theorem qs82 : (Cond.selects "TinFenModel" ⟨"TinFenModel", "isIs", "()Z"⟩ ⟨"TinFenModel", "isIs", "()Z"⟩) ∈ lw_all := lw_g (lw_at lw_ms 82 rfl) rfl
theorem qs83 : (Cond.selects "TinFenModel" ⟨"TinFenModel", "isLane", "()Z"⟩ ⟨"TinFenModel", "isLane", "()Z"⟩) ∈ lw_all := lw_g (lw_at lw_ms 83 rfl) rfl
theorem qs84 : (Cond.selects "TinFenModel" ⟨"TinFenModel", "isTin", "()Z"⟩ ⟨"TinFenModel", "isTin", "()Z"⟩) ∈ lw_all := lw_g (lw_at lw_ms 84 rfl) rfl
theorem qs85 : (Cond.selects "TinFenModel" ⟨"TinFenModel", "isOf", "()Z"⟩ ⟨"TinFenModel", "isOf", "()Z"⟩) ∈ lw_all := lw_g (lw_at lw_ms 85 rfl) rfl
theorem qs86 : (Cond.selects "TinFenModel" ⟨"TinFenModel", "isLead", "()Z"⟩ ⟨"TinFenModel", "isLead", "()Z"⟩) ∈ lw_all := lw_g (lw_at lw_ms 86 rfl) rfl
theorem qs87 : (Cond.selects "TinFenModel" ⟨"TinFenModel", "stepWord", "()I"⟩ ⟨"TinFenModel", "stepWord", "()I"⟩) ∈ lw_all := lw_g (lw_at lw_ms 87 rfl) rfl
theorem qs88 : (Cond.selects "TinFenModel" ⟨"TinFenModel", "testWord", "()I"⟩ ⟨"TinFenModel", "testWord", "()I"⟩) ∈ lw_all := lw_g (lw_at lw_ms 88 rfl) rfl
theorem qs89 : (Cond.selects "TinFenModel" ⟨"TinFenModel", "isOn", "()Z"⟩ ⟨"TinFenModel", "isOn", "()Z"⟩) ∈ lw_all := lw_g (lw_at lw_ms 89 rfl) rfl
theorem qs90 : (Cond.selects "TinFenModel" ⟨"TinFenModel", "isEnd", "()Z"⟩ ⟨"TinFenModel", "isEnd", "()Z"⟩) ∈ lw_all := lw_g (lw_at lw_ms 90 rfl) rfl
theorem qs91 : (Cond.selects "TinFenModel" ⟨"TinFenModel", "named", "(II)I"⟩ ⟨"TinFenModel", "named", "(II)I"⟩) ∈ lw_all := lw_g (lw_at lw_ms 91 rfl) rfl
theorem qs92 : (Cond.selects "TinFenModel" ⟨"TinFenModel", "must", "(Z)V"⟩ ⟨"TinFenModel", "must", "(Z)V"⟩) ∈ lw_all := lw_g (lw_at lw_ms 92 rfl) rfl
theorem qs93 : (Cond.selects "TinFenModel" ⟨"TinFenModel", "readPerson", "()V"⟩ ⟨"TinFenModel", "readPerson", "()V"⟩) ∈ lw_all := lw_g (lw_at lw_ms 93 rfl) rfl
theorem qs94 : (Cond.selects "TinFenModel" ⟨"TinFenModel", "perhaps", "(Z)Z"⟩ ⟨"TinFenModel", "perhaps", "(Z)Z"⟩) ∈ lw_all := lw_g (lw_at lw_ms 94 rfl) rfl
theorem qs95 : (Cond.selects "TinFenModel" ⟨"TinFenModel", "told", "(II)I"⟩ ⟨"TinFenModel", "told", "(II)I"⟩) ∈ lw_all := lw_g (lw_at lw_ms 95 rfl) rfl
theorem qs96 : (Cond.selects "TinFenModel" ⟨"TinFenModel", "readLane", "()V"⟩ ⟨"TinFenModel", "readLane", "()V"⟩) ∈ lw_all := lw_g (lw_at lw_ms 96 rfl) rfl
theorem qs97 : (Cond.selects "TinFenModel" ⟨"TinFenModel", "readTold", "(II)I"⟩ ⟨"TinFenModel", "readTold", "(II)I"⟩) ∈ lw_all := lw_g (lw_at lw_ms 97 rfl) rfl
theorem qs98 : (Cond.selects "TinFenModel" ⟨"TinFenModel", "meet", "(III)V"⟩ ⟨"TinFenModel", "meet", "(III)V"⟩) ∈ lw_all := lw_g (lw_at lw_ms 98 rfl) rfl
theorem qs99 : (Cond.selects "TinFenModel" ⟨"TinFenModel", "readTin", "()V"⟩ ⟨"TinFenModel", "readTin", "()V"⟩) ∈ lw_all := lw_g (lw_at lw_ms 99 rfl) rfl
theorem qs100 : (Cond.selects "TinFenModel" ⟨"TinFenModel", "strikes", "(IIIII)V"⟩ ⟨"TinFenModel", "strikes", "(IIIII)V"⟩) ∈ lw_all := lw_g (lw_at lw_ms 100 rfl) rfl
theorem qs101 : (Cond.selects "TinFenModel" ⟨"TinFenModel", "isSign", "(I)Z"⟩ ⟨"TinFenModel", "isSign", "(I)Z"⟩) ∈ lw_all := lw_g (lw_at lw_ms 101 rfl) rfl
theorem qs102 : (Cond.selects "TinFenModel" ⟨"TinFenModel", "isWell", "()Z"⟩ ⟨"TinFenModel", "isWell", "()Z"⟩) ∈ lw_all := lw_g (lw_at lw_ms 102 rfl) rfl
theorem qs103 : (Cond.selects "TinFenModel" ⟨"TinFenModel", "copy", "(II)V"⟩ ⟨"TinFenModel", "copy", "(II)V"⟩) ∈ lw_all := lw_g (lw_at lw_ms 103 rfl) rfl
theorem qs104 : (Cond.selects "TinFenModel" ⟨"TinFenModel", "readStep", "(I)V"⟩ ⟨"TinFenModel", "readStep", "(I)V"⟩) ∈ lw_all := lw_g (lw_at lw_ms 104 rfl) rfl
theorem qs105 : (Cond.selects "TinFenModel" ⟨"TinFenModel", "readRest", "(I)V"⟩ ⟨"TinFenModel", "readRest", "(I)V"⟩) ∈ lw_all := lw_g (lw_at lw_ms 105 rfl) rfl
theorem qs106 : (Cond.selects "TinFenModel" ⟨"TinFenModel", "readTest", "(I)V"⟩ ⟨"TinFenModel", "readTest", "(I)V"⟩) ∈ lw_all := lw_g (lw_at lw_ms 106 rfl) rfl
theorem qs107 : (Cond.selects "TinFenModel" ⟨"TinFenModel", "refuse", "(I)I"⟩ ⟨"TinFenModel", "refuse", "(I)I"⟩) ∈ lw_all := lw_g (lw_at lw_ms 107 rfl) rfl
theorem qs108 : (Cond.selects "TinFenModel" ⟨"TinFenModel", "tinsThat", "(I)I"⟩ ⟨"TinFenModel", "tinsThat", "(I)I"⟩) ∈ lw_all := lw_g (lw_at lw_ms 108 rfl) rfl
theorem qs109 : (Cond.selects "TinFenModel" ⟨"TinFenModel", "isGone", "(I)Z"⟩ ⟨"TinFenModel", "isGone", "(I)Z"⟩) ∈ lw_all := lw_g (lw_at lw_ms 109 rfl) rfl
theorem qs110 : (Cond.selects "TinFenModel" ⟨"TinFenModel", "allThere", "()I"⟩ ⟨"TinFenModel", "allThere", "()I"⟩) ∈ lw_all := lw_g (lw_at lw_ms 110 rfl) rfl
theorem qs111 : (Cond.selects "TinFenModel" ⟨"TinFenModel", "allTins", "()I"⟩ ⟨"TinFenModel", "allTins", "()I"⟩) ∈ lw_all := lw_g (lw_at lw_ms 111 rfl) rfl
theorem qs112 : (Cond.selects "TinFenModel" ⟨"TinFenModel", "worthAll", "(I)I"⟩ ⟨"TinFenModel", "worthAll", "(I)I"⟩) ∈ lw_all := lw_g (lw_at lw_ms 112 rfl) rfl
theorem qs113 : (Cond.selects "TinFenModel" ⟨"TinFenModel", "worthOf", "(I)I"⟩ ⟨"TinFenModel", "worthOf", "(I)I"⟩) ∈ lw_all := lw_g (lw_at lw_ms 113 rfl) rfl
theorem qs114 : (Cond.selects "TinFenModel" ⟨"TinFenModel", "isTraitAt", "(I)Z"⟩ ⟨"TinFenModel", "isTraitAt", "(I)Z"⟩) ∈ lw_all := lw_g (lw_at lw_ms 114 rfl) rfl
theorem qs115 : (Cond.selects "TinFenModel" ⟨"TinFenModel", "isPersonAt", "(J)Z"⟩ ⟨"TinFenModel", "isPersonAt", "(J)Z"⟩) ∈ lw_all := lw_g (lw_at lw_ms 115 rfl) rfl
theorem qs116 : (Cond.selects "TinFenModel" ⟨"TinFenModel", "tinsOn", "(I)I"⟩ ⟨"TinFenModel", "tinsOn", "(I)I"⟩) ∈ lw_all := lw_g (lw_at lw_ms 116 rfl) rfl
theorem qs117 : (Cond.selects "TinFenModel" ⟨"TinFenModel", "isTinAt", "(I)Z"⟩ ⟨"TinFenModel", "isTinAt", "(I)Z"⟩) ∈ lw_all := lw_g (lw_at lw_ms 117 rfl) rfl
theorem qs118 : (Cond.selects "TinFenModel" ⟨"TinFenModel", "isTray", "(I)Z"⟩ ⟨"TinFenModel", "isTray", "(I)Z"⟩) ∈ lw_all := lw_g (lw_at lw_ms 118 rfl) rfl
theorem qs119 : (Cond.selects "TinFenModel" ⟨"TinFenModel", "passes", "(II)Z"⟩ ⟨"TinFenModel", "passes", "(II)Z"⟩) ∈ lw_all := lw_g (lw_at lw_ms 119 rfl) rfl
theorem qs120 : (Cond.selects "TinFenModel" ⟨"TinFenModel", "nextOf", "(II)I"⟩ ⟨"TinFenModel", "nextOf", "(II)I"⟩) ∈ lw_all := lw_g (lw_at lw_ms 120 rfl) rfl
theorem qs121 : (Cond.selects "TinFenModel" ⟨"TinFenModel", "isTrue", "(II)Z"⟩ ⟨"TinFenModel", "isTrue", "(II)Z"⟩) ∈ lw_all := lw_g (lw_at lw_ms 121 rfl) rfl
theorem qs122 : (Cond.selects "TinFenModel" ⟨"TinFenModel", "finds", "(I)V"⟩ ⟨"TinFenModel", "finds", "(I)V"⟩) ∈ lw_all := lw_g (lw_at lw_ms 122 rfl) rfl
theorem qs123 : (Cond.selects "TinFenModel" ⟨"TinFenModel", "teaches", "(IIZ)Z"⟩ ⟨"TinFenModel", "teaches", "(IIZ)Z"⟩) ∈ lw_all := lw_g (lw_at lw_ms 123 rfl) rfl
theorem qs124 : (Cond.selects "TinFenModel" ⟨"TinFenModel", "whyNoWay", "(II)I"⟩ ⟨"TinFenModel", "whyNoWay", "(II)I"⟩) ∈ lw_all := lw_g (lw_at lw_ms 124 rfl) rfl
theorem qs125 : (Cond.selects "TinFenModel" ⟨"TinFenModel", "laysFar", "(II)V"⟩ ⟨"TinFenModel", "laysFar", "(II)V"⟩) ∈ lw_all := lw_g (lw_at lw_ms 125 rfl) rfl
theorem qs126 : (Cond.selects "TinFenModel" ⟨"TinFenModel", "whyNoTin", "(I)I"⟩ ⟨"TinFenModel", "whyNoTin", "(I)I"⟩) ∈ lw_all := lw_g (lw_at lw_ms 126 rfl) rfl
theorem qs127 : (Cond.selects "TinFenModel" ⟨"TinFenModel", "laysRound", "(I)V"⟩ ⟨"TinFenModel", "laysRound", "(I)V"⟩) ∈ lw_all := lw_g (lw_at lw_ms 127 rfl) rfl
theorem qs128 : (Cond.selects "TinFenModel" ⟨"TinFenModel", "goesRound", "(III)V"⟩ ⟨"TinFenModel", "goesRound", "(III)V"⟩) ∈ lw_all := lw_g (lw_at lw_ms 128 rfl) rfl
theorem qs129 : (Cond.selects "TinFenModel" ⟨"TinFenModel", "whyNoTins", "(I)I"⟩ ⟨"TinFenModel", "whyNoTins", "(I)I"⟩) ∈ lw_all := lw_g (lw_at lw_ms 129 rfl) rfl
theorem qs130 : (Cond.selects "TinFenModel" ⟨"TinFenModel", "laysGivings", "(IIIZ)I"⟩ ⟨"TinFenModel", "laysGivings", "(IIIZ)I"⟩) ∈ lw_all := lw_g (lw_at lw_ms 130 rfl) rfl
theorem qs131 : (Cond.selects "TinFenModel" ⟨"TinFenModel", "laysTin", "(IZ)V"⟩ ⟨"TinFenModel", "laysTin", "(IZ)V"⟩) ∈ lw_all := lw_g (lw_at lw_ms 131 rfl) rfl
theorem qs132 : (Cond.selects "TinFenModel" ⟨"TinFenModel", "covering", "()I"⟩ ⟨"TinFenModel", "covering", "()I"⟩) ∈ lw_all := lw_g (lw_at lw_ms 132 rfl) rfl
theorem qs133 : (Cond.selects "TinFenModel" ⟨"TinFenModel", "blaming", "()I"⟩ ⟨"TinFenModel", "blaming", "()I"⟩) ∈ lw_all := lw_g (lw_at lw_ms 133 rfl) rfl
theorem qs134 : (Cond.selects "TinFenModel" ⟨"TinFenModel", "rolls", "(IIII)I"⟩ ⟨"TinFenModel", "rolls", "(IIII)I"⟩) ∈ lw_all := lw_g (lw_at lw_ms 134 rfl) rfl
theorem qs135 : (Cond.selects "TinFenModel" ⟨"TinFenModel", "canGive", "(II)Z"⟩ ⟨"TinFenModel", "canGive", "(II)Z"⟩) ∈ lw_all := lw_g (lw_at lw_ms 135 rfl) rfl
theorem qs136 : (Cond.selects "TinFenModel" ⟨"TinFenModel", "whyNoWhose", "(II)I"⟩ ⟨"TinFenModel", "whyNoWhose", "(II)I"⟩) ∈ lw_all := lw_g (lw_at lw_ms 136 rfl) rfl
theorem qs137 : (Cond.selects "TinFenModel" ⟨"TinFenModel", "numberOf", "(II)J"⟩ ⟨"TinFenModel", "numberOf", "(II)J"⟩) ∈ lw_all := lw_g (lw_at lw_ms 137 rfl) rfl
theorem qs138 : (Cond.selects "TinFenModel" ⟨"TinFenModel", "laysWhose", "(II)V"⟩ ⟨"TinFenModel", "laysWhose", "(II)V"⟩) ∈ lw_all := lw_g (lw_at lw_ms 138 rfl) rfl
theorem qs139 : (Cond.selects "TinFenModel" ⟨"TinFenModel", "mostAlike", "(I)I"⟩ ⟨"TinFenModel", "mostAlike", "(I)I"⟩) ∈ lw_all := lw_g (lw_at lw_ms 139 rfl) rfl
theorem qs140 : (Cond.selects "TinFenModel" ⟨"TinFenModel", "whyNoGame", "(IIII)I"⟩ ⟨"TinFenModel", "whyNoGame", "(IIII)I"⟩) ∈ lw_all := lw_g (lw_at lw_ms 140 rfl) rfl
theorem qs141 : (Cond.selects "TinFenModel" ⟨"TinFenModel", "plays", "(IIII)I"⟩ ⟨"TinFenModel", "plays", "(IIII)I"⟩) ∈ lw_all := lw_g (lw_at lw_ms 141 rfl) rfl
theorem qs142 : (Cond.selects "TinFenModel" ⟨"TinFenModel", "fraction", "(JJ)Z"⟩ ⟨"TinFenModel", "fraction", "(JJ)Z"⟩) ∈ lw_all := lw_g (lw_at lw_ms 142 rfl) rfl
theorem qs143 : (Cond.selects "TinFenModel" ⟨"TinFenModel", "runsYears", "(I)V"⟩ ⟨"TinFenModel", "runsYears", "(I)V"⟩) ∈ lw_all := lw_g (lw_at lw_ms 143 rfl) rfl
theorem qs144 : (Cond.selects "TinFenModel" ⟨"TinFenModel", "allGot", "()I"⟩ ⟨"TinFenModel", "allGot", "()I"⟩) ∈ lw_all := lw_g (lw_at lw_ms 144 rfl) rfl
theorem qs145 : (Cond.selects "TinFenModel" ⟨"TinFenModel", "doAll", "(II)V"⟩ ⟨"TinFenModel", "doAll", "(II)V"⟩) ∈ lw_all := lw_g (lw_at lw_ms 145 rfl) rfl
theorem qs146 : (Cond.selects "TinFenModel" ⟨"TinFenModel", "doOne", "(I)V"⟩ ⟨"TinFenModel", "doOne", "(I)V"⟩) ∈ lw_all := lw_g (lw_at lw_ms 146 rfl) rfl
theorem qs147 : (Cond.selects "TinFenModel" ⟨"TinFenModel", "does", "(I)Z"⟩ ⟨"TinFenModel", "does", "(I)Z"⟩) ∈ lw_all := lw_g (lw_at lw_ms 147 rfl) rfl
theorem qs148 : (Cond.selects "TinFenModel" ⟨"TinFenModel", "isBitten", "(I)Z"⟩ ⟨"TinFenModel", "isBitten", "(I)Z"⟩) ∈ lw_all := lw_g (lw_at lw_ms 148 rfl) rfl
theorem qs149 : (Cond.selects "TinFenModel" ⟨"TinFenModel", "draw", "(I)I"⟩ ⟨"TinFenModel", "draw", "(I)I"⟩) ∈ lw_all := lw_g (lw_at lw_ms 149 rfl) rfl
theorem qs150 : (Cond.selects "TinFenModel" ⟨"TinFenModel", "isAny", "()Z"⟩ ⟨"TinFenModel", "isAny", "()Z"⟩) ∈ lw_all := lw_g (lw_at lw_ms 150 rfl) rfl
theorem qs151 : (Cond.selects "TinFenModel" ⟨"TinFenModel", "isSo", "(I)Z"⟩ ⟨"TinFenModel", "isSo", "(I)Z"⟩) ∈ lw_all := lw_g (lw_at lw_ms 151 rfl) rfl
