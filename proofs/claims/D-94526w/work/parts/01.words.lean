-- ===== PART A: goes FIRST, ahead of the names: the tables' words, and 'selects' of the private methods out of them =====
/-- a private method of a class that the tables say can be made, by its rows of tables_1 -/
def lw_okq (q : MethodName × Nat) : Prop := (q.1.cls ≠ "java/lang/invoke/MethodHandle" ∧ q.1.cls ≠ "java/lang/invoke/VarHandle") ∧ Cond.instantiable q.1.cls q.2 ∈ tables_1 ∧ Cond.privateMethod q.1 ∈ tables_1 ∧ Cond.instanceMethod q.1 ∈ tables_1
set_option maxRecDepth 100000
theorem lw_t1 {w : Cond} (h : w ∈ tables_1_1) : w ∈ tables_1 := List.mem_append_left _ h
theorem lw_t2 {w : Cond} (h : w ∈ tables_1_2) : w ∈ tables_1 := List.mem_append_right _ (List.mem_append_left _ h)
theorem lw_t3 {w : Cond} (h : w ∈ tables_1_3) : w ∈ tables_1 := List.mem_append_right _ (List.mem_append_right _ (List.mem_append_left _ h))
theorem lw_t4 {w : Cond} (h : w ∈ tables_1_4) : w ∈ tables_1 := List.mem_append_right _ (List.mem_append_right _ (List.mem_append_right _ (List.mem_append_left _ h)))
theorem lw_t5 {w : Cond} (h : w ∈ tables_1_5) : w ∈ tables_1 := List.mem_append_right _ (List.mem_append_right _ (List.mem_append_right _ (List.mem_append_right _ (List.mem_append_left _ h))))
theorem lw_t6 {w : Cond} (h : w ∈ tables_1_6) : w ∈ tables_1 := List.mem_append_right _ (List.mem_append_right _ (List.mem_append_right _ (List.mem_append_right _ (List.mem_append_right _ (List.mem_append_left _ h)))))
theorem lw_t7 {w : Cond} (h : w ∈ tables_1_7) : w ∈ tables_1 := List.mem_append_right _ (List.mem_append_right _ (List.mem_append_right _ (List.mem_append_right _ (List.mem_append_right _ (List.mem_append_right _ (List.mem_append_left _ h))))))
theorem lw_t8 {w : Cond} (h : w ∈ tables_1_8) : w ∈ tables_1 := List.mem_append_right _ (List.mem_append_right _ (List.mem_append_right _ (List.mem_append_right _ (List.mem_append_right _ (List.mem_append_right _ (List.mem_append_right _ (List.mem_append_left _ h)))))))
theorem lw_t9 {w : Cond} (h : w ∈ tables_1_9) : w ∈ tables_1 := List.mem_append_right _ (List.mem_append_right _ (List.mem_append_right _ (List.mem_append_right _ (List.mem_append_right _ (List.mem_append_right _ (List.mem_append_right _ (List.mem_append_right _ h)))))))
theorem lw_p0 : lw_okq (⟨"java/lang/NullPointerException", "getExtendedNPEMessage", "()Ljava/lang/String;"⟩, 8) := ⟨⟨by decide +kernel, by decide +kernel⟩, lw_t1 (List.mem_of_getElem? (i := 82) rfl), lw_t1 (List.mem_of_getElem? (i := 80) rfl), lw_t1 (List.mem_of_getElem? (i := 81) rfl)⟩
theorem lw_p1 : lw_okq (⟨"java/lang/Throwable", "fillInStackTrace", "(I)Ljava/lang/Throwable;"⟩, 6) := ⟨⟨by decide +kernel, by decide +kernel⟩, lw_t1 (List.mem_of_getElem? (i := 94) rfl), lw_t1 (List.mem_of_getElem? (i := 92) rfl), lw_t1 (List.mem_of_getElem? (i := 93) rfl)⟩
theorem lw_p2 : lw_okq (⟨"SwapBook", "is", "(I)Z"⟩, 37) := ⟨⟨by decide +kernel, by decide +kernel⟩, lw_t1 (List.mem_of_getElem? (i := 30) rfl), lw_t2 (List.mem_of_getElem? (i := 160) rfl), lw_t2 (List.mem_of_getElem? (i := 161) rfl)⟩
theorem lw_p3 : lw_okq (⟨"SwapBook", "none", "(I)I"⟩, 37) := ⟨⟨by decide +kernel, by decide +kernel⟩, lw_t1 (List.mem_of_getElem? (i := 30) rfl), lw_t2 (List.mem_of_getElem? (i := 229) rfl), lw_t2 (List.mem_of_getElem? (i := 230) rfl)⟩
theorem lw_p4 : lw_okq (⟨"SwapBook", "four", "(I)V"⟩, 37) := ⟨⟨by decide +kernel, by decide +kernel⟩, lw_t1 (List.mem_of_getElem? (i := 30) rfl), lw_t3 (List.mem_of_getElem? (i := 10) rfl), lw_t3 (List.mem_of_getElem? (i := 11) rfl)⟩
theorem lw_p5 : lw_okq (⟨"SwapBook", "takes", "(II)Z"⟩, 37) := ⟨⟨by decide +kernel, by decide +kernel⟩, lw_t1 (List.mem_of_getElem? (i := 30) rfl), lw_t3 (List.mem_of_getElem? (i := 18) rfl), lw_t3 (List.mem_of_getElem? (i := 19) rfl)⟩
theorem lw_p6 : lw_okq (⟨"SwapBook$Reader", "part", "()V"⟩, 16) := ⟨⟨by decide +kernel, by decide +kernel⟩, lw_t1 (List.mem_of_getElem? (i := 40) rfl), lw_t3 (List.mem_of_getElem? (i := 105) rfl), lw_t3 (List.mem_of_getElem? (i := 106) rfl)⟩
theorem lw_p7 : lw_okq (⟨"SwapBook$Reader", "newName", "()J"⟩, 16) := ⟨⟨by decide +kernel, by decide +kernel⟩, lw_t1 (List.mem_of_getElem? (i := 40) rfl), lw_t3 (List.mem_of_getElem? (i := 147) rfl), lw_t3 (List.mem_of_getElem? (i := 148) rfl)⟩
theorem lw_p8 : lw_okq (⟨"SwapBook$Reader", "aPut", "(J)LSwapBook$Change;"⟩, 16) := ⟨⟨by decide +kernel, by decide +kernel⟩, lw_t1 (List.mem_of_getElem? (i := 40) rfl), lw_t3 (List.mem_of_getElem? (i := 167) rfl), lw_t3 (List.mem_of_getElem? (i := 168) rfl)⟩
theorem lw_p9 : lw_okq (⟨"SwapBook$Reader", "word", "(I)V"⟩, 16) := ⟨⟨by decide +kernel, by decide +kernel⟩, lw_t1 (List.mem_of_getElem? (i := 40) rfl), lw_t3 (List.mem_of_getElem? (i := 233) rfl), lw_t3 (List.mem_of_getElem? (i := 234) rfl)⟩
theorem lw_p10 : lw_okq (⟨"SwapBook$Reader", "told", "()I"⟩, 16) := ⟨⟨by decide +kernel, by decide +kernel⟩, lw_t1 (List.mem_of_getElem? (i := 40) rfl), lw_t3 (List.mem_of_getElem? (i := 237) rfl), lw_t3 (List.mem_of_getElem? (i := 238) rfl)⟩
theorem lw_p11 : lw_okq (⟨"SwapBook$Reader", "aSettle", "(J)LSwapBook$Change;"⟩, 16) := ⟨⟨by decide +kernel, by decide +kernel⟩, lw_t1 (List.mem_of_getElem? (i := 40) rfl), lw_t4 (List.mem_of_getElem? (i := 12) rfl), lw_t4 (List.mem_of_getElem? (i := 13) rfl)⟩
theorem lw_p12 : lw_okq (⟨"SwapBook$Reader", "ofTwo", "()I"⟩, 16) := ⟨⟨by decide +kernel, by decide +kernel⟩, lw_t1 (List.mem_of_getElem? (i := 40) rfl), lw_t4 (List.mem_of_getElem? (i := 35) rfl), lw_t4 (List.mem_of_getElem? (i := 36) rfl)⟩
theorem lw_p13 : lw_okq (⟨"SwapBook$Reader", "aChange", "()I"⟩, 16) := ⟨⟨by decide +kernel, by decide +kernel⟩, lw_t1 (List.mem_of_getElem? (i := 40) rfl), lw_t4 (List.mem_of_getElem? (i := 39) rfl), lw_t4 (List.mem_of_getElem? (i := 40) rfl)⟩
theorem lw_p14 : lw_okq (⟨"SwapBook$Reader", "another", "(JI)LSwapBook$Change;"⟩, 16) := ⟨⟨by decide +kernel, by decide +kernel⟩, lw_t1 (List.mem_of_getElem? (i := 40) rfl), lw_t4 (List.mem_of_getElem? (i := 58) rfl), lw_t4 (List.mem_of_getElem? (i := 59) rfl)⟩
theorem lw_p15 : lw_okq (⟨"SwapBook$Reader", "after", "(LSwapBook$Change;)V"⟩, 16) := ⟨⟨by decide +kernel, by decide +kernel⟩, lw_t1 (List.mem_of_getElem? (i := 40) rfl), lw_t4 (List.mem_of_getElem? (i := 99) rfl), lw_t4 (List.mem_of_getElem? (i := 100) rfl)⟩
def lw_privs_1 : List (MethodName × Nat) := [(⟨"java/lang/NullPointerException", "getExtendedNPEMessage", "()Ljava/lang/String;"⟩, 8), (⟨"java/lang/Throwable", "fillInStackTrace", "(I)Ljava/lang/Throwable;"⟩, 6), (⟨"SwapBook", "is", "(I)Z"⟩, 37), (⟨"SwapBook", "none", "(I)I"⟩, 37), (⟨"SwapBook", "four", "(I)V"⟩, 37), (⟨"SwapBook", "takes", "(II)Z"⟩, 37), (⟨"SwapBook$Reader", "part", "()V"⟩, 16), (⟨"SwapBook$Reader", "newName", "()J"⟩, 16), (⟨"SwapBook$Reader", "aPut", "(J)LSwapBook$Change;"⟩, 16), (⟨"SwapBook$Reader", "word", "(I)V"⟩, 16), (⟨"SwapBook$Reader", "told", "()I"⟩, 16), (⟨"SwapBook$Reader", "aSettle", "(J)LSwapBook$Change;"⟩, 16), (⟨"SwapBook$Reader", "ofTwo", "()I"⟩, 16), (⟨"SwapBook$Reader", "aChange", "()I"⟩, 16), (⟨"SwapBook$Reader", "another", "(JI)LSwapBook$Change;"⟩, 16), (⟨"SwapBook$Reader", "after", "(LSwapBook$Change;)V"⟩, 16)]
theorem lw_r1 : ∀ q ∈ lw_privs_1, lw_okq q := List.forall_mem_cons.mpr ⟨lw_p0, List.forall_mem_cons.mpr ⟨lw_p1, List.forall_mem_cons.mpr ⟨lw_p2, List.forall_mem_cons.mpr ⟨lw_p3, List.forall_mem_cons.mpr ⟨lw_p4, List.forall_mem_cons.mpr ⟨lw_p5, List.forall_mem_cons.mpr ⟨lw_p6, List.forall_mem_cons.mpr ⟨lw_p7, List.forall_mem_cons.mpr ⟨lw_p8, List.forall_mem_cons.mpr ⟨lw_p9, List.forall_mem_cons.mpr ⟨lw_p10, List.forall_mem_cons.mpr ⟨lw_p11, List.forall_mem_cons.mpr ⟨lw_p12, List.forall_mem_cons.mpr ⟨lw_p13, List.forall_mem_cons.mpr ⟨lw_p14, List.forall_mem_cons.mpr ⟨lw_p15, fun _ h => absurd h List.not_mem_nil⟩⟩⟩⟩⟩⟩⟩⟩⟩⟩⟩⟩⟩⟩⟩⟩
theorem lw_p16 : lw_okq (⟨"SwapBook$Reader", "isName", "()Z"⟩, 16) := ⟨⟨by decide +kernel, by decide +kernel⟩, lw_t1 (List.mem_of_getElem? (i := 40) rfl), lw_t4 (List.mem_of_getElem? (i := 103) rfl), lw_t4 (List.mem_of_getElem? (i := 104) rfl)⟩
theorem lw_p17 : lw_okq (⟨"SwapBook", "refused", "(LSwapBook$Wrong;)I"⟩, 37) := ⟨⟨by decide +kernel, by decide +kernel⟩, lw_t1 (List.mem_of_getElem? (i := 30) rfl), lw_t4 (List.mem_of_getElem? (i := 138) rfl), lw_t4 (List.mem_of_getElem? (i := 139) rfl)⟩
theorem lw_p18 : lw_okq (⟨"SwapBook", "gives", "(I)I"⟩, 37) := ⟨⟨by decide +kernel, by decide +kernel⟩, lw_t1 (List.mem_of_getElem? (i := 30) rfl), lw_t4 (List.mem_of_getElem? (i := 142) rfl), lw_t4 (List.mem_of_getElem? (i := 143) rfl)⟩
theorem lw_p19 : lw_okq (⟨"SwapBook$Reader", "step", "()V"⟩, 16) := ⟨⟨by decide +kernel, by decide +kernel⟩, lw_t1 (List.mem_of_getElem? (i := 40) rfl), lw_t4 (List.mem_of_getElem? (i := 156) rfl), lw_t4 (List.mem_of_getElem? (i := 157) rfl)⟩
theorem lw_p20 : lw_okq (⟨"SwapBook$Reader", "passedChange", "()I"⟩, 16) := ⟨⟨by decide +kernel, by decide +kernel⟩, lw_t1 (List.mem_of_getElem? (i := 40) rfl), lw_t4 (List.mem_of_getElem? (i := 201) rfl), lw_t4 (List.mem_of_getElem? (i := 202) rfl)⟩
theorem lw_p21 : lw_okq (⟨"SwapBook$Reader", "anIsland", "()I"⟩, 16) := ⟨⟨by decide +kernel, by decide +kernel⟩, lw_t1 (List.mem_of_getElem? (i := 40) rfl), lw_t4 (List.mem_of_getElem? (i := 205) rfl), lw_t4 (List.mem_of_getElem? (i := 206) rfl)⟩
theorem lw_p22 : lw_okq (⟨"SwapBook$Reader", "ship", "(LSwapBook$Step;)V"⟩, 16) := ⟨⟨by decide +kernel, by decide +kernel⟩, lw_t1 (List.mem_of_getElem? (i := 40) rfl), lw_t4 (List.mem_of_getElem? (i := 209) rfl), lw_t4 (List.mem_of_getElem? (i := 210) rfl)⟩
theorem lw_p23 : lw_okq (⟨"SwapBook$Reader", "test", "(LSwapBook$Step;)V"⟩, 16) := ⟨⟨by decide +kernel, by decide +kernel⟩, lw_t1 (List.mem_of_getElem? (i := 40) rfl), lw_t4 (List.mem_of_getElem? (i := 213) rfl), lw_t4 (List.mem_of_getElem? (i := 214) rfl)⟩
theorem lw_p24 : lw_okq (⟨"SwapBook", "isChange", "(J)Z"⟩, 37) := ⟨⟨by decide +kernel, by decide +kernel⟩, lw_t1 (List.mem_of_getElem? (i := 30) rfl), lw_t4 (List.mem_of_getElem? (i := 236) rfl), lw_t4 (List.mem_of_getElem? (i := 237) rfl)⟩
theorem lw_p25 : lw_okq (⟨"SwapBook", "hung", "(I)I"⟩, 37) := ⟨⟨by decide +kernel, by decide +kernel⟩, lw_t1 (List.mem_of_getElem? (i := 30) rfl), lw_t5 (List.mem_of_getElem? (i := 17) rfl), lw_t5 (List.mem_of_getElem? (i := 18) rfl)⟩
theorem lw_p26 : lw_okq (⟨"SwapBook", "isSet", "(I)Z"⟩, 37) := ⟨⟨by decide +kernel, by decide +kernel⟩, lw_t1 (List.mem_of_getElem? (i := 30) rfl), lw_t5 (List.mem_of_getElem? (i := 25) rfl), lw_t5 (List.mem_of_getElem? (i := 26) rfl)⟩
theorem lw_p27 : lw_okq (⟨"SwapBook", "without", "(II)I"⟩, 37) := ⟨⟨by decide +kernel, by decide +kernel⟩, lw_t1 (List.mem_of_getElem? (i := 30) rfl), lw_t5 (List.mem_of_getElem? (i := 45) rfl), lw_t5 (List.mem_of_getElem? (i := 46) rfl)⟩
theorem lw_p28 : lw_okq (⟨"SwapBook", "wrongSet", "(I)I"⟩, 37) := ⟨⟨by decide +kernel, by decide +kernel⟩, lw_t1 (List.mem_of_getElem? (i := 30) rfl), lw_t5 (List.mem_of_getElem? (i := 65) rfl), lw_t5 (List.mem_of_getElem? (i := 66) rfl)⟩
theorem lw_p29 : lw_okq (⟨"SwapBook", "lists", "(I)V"⟩, 37) := ⟨⟨by decide +kernel, by decide +kernel⟩, lw_t1 (List.mem_of_getElem? (i := 30) rfl), lw_t5 (List.mem_of_getElem? (i := 69) rfl), lw_t5 (List.mem_of_getElem? (i := 70) rfl)⟩
theorem lw_p30 : lw_okq (⟨"SwapBook", "wrongThing", "(II)I"⟩, 37) := ⟨⟨by decide +kernel, by decide +kernel⟩, lw_t1 (List.mem_of_getElem? (i := 30) rfl), lw_t5 (List.mem_of_getElem? (i := 108) rfl), lw_t5 (List.mem_of_getElem? (i := 109) rfl)⟩
theorem lw_p31 : lw_okq (⟨"SwapBook", "placeOf", "(I)I"⟩, 37) := ⟨⟨by decide +kernel, by decide +kernel⟩, lw_t1 (List.mem_of_getElem? (i := 30) rfl), lw_t5 (List.mem_of_getElem? (i := 112) rfl), lw_t5 (List.mem_of_getElem? (i := 113) rfl)⟩
def lw_privs_2 : List (MethodName × Nat) := [(⟨"SwapBook$Reader", "isName", "()Z"⟩, 16), (⟨"SwapBook", "refused", "(LSwapBook$Wrong;)I"⟩, 37), (⟨"SwapBook", "gives", "(I)I"⟩, 37), (⟨"SwapBook$Reader", "step", "()V"⟩, 16), (⟨"SwapBook$Reader", "passedChange", "()I"⟩, 16), (⟨"SwapBook$Reader", "anIsland", "()I"⟩, 16), (⟨"SwapBook$Reader", "ship", "(LSwapBook$Step;)V"⟩, 16), (⟨"SwapBook$Reader", "test", "(LSwapBook$Step;)V"⟩, 16), (⟨"SwapBook", "isChange", "(J)Z"⟩, 37), (⟨"SwapBook", "hung", "(I)I"⟩, 37), (⟨"SwapBook", "isSet", "(I)Z"⟩, 37), (⟨"SwapBook", "without", "(II)I"⟩, 37), (⟨"SwapBook", "wrongSet", "(I)I"⟩, 37), (⟨"SwapBook", "lists", "(I)V"⟩, 37), (⟨"SwapBook", "wrongThing", "(II)I"⟩, 37), (⟨"SwapBook", "placeOf", "(I)I"⟩, 37)]
theorem lw_r2 : ∀ q ∈ lw_privs_2, lw_okq q := List.forall_mem_cons.mpr ⟨lw_p16, List.forall_mem_cons.mpr ⟨lw_p17, List.forall_mem_cons.mpr ⟨lw_p18, List.forall_mem_cons.mpr ⟨lw_p19, List.forall_mem_cons.mpr ⟨lw_p20, List.forall_mem_cons.mpr ⟨lw_p21, List.forall_mem_cons.mpr ⟨lw_p22, List.forall_mem_cons.mpr ⟨lw_p23, List.forall_mem_cons.mpr ⟨lw_p24, List.forall_mem_cons.mpr ⟨lw_p25, List.forall_mem_cons.mpr ⟨lw_p26, List.forall_mem_cons.mpr ⟨lw_p27, List.forall_mem_cons.mpr ⟨lw_p28, List.forall_mem_cons.mpr ⟨lw_p29, List.forall_mem_cons.mpr ⟨lw_p30, List.forall_mem_cons.mpr ⟨lw_p31, fun _ h => absurd h List.not_mem_nil⟩⟩⟩⟩⟩⟩⟩⟩⟩⟩⟩⟩⟩⟩⟩⟩
theorem lw_p32 : lw_okq (⟨"SwapBook", "wrongSets", "(II)I"⟩, 37) := ⟨⟨by decide +kernel, by decide +kernel⟩, lw_t1 (List.mem_of_getElem? (i := 30) rfl), lw_t5 (List.mem_of_getElem? (i := 128) rfl), lw_t5 (List.mem_of_getElem? (i := 129) rfl)⟩
theorem lw_p33 : lw_okq (⟨"SwapBook", "differs", "(IIZ)I"⟩, 37) := ⟨⟨by decide +kernel, by decide +kernel⟩, lw_t1 (List.mem_of_getElem? (i := 30) rfl), lw_t5 (List.mem_of_getElem? (i := 132) rfl), lw_t5 (List.mem_of_getElem? (i := 133) rfl)⟩
theorem lw_p34 : lw_okq (⟨"SwapBook", "inSet", "(II)I"⟩, 37) := ⟨⟨by decide +kernel, by decide +kernel⟩, lw_t1 (List.mem_of_getElem? (i := 30) rfl), lw_t5 (List.mem_of_getElem? (i := 137) rfl), lw_t5 (List.mem_of_getElem? (i := 138) rfl)⟩
theorem lw_p35 : lw_okq (⟨"SwapBook", "quietest", "(I)I"⟩, 37) := ⟨⟨by decide +kernel, by decide +kernel⟩, lw_t1 (List.mem_of_getElem? (i := 30) rfl), lw_t5 (List.mem_of_getElem? (i := 158) rfl), lw_t5 (List.mem_of_getElem? (i := 159) rfl)⟩
theorem lw_p36 : lw_okq (⟨"SwapBook", "counts", "(I)V"⟩, 37) := ⟨⟨by decide +kernel, by decide +kernel⟩, lw_t1 (List.mem_of_getElem? (i := 30) rfl), lw_t5 (List.mem_of_getElem? (i := 174) rfl), lw_t5 (List.mem_of_getElem? (i := 175) rfl)⟩
theorem lw_p37 : lw_okq (⟨"SwapBook", "mayCome", "(II)Z"⟩, 37) := ⟨⟨by decide +kernel, by decide +kernel⟩, lw_t1 (List.mem_of_getElem? (i := 30) rfl), lw_t5 (List.mem_of_getElem? (i := 178) rfl), lw_t5 (List.mem_of_getElem? (i := 179) rfl)⟩
theorem lw_p38 : lw_okq (⟨"SwapBook", "tell", "(JJ)Z"⟩, 37) := ⟨⟨by decide +kernel, by decide +kernel⟩, lw_t1 (List.mem_of_getElem? (i := 30) rfl), lw_t5 (List.mem_of_getElem? (i := 186) rfl), lw_t5 (List.mem_of_getElem? (i := 187) rfl)⟩
theorem lw_p39 : lw_okq (⟨"SwapBook", "upTo", "(I)I"⟩, 37) := ⟨⟨by decide +kernel, by decide +kernel⟩, lw_t1 (List.mem_of_getElem? (i := 30) rfl), lw_t5 (List.mem_of_getElem? (i := 210) rfl), lw_t5 (List.mem_of_getElem? (i := 211) rfl)⟩
theorem lw_p40 : lw_okq (⟨"SwapBook", "maySwap", "(I)Z"⟩, 37) := ⟨⟨by decide +kernel, by decide +kernel⟩, lw_t1 (List.mem_of_getElem? (i := 30) rfl), lw_t5 (List.mem_of_getElem? (i := 226) rfl), lw_t5 (List.mem_of_getElem? (i := 227) rfl)⟩
theorem lw_p41 : lw_okq (⟨"SwapBook", "swaps", "(I)V"⟩, 37) := ⟨⟨by decide +kernel, by decide +kernel⟩, lw_t1 (List.mem_of_getElem? (i := 30) rfl), lw_t5 (List.mem_of_getElem? (i := 230) rfl), lw_t5 (List.mem_of_getElem? (i := 231) rfl)⟩
theorem lw_p42 : lw_okq (⟨"SwapBook", "isIsland", "(I)Z"⟩, 37) := ⟨⟨by decide +kernel, by decide +kernel⟩, lw_t1 (List.mem_of_getElem? (i := 30) rfl), lw_t6 (List.mem_of_getElem? (i := 6) rfl), lw_t6 (List.mem_of_getElem? (i := 7) rfl)⟩
theorem lw_p43 : lw_okq (⟨"SwapBook", "sails", "(I)V"⟩, 37) := ⟨⟨by decide +kernel, by decide +kernel⟩, lw_t1 (List.mem_of_getElem? (i := 30) rfl), lw_t6 (List.mem_of_getElem? (i := 19) rfl), lw_t6 (List.mem_of_getElem? (i := 20) rfl)⟩
theorem lw_p44 : lw_okq (⟨"SwapBook", "does", "(LSwapBook$Step;)Z"⟩, 37) := ⟨⟨by decide +kernel, by decide +kernel⟩, lw_t1 (List.mem_of_getElem? (i := 30) rfl), lw_t6 (List.mem_of_getElem? (i := 23) rfl), lw_t6 (List.mem_of_getElem? (i := 24) rfl)⟩
theorem lw_p45 : lw_okq (⟨"SwapBook", "ships", "(LSwapBook$Step;)Z"⟩, 37) := ⟨⟨by decide +kernel, by decide +kernel⟩, lw_t1 (List.mem_of_getElem? (i := 30) rfl), lw_t6 (List.mem_of_getElem? (i := 27) rfl), lw_t6 (List.mem_of_getElem? (i := 28) rfl)⟩
theorem lw_p46 : lw_okq (⟨"SwapBook", "sets", "(III)V"⟩, 37) := ⟨⟨by decide +kernel, by decide +kernel⟩, lw_t1 (List.mem_of_getElem? (i := 30) rfl), lw_t6 (List.mem_of_getElem? (i := 31) rfl), lw_t6 (List.mem_of_getElem? (i := 32) rfl)⟩
theorem lw_p47 : lw_okq (⟨"SwapBook", "arrives", "()V"⟩, 37) := ⟨⟨by decide +kernel, by decide +kernel⟩, lw_t1 (List.mem_of_getElem? (i := 30) rfl), lw_t6 (List.mem_of_getElem? (i := 35) rfl), lw_t6 (List.mem_of_getElem? (i := 36) rfl)⟩
def lw_privs_3 : List (MethodName × Nat) := [(⟨"SwapBook", "wrongSets", "(II)I"⟩, 37), (⟨"SwapBook", "differs", "(IIZ)I"⟩, 37), (⟨"SwapBook", "inSet", "(II)I"⟩, 37), (⟨"SwapBook", "quietest", "(I)I"⟩, 37), (⟨"SwapBook", "counts", "(I)V"⟩, 37), (⟨"SwapBook", "mayCome", "(II)Z"⟩, 37), (⟨"SwapBook", "tell", "(JJ)Z"⟩, 37), (⟨"SwapBook", "upTo", "(I)I"⟩, 37), (⟨"SwapBook", "maySwap", "(I)Z"⟩, 37), (⟨"SwapBook", "swaps", "(I)V"⟩, 37), (⟨"SwapBook", "isIsland", "(I)Z"⟩, 37), (⟨"SwapBook", "sails", "(I)V"⟩, 37), (⟨"SwapBook", "does", "(LSwapBook$Step;)Z"⟩, 37), (⟨"SwapBook", "ships", "(LSwapBook$Step;)Z"⟩, 37), (⟨"SwapBook", "sets", "(III)V"⟩, 37), (⟨"SwapBook", "arrives", "()V"⟩, 37)]
theorem lw_r3 : ∀ q ∈ lw_privs_3, lw_okq q := List.forall_mem_cons.mpr ⟨lw_p32, List.forall_mem_cons.mpr ⟨lw_p33, List.forall_mem_cons.mpr ⟨lw_p34, List.forall_mem_cons.mpr ⟨lw_p35, List.forall_mem_cons.mpr ⟨lw_p36, List.forall_mem_cons.mpr ⟨lw_p37, List.forall_mem_cons.mpr ⟨lw_p38, List.forall_mem_cons.mpr ⟨lw_p39, List.forall_mem_cons.mpr ⟨lw_p40, List.forall_mem_cons.mpr ⟨lw_p41, List.forall_mem_cons.mpr ⟨lw_p42, List.forall_mem_cons.mpr ⟨lw_p43, List.forall_mem_cons.mpr ⟨lw_p44, List.forall_mem_cons.mpr ⟨lw_p45, List.forall_mem_cons.mpr ⟨lw_p46, List.forall_mem_cons.mpr ⟨lw_p47, fun _ h => absurd h List.not_mem_nil⟩⟩⟩⟩⟩⟩⟩⟩⟩⟩⟩⟩⟩⟩⟩⟩
theorem lw_p48 : lw_okq (⟨"SwapBook", "removes", "(I)V"⟩, 37) := ⟨⟨by decide +kernel, by decide +kernel⟩, lw_t1 (List.mem_of_getElem? (i := 30) rfl), lw_t6 (List.mem_of_getElem? (i := 39) rfl), lw_t6 (List.mem_of_getElem? (i := 40) rfl)⟩
theorem lw_p49 : lw_okq (⟨"SwapBook", "draws", "(I)V"⟩, 37) := ⟨⟨by decide +kernel, by decide +kernel⟩, lw_t1 (List.mem_of_getElem? (i := 30) rfl), lw_t6 (List.mem_of_getElem? (i := 43) rfl), lw_t6 (List.mem_of_getElem? (i := 44) rfl)⟩
theorem lw_p50 : lw_okq (⟨"SwapBook", "holds", "(LSwapBook$Step;)Z"⟩, 37) := ⟨⟨by decide +kernel, by decide +kernel⟩, lw_t1 (List.mem_of_getElem? (i := 30) rfl), lw_t6 (List.mem_of_getElem? (i := 47) rfl), lw_t6 (List.mem_of_getElem? (i := 48) rfl)⟩
theorem lw_p51 : lw_okq (⟨"SwapBook", "behindEnds", "(I)I"⟩, 37) := ⟨⟨by decide +kernel, by decide +kernel⟩, lw_t1 (List.mem_of_getElem? (i := 30) rfl), lw_t6 (List.mem_of_getElem? (i := 51) rfl), lw_t6 (List.mem_of_getElem? (i := 52) rfl)⟩
theorem lw_p52 : lw_okq (⟨"SwapBookModel", "no", "(I)Z"⟩, 47) := ⟨⟨by decide +kernel, by decide +kernel⟩, lw_t6 (List.mem_of_getElem? (i := 107) rfl), lw_t7 (List.mem_of_getElem? (i := 32) rfl), lw_t7 (List.mem_of_getElem? (i := 33) rfl)⟩
theorem lw_p53 : lw_okq (⟨"SwapBookModel", "placed", "(II)I"⟩, 47) := ⟨⟨by decide +kernel, by decide +kernel⟩, lw_t6 (List.mem_of_getElem? (i := 107) rfl), lw_t7 (List.mem_of_getElem? (i := 40) rfl), lw_t7 (List.mem_of_getElem? (i := 41) rfl)⟩
theorem lw_p54 : lw_okq (⟨"SwapBookModel", "trayed", "(I)I"⟩, 47) := ⟨⟨by decide +kernel, by decide +kernel⟩, lw_t6 (List.mem_of_getElem? (i := 107) rfl), lw_t7 (List.mem_of_getElem? (i := 44) rfl), lw_t7 (List.mem_of_getElem? (i := 45) rfl)⟩
theorem lw_p55 : lw_okq (⟨"SwapBookModel", "lay", "(I)V"⟩, 47) := ⟨⟨by decide +kernel, by decide +kernel⟩, lw_t6 (List.mem_of_getElem? (i := 107) rfl), lw_t7 (List.mem_of_getElem? (i := 64) rfl), lw_t7 (List.mem_of_getElem? (i := 65) rfl)⟩
theorem lw_p56 : lw_okq (⟨"SwapBookModel", "opens", "(II)Z"⟩, 47) := ⟨⟨by decide +kernel, by decide +kernel⟩, lw_t6 (List.mem_of_getElem? (i := 107) rfl), lw_t7 (List.mem_of_getElem? (i := 76) rfl), lw_t7 (List.mem_of_getElem? (i := 77) rfl)⟩
theorem lw_p57 : lw_okq (⟨"SwapBookModel", "next", "()V"⟩, 47) := ⟨⟨by decide +kernel, by decide +kernel⟩, lw_t6 (List.mem_of_getElem? (i := 107) rfl), lw_t7 (List.mem_of_getElem? (i := 80) rfl), lw_t7 (List.mem_of_getElem? (i := 81) rfl)⟩
theorem lw_p58 : lw_okq (⟨"SwapBookModel", "look2", "(I)I"⟩, 47) := ⟨⟨by decide +kernel, by decide +kernel⟩, lw_t6 (List.mem_of_getElem? (i := 107) rfl), lw_t7 (List.mem_of_getElem? (i := 84) rfl), lw_t7 (List.mem_of_getElem? (i := 85) rfl)⟩
theorem lw_p59 : lw_okq (⟨"SwapBookModel", "isIslandWord", "()Z"⟩, 47) := ⟨⟨by decide +kernel, by decide +kernel⟩, lw_t6 (List.mem_of_getElem? (i := 107) rfl), lw_t7 (List.mem_of_getElem? (i := 96) rfl), lw_t7 (List.mem_of_getElem? (i := 97) rfl)⟩
theorem lw_p60 : lw_okq (⟨"SwapBookModel", "isWord", "(J)Z"⟩, 47) := ⟨⟨by decide +kernel, by decide +kernel⟩, lw_t6 (List.mem_of_getElem? (i := 107) rfl), lw_t7 (List.mem_of_getElem? (i := 103) rfl), lw_t7 (List.mem_of_getElem? (i := 104) rfl)⟩
theorem lw_p61 : lw_okq (⟨"SwapBookModel", "readIsland", "()V"⟩, 47) := ⟨⟨by decide +kernel, by decide +kernel⟩, lw_t6 (List.mem_of_getElem? (i := 107) rfl), lw_t7 (List.mem_of_getElem? (i := 107) rfl), lw_t7 (List.mem_of_getElem? (i := 108) rfl)⟩
theorem lw_p62 : lw_okq (⟨"SwapBookModel", "fail", "(II)V"⟩, 47) := ⟨⟨by decide +kernel, by decide +kernel⟩, lw_t6 (List.mem_of_getElem? (i := 107) rfl), lw_t7 (List.mem_of_getElem? (i := 111) rfl), lw_t7 (List.mem_of_getElem? (i := 112) rfl)⟩
theorem lw_p63 : lw_okq (⟨"SwapBookModel", "readNew", "(II)V"⟩, 47) := ⟨⟨by decide +kernel, by decide +kernel⟩, lw_t6 (List.mem_of_getElem? (i := 107) rfl), lw_t7 (List.mem_of_getElem? (i := 115) rfl), lw_t7 (List.mem_of_getElem? (i := 116) rfl)⟩
def lw_privs_4 : List (MethodName × Nat) := [(⟨"SwapBook", "removes", "(I)V"⟩, 37), (⟨"SwapBook", "draws", "(I)V"⟩, 37), (⟨"SwapBook", "holds", "(LSwapBook$Step;)Z"⟩, 37), (⟨"SwapBook", "behindEnds", "(I)I"⟩, 37), (⟨"SwapBookModel", "no", "(I)Z"⟩, 47), (⟨"SwapBookModel", "placed", "(II)I"⟩, 47), (⟨"SwapBookModel", "trayed", "(I)I"⟩, 47), (⟨"SwapBookModel", "lay", "(I)V"⟩, 47), (⟨"SwapBookModel", "opens", "(II)Z"⟩, 47), (⟨"SwapBookModel", "next", "()V"⟩, 47), (⟨"SwapBookModel", "look2", "(I)I"⟩, 47), (⟨"SwapBookModel", "isIslandWord", "()Z"⟩, 47), (⟨"SwapBookModel", "isWord", "(J)Z"⟩, 47), (⟨"SwapBookModel", "readIsland", "()V"⟩, 47), (⟨"SwapBookModel", "fail", "(II)V"⟩, 47), (⟨"SwapBookModel", "readNew", "(II)V"⟩, 47)]
theorem lw_r4 : ∀ q ∈ lw_privs_4, lw_okq q := List.forall_mem_cons.mpr ⟨lw_p48, List.forall_mem_cons.mpr ⟨lw_p49, List.forall_mem_cons.mpr ⟨lw_p50, List.forall_mem_cons.mpr ⟨lw_p51, List.forall_mem_cons.mpr ⟨lw_p52, List.forall_mem_cons.mpr ⟨lw_p53, List.forall_mem_cons.mpr ⟨lw_p54, List.forall_mem_cons.mpr ⟨lw_p55, List.forall_mem_cons.mpr ⟨lw_p56, List.forall_mem_cons.mpr ⟨lw_p57, List.forall_mem_cons.mpr ⟨lw_p58, List.forall_mem_cons.mpr ⟨lw_p59, List.forall_mem_cons.mpr ⟨lw_p60, List.forall_mem_cons.mpr ⟨lw_p61, List.forall_mem_cons.mpr ⟨lw_p62, List.forall_mem_cons.mpr ⟨lw_p63, fun _ h => absurd h List.not_mem_nil⟩⟩⟩⟩⟩⟩⟩⟩⟩⟩⟩⟩⟩⟩⟩⟩
theorem lw_p64 : lw_okq (⟨"SwapBookModel", "isName", "()Z"⟩, 47) := ⟨⟨by decide +kernel, by decide +kernel⟩, lw_t6 (List.mem_of_getElem? (i := 107) rfl), lw_t7 (List.mem_of_getElem? (i := 119) rfl), lw_t7 (List.mem_of_getElem? (i := 120) rfl)⟩
theorem lw_p65 : lw_okq (⟨"SwapBookModel", "isKept", "()Z"⟩, 47) := ⟨⟨by decide +kernel, by decide +kernel⟩, lw_t6 (List.mem_of_getElem? (i := 107) rfl), lw_t7 (List.mem_of_getElem? (i := 123) rfl), lw_t7 (List.mem_of_getElem? (i := 124) rfl)⟩
theorem lw_p66 : lw_okq (⟨"SwapBookModel", "kindWord", "()I"⟩, 47) := ⟨⟨by decide +kernel, by decide +kernel⟩, lw_t6 (List.mem_of_getElem? (i := 107) rfl), lw_t7 (List.mem_of_getElem? (i := 127) rfl), lw_t7 (List.mem_of_getElem? (i := 128) rfl)⟩
theorem lw_p67 : lw_okq (⟨"SwapBookModel", "isKey", "()Z"⟩, 47) := ⟨⟨by decide +kernel, by decide +kernel⟩, lw_t6 (List.mem_of_getElem? (i := 107) rfl), lw_t7 (List.mem_of_getElem? (i := 131) rfl), lw_t7 (List.mem_of_getElem? (i := 132) rfl)⟩
theorem lw_p68 : lw_okq (⟨"SwapBookModel", "isSays", "()Z"⟩, 47) := ⟨⟨by decide +kernel, by decide +kernel⟩, lw_t6 (List.mem_of_getElem? (i := 107) rfl), lw_t7 (List.mem_of_getElem? (i := 135) rfl), lw_t7 (List.mem_of_getElem? (i := 136) rfl)⟩
theorem lw_p69 : lw_okq (⟨"SwapBookModel", "isOf", "()Z"⟩, 47) := ⟨⟨by decide +kernel, by decide +kernel⟩, lw_t6 (List.mem_of_getElem? (i := 107) rfl), lw_t7 (List.mem_of_getElem? (i := 139) rfl), lw_t7 (List.mem_of_getElem? (i := 140) rfl)⟩
theorem lw_p70 : lw_okq (⟨"SwapBookModel", "isNot", "()Z"⟩, 47) := ⟨⟨by decide +kernel, by decide +kernel⟩, lw_t6 (List.mem_of_getElem? (i := 107) rfl), lw_t7 (List.mem_of_getElem? (i := 143) rfl), lw_t7 (List.mem_of_getElem? (i := 144) rfl)⟩
theorem lw_p71 : lw_okq (⟨"SwapBookModel", "isAfter", "()Z"⟩, 47) := ⟨⟨by decide +kernel, by decide +kernel⟩, lw_t6 (List.mem_of_getElem? (i := 107) rfl), lw_t7 (List.mem_of_getElem? (i := 147) rfl), lw_t7 (List.mem_of_getElem? (i := 148) rfl)⟩
theorem lw_p72 : lw_okq (⟨"SwapBookModel", "stepWord", "()I"⟩, 47) := ⟨⟨by decide +kernel, by decide +kernel⟩, lw_t6 (List.mem_of_getElem? (i := 107) rfl), lw_t7 (List.mem_of_getElem? (i := 151) rfl), lw_t7 (List.mem_of_getElem? (i := 152) rfl)⟩
theorem lw_p73 : lw_okq (⟨"SwapBookModel", "isAt", "()Z"⟩, 47) := ⟨⟨by decide +kernel, by decide +kernel⟩, lw_t6 (List.mem_of_getElem? (i := 107) rfl), lw_t7 (List.mem_of_getElem? (i := 155) rfl), lw_t7 (List.mem_of_getElem? (i := 156) rfl)⟩
theorem lw_p74 : lw_okq (⟨"SwapBookModel", "isTo", "()Z"⟩, 47) := ⟨⟨by decide +kernel, by decide +kernel⟩, lw_t6 (List.mem_of_getElem? (i := 107) rfl), lw_t7 (List.mem_of_getElem? (i := 159) rfl), lw_t7 (List.mem_of_getElem? (i := 160) rfl)⟩
theorem lw_p75 : lw_okq (⟨"SwapBookModel", "isLate", "()Z"⟩, 47) := ⟨⟨by decide +kernel, by decide +kernel⟩, lw_t6 (List.mem_of_getElem? (i := 107) rfl), lw_t7 (List.mem_of_getElem? (i := 163) rfl), lw_t7 (List.mem_of_getElem? (i := 164) rfl)⟩
theorem lw_p76 : lw_okq (⟨"SwapBookModel", "isTwice", "()Z"⟩, 47) := ⟨⟨by decide +kernel, by decide +kernel⟩, lw_t6 (List.mem_of_getElem? (i := 107) rfl), lw_t7 (List.mem_of_getElem? (i := 167) rfl), lw_t7 (List.mem_of_getElem? (i := 168) rfl)⟩
theorem lw_p77 : lw_okq (⟨"SwapBookModel", "isHas", "()Z"⟩, 47) := ⟨⟨by decide +kernel, by decide +kernel⟩, lw_t6 (List.mem_of_getElem? (i := 107) rfl), lw_t7 (List.mem_of_getElem? (i := 171) rfl), lw_t7 (List.mem_of_getElem? (i := 172) rfl)⟩
theorem lw_p78 : lw_okq (⟨"SwapBookModel", "isQuietWord", "()Z"⟩, 47) := ⟨⟨by decide +kernel, by decide +kernel⟩, lw_t6 (List.mem_of_getElem? (i := 107) rfl), lw_t7 (List.mem_of_getElem? (i := 175) rfl), lw_t7 (List.mem_of_getElem? (i := 176) rfl)⟩
theorem lw_p79 : lw_okq (⟨"SwapBookModel", "isDayWord", "()Z"⟩, 47) := ⟨⟨by decide +kernel, by decide +kernel⟩, lw_t6 (List.mem_of_getElem? (i := 107) rfl), lw_t7 (List.mem_of_getElem? (i := 179) rfl), lw_t7 (List.mem_of_getElem? (i := 180) rfl)⟩
def lw_privs_5 : List (MethodName × Nat) := [(⟨"SwapBookModel", "isName", "()Z"⟩, 47), (⟨"SwapBookModel", "isKept", "()Z"⟩, 47), (⟨"SwapBookModel", "kindWord", "()I"⟩, 47), (⟨"SwapBookModel", "isKey", "()Z"⟩, 47), (⟨"SwapBookModel", "isSays", "()Z"⟩, 47), (⟨"SwapBookModel", "isOf", "()Z"⟩, 47), (⟨"SwapBookModel", "isNot", "()Z"⟩, 47), (⟨"SwapBookModel", "isAfter", "()Z"⟩, 47), (⟨"SwapBookModel", "stepWord", "()I"⟩, 47), (⟨"SwapBookModel", "isAt", "()Z"⟩, 47), (⟨"SwapBookModel", "isTo", "()Z"⟩, 47), (⟨"SwapBookModel", "isLate", "()Z"⟩, 47), (⟨"SwapBookModel", "isTwice", "()Z"⟩, 47), (⟨"SwapBookModel", "isHas", "()Z"⟩, 47), (⟨"SwapBookModel", "isQuietWord", "()Z"⟩, 47), (⟨"SwapBookModel", "isDayWord", "()Z"⟩, 47)]
theorem lw_r5 : ∀ q ∈ lw_privs_5, lw_okq q := List.forall_mem_cons.mpr ⟨lw_p64, List.forall_mem_cons.mpr ⟨lw_p65, List.forall_mem_cons.mpr ⟨lw_p66, List.forall_mem_cons.mpr ⟨lw_p67, List.forall_mem_cons.mpr ⟨lw_p68, List.forall_mem_cons.mpr ⟨lw_p69, List.forall_mem_cons.mpr ⟨lw_p70, List.forall_mem_cons.mpr ⟨lw_p71, List.forall_mem_cons.mpr ⟨lw_p72, List.forall_mem_cons.mpr ⟨lw_p73, List.forall_mem_cons.mpr ⟨lw_p74, List.forall_mem_cons.mpr ⟨lw_p75, List.forall_mem_cons.mpr ⟨lw_p76, List.forall_mem_cons.mpr ⟨lw_p77, List.forall_mem_cons.mpr ⟨lw_p78, List.forall_mem_cons.mpr ⟨lw_p79, fun _ h => absurd h List.not_mem_nil⟩⟩⟩⟩⟩⟩⟩⟩⟩⟩⟩⟩⟩⟩⟩⟩
theorem lw_p80 : lw_okq (⟨"SwapBookModel", "isEnd", "()Z"⟩, 47) := ⟨⟨by decide +kernel, by decide +kernel⟩, lw_t6 (List.mem_of_getElem? (i := 107) rfl), lw_t7 (List.mem_of_getElem? (i := 183) rfl), lw_t7 (List.mem_of_getElem? (i := 184) rfl)⟩
theorem lw_p81 : lw_okq (⟨"SwapBookModel", "wrong", "()V"⟩, 47) := ⟨⟨by decide +kernel, by decide +kernel⟩, lw_t6 (List.mem_of_getElem? (i := 107) rfl), lw_t7 (List.mem_of_getElem? (i := 187) rfl), lw_t7 (List.mem_of_getElem? (i := 188) rfl)⟩
theorem lw_p82 : lw_okq (⟨"SwapBookModel", "named", "(III)I"⟩, 47) := ⟨⟨by decide +kernel, by decide +kernel⟩, lw_t6 (List.mem_of_getElem? (i := 107) rfl), lw_t7 (List.mem_of_getElem? (i := 191) rfl), lw_t7 (List.mem_of_getElem? (i := 192) rfl)⟩
theorem lw_p83 : lw_okq (⟨"SwapBookModel", "readChange", "()V"⟩, 47) := ⟨⟨by decide +kernel, by decide +kernel⟩, lw_t6 (List.mem_of_getElem? (i := 107) rfl), lw_t7 (List.mem_of_getElem? (i := 195) rfl), lw_t7 (List.mem_of_getElem? (i := 196) rfl)⟩
theorem lw_p84 : lw_okq (⟨"SwapBookModel", "readWhat", "(II)I"⟩, 47) := ⟨⟨by decide +kernel, by decide +kernel⟩, lw_t6 (List.mem_of_getElem? (i := 107) rfl), lw_t7 (List.mem_of_getElem? (i := 199) rfl), lw_t7 (List.mem_of_getElem? (i := 200) rfl)⟩
theorem lw_p85 : lw_okq (⟨"SwapBookModel", "readSettle", "(I)I"⟩, 47) := ⟨⟨by decide +kernel, by decide +kernel⟩, lw_t6 (List.mem_of_getElem? (i := 107) rfl), lw_t7 (List.mem_of_getElem? (i := 203) rfl), lw_t7 (List.mem_of_getElem? (i := 204) rfl)⟩
theorem lw_p86 : lw_okq (⟨"SwapBookModel", "must", "(Z)V"⟩, 47) := ⟨⟨by decide +kernel, by decide +kernel⟩, lw_t6 (List.mem_of_getElem? (i := 107) rfl), lw_t7 (List.mem_of_getElem? (i := 207) rfl), lw_t7 (List.mem_of_getElem? (i := 208) rfl)⟩
theorem lw_p87 : lw_okq (⟨"SwapBookModel", "readQuarreler", "()I"⟩, 47) := ⟨⟨by decide +kernel, by decide +kernel⟩, lw_t6 (List.mem_of_getElem? (i := 107) rfl), lw_t7 (List.mem_of_getElem? (i := 211) rfl), lw_t7 (List.mem_of_getElem? (i := 212) rfl)⟩
theorem lw_p88 : lw_okq (⟨"SwapBookModel", "readTold", "()I"⟩, 47) := ⟨⟨by decide +kernel, by decide +kernel⟩, lw_t6 (List.mem_of_getElem? (i := 107) rfl), lw_t7 (List.mem_of_getElem? (i := 215) rfl), lw_t7 (List.mem_of_getElem? (i := 216) rfl)⟩
theorem lw_p89 : lw_okq (⟨"SwapBookModel", "kind", "(II)I"⟩, 47) := ⟨⟨by decide +kernel, by decide +kernel⟩, lw_t6 (List.mem_of_getElem? (i := 107) rfl), lw_t7 (List.mem_of_getElem? (i := 219) rfl), lw_t7 (List.mem_of_getElem? (i := 220) rfl)⟩
theorem lw_p90 : lw_okq (⟨"SwapBookModel", "wouldQuarrel", "(III)Z"⟩, 47) := ⟨⟨by decide +kernel, by decide +kernel⟩, lw_t6 (List.mem_of_getElem? (i := 107) rfl), lw_t7 (List.mem_of_getElem? (i := 223) rfl), lw_t7 (List.mem_of_getElem? (i := 224) rfl)⟩
theorem lw_p91 : lw_okq (⟨"SwapBookModel", "thingOf", "(II)I"⟩, 47) := ⟨⟨by decide +kernel, by decide +kernel⟩, lw_t6 (List.mem_of_getElem? (i := 107) rfl), lw_t7 (List.mem_of_getElem? (i := 230) rfl), lw_t7 (List.mem_of_getElem? (i := 231) rfl)⟩
theorem lw_p92 : lw_okq (⟨"SwapBookModel", "hangsOn", "(II)I"⟩, 47) := ⟨⟨by decide +kernel, by decide +kernel⟩, lw_t6 (List.mem_of_getElem? (i := 107) rfl), lw_t7 (List.mem_of_getElem? (i := 234) rfl), lw_t7 (List.mem_of_getElem? (i := 235) rfl)⟩
theorem lw_p93 : lw_okq (⟨"SwapBookModel", "readOf", "()I"⟩, 47) := ⟨⟨by decide +kernel, by decide +kernel⟩, lw_t6 (List.mem_of_getElem? (i := 107) rfl), lw_t7 (List.mem_of_getElem? (i := 238) rfl), lw_t7 (List.mem_of_getElem? (i := 239) rfl)⟩
theorem lw_p94 : lw_okq (⟨"SwapBookModel", "count", "(II)I"⟩, 47) := ⟨⟨by decide +kernel, by decide +kernel⟩, lw_t6 (List.mem_of_getElem? (i := 107) rfl), lw_t8 (List.mem_of_getElem? (i := 2) rfl), lw_t8 (List.mem_of_getElem? (i := 3) rfl)⟩
theorem lw_p95 : lw_okq (⟨"SwapBookModel", "readAfter", "()I"⟩, 47) := ⟨⟨by decide +kernel, by decide +kernel⟩, lw_t6 (List.mem_of_getElem? (i := 107) rfl), lw_t8 (List.mem_of_getElem? (i := 9) rfl), lw_t8 (List.mem_of_getElem? (i := 10) rfl)⟩
def lw_privs_6 : List (MethodName × Nat) := [(⟨"SwapBookModel", "isEnd", "()Z"⟩, 47), (⟨"SwapBookModel", "wrong", "()V"⟩, 47), (⟨"SwapBookModel", "named", "(III)I"⟩, 47), (⟨"SwapBookModel", "readChange", "()V"⟩, 47), (⟨"SwapBookModel", "readWhat", "(II)I"⟩, 47), (⟨"SwapBookModel", "readSettle", "(I)I"⟩, 47), (⟨"SwapBookModel", "must", "(Z)V"⟩, 47), (⟨"SwapBookModel", "readQuarreler", "()I"⟩, 47), (⟨"SwapBookModel", "readTold", "()I"⟩, 47), (⟨"SwapBookModel", "kind", "(II)I"⟩, 47), (⟨"SwapBookModel", "wouldQuarrel", "(III)Z"⟩, 47), (⟨"SwapBookModel", "thingOf", "(II)I"⟩, 47), (⟨"SwapBookModel", "hangsOn", "(II)I"⟩, 47), (⟨"SwapBookModel", "readOf", "()I"⟩, 47), (⟨"SwapBookModel", "count", "(II)I"⟩, 47), (⟨"SwapBookModel", "readAfter", "()I"⟩, 47)]
theorem lw_r6 : ∀ q ∈ lw_privs_6, lw_okq q := List.forall_mem_cons.mpr ⟨lw_p80, List.forall_mem_cons.mpr ⟨lw_p81, List.forall_mem_cons.mpr ⟨lw_p82, List.forall_mem_cons.mpr ⟨lw_p83, List.forall_mem_cons.mpr ⟨lw_p84, List.forall_mem_cons.mpr ⟨lw_p85, List.forall_mem_cons.mpr ⟨lw_p86, List.forall_mem_cons.mpr ⟨lw_p87, List.forall_mem_cons.mpr ⟨lw_p88, List.forall_mem_cons.mpr ⟨lw_p89, List.forall_mem_cons.mpr ⟨lw_p90, List.forall_mem_cons.mpr ⟨lw_p91, List.forall_mem_cons.mpr ⟨lw_p92, List.forall_mem_cons.mpr ⟨lw_p93, List.forall_mem_cons.mpr ⟨lw_p94, List.forall_mem_cons.mpr ⟨lw_p95, fun _ h => absurd h List.not_mem_nil⟩⟩⟩⟩⟩⟩⟩⟩⟩⟩⟩⟩⟩⟩⟩⟩
theorem lw_p96 : lw_okq (⟨"SwapBookModel", "isClose", "()Z"⟩, 47) := ⟨⟨by decide +kernel, by decide +kernel⟩, lw_t6 (List.mem_of_getElem? (i := 107) rfl), lw_t8 (List.mem_of_getElem? (i := 13) rfl), lw_t8 (List.mem_of_getElem? (i := 14) rfl)⟩
theorem lw_p97 : lw_okq (⟨"SwapBookModel", "isWell", "()Z"⟩, 47) := ⟨⟨by decide +kernel, by decide +kernel⟩, lw_t6 (List.mem_of_getElem? (i := 107) rfl), lw_t8 (List.mem_of_getElem? (i := 17) rfl), lw_t8 (List.mem_of_getElem? (i := 18) rfl)⟩
theorem lw_p98 : lw_okq (⟨"SwapBookModel", "refuse", "(I)I"⟩, 47) := ⟨⟨by decide +kernel, by decide +kernel⟩, lw_t6 (List.mem_of_getElem? (i := 107) rfl), lw_t8 (List.mem_of_getElem? (i := 26) rfl), lw_t8 (List.mem_of_getElem? (i := 27) rfl)⟩
theorem lw_p99 : lw_okq (⟨"SwapBookModel", "isChange", "(I)Z"⟩, 47) := ⟨⟨by decide +kernel, by decide +kernel⟩, lw_t6 (List.mem_of_getElem? (i := 107) rfl), lw_t8 (List.mem_of_getElem? (i := 34) rfl), lw_t8 (List.mem_of_getElem? (i := 35) rfl)⟩
theorem lw_p100 : lw_okq (⟨"SwapBookModel", "levelOf", "(I)I"⟩, 47) := ⟨⟨by decide +kernel, by decide +kernel⟩, lw_t6 (List.mem_of_getElem? (i := 107) rfl), lw_t8 (List.mem_of_getElem? (i := 38) rfl), lw_t8 (List.mem_of_getElem? (i := 39) rfl)⟩
theorem lw_p101 : lw_okq (⟨"SwapBookModel", "hangers", "(I)I"⟩, 47) := ⟨⟨by decide +kernel, by decide +kernel⟩, lw_t6 (List.mem_of_getElem? (i := 107) rfl), lw_t8 (List.mem_of_getElem? (i := 51) rfl), lw_t8 (List.mem_of_getElem? (i := 52) rfl)⟩
theorem lw_p102 : lw_okq (⟨"SwapBookModel", "isSet", "(I)Z"⟩, 47) := ⟨⟨by decide +kernel, by decide +kernel⟩, lw_t6 (List.mem_of_getElem? (i := 107) rfl), lw_t8 (List.mem_of_getElem? (i := 59) rfl), lw_t8 (List.mem_of_getElem? (i := 60) rfl)⟩
theorem lw_p103 : lw_okq (⟨"SwapBookModel", "lackOf", "(I)I"⟩, 47) := ⟨⟨by decide +kernel, by decide +kernel⟩, lw_t6 (List.mem_of_getElem? (i := 107) rfl), lw_t8 (List.mem_of_getElem? (i := 63) rfl), lw_t8 (List.mem_of_getElem? (i := 64) rfl)⟩
theorem lw_p104 : lw_okq (⟨"SwapBookModel", "whyNot", "(I)I"⟩, 47) := ⟨⟨by decide +kernel, by decide +kernel⟩, lw_t6 (List.mem_of_getElem? (i := 107) rfl), lw_t8 (List.mem_of_getElem? (i := 94) rfl), lw_t8 (List.mem_of_getElem? (i := 95) rfl)⟩
theorem lw_p105 : lw_okq (⟨"SwapBookModel", "listOf", "(I[I)I"⟩, 47) := ⟨⟨by decide +kernel, by decide +kernel⟩, lw_t6 (List.mem_of_getElem? (i := 107) rfl), lw_t8 (List.mem_of_getElem? (i := 98) rfl), lw_t8 (List.mem_of_getElem? (i := 99) rfl)⟩
theorem lw_p106 : lw_okq (⟨"SwapBookModel", "isThere", "(II)Z"⟩, 47) := ⟨⟨by decide +kernel, by decide +kernel⟩, lw_t6 (List.mem_of_getElem? (i := 107) rfl), lw_t8 (List.mem_of_getElem? (i := 102) rfl), lw_t8 (List.mem_of_getElem? (i := 103) rfl)⟩
theorem lw_p107 : lw_okq (⟨"SwapBookModel", "isLeftOut", "(II)Z"⟩, 47) := ⟨⟨by decide +kernel, by decide +kernel⟩, lw_t6 (List.mem_of_getElem? (i := 107) rfl), lw_t8 (List.mem_of_getElem? (i := 106) rfl), lw_t8 (List.mem_of_getElem? (i := 107) rfl)⟩
theorem lw_p108 : lw_okq (⟨"SwapBookModel", "quarrelers", "(II)I"⟩, 47) := ⟨⟨by decide +kernel, by decide +kernel⟩, lw_t6 (List.mem_of_getElem? (i := 107) rfl), lw_t8 (List.mem_of_getElem? (i := 110) rfl), lw_t8 (List.mem_of_getElem? (i := 111) rfl)⟩
theorem lw_p109 : lw_okq (⟨"SwapBookModel", "quarrel", "(III)Z"⟩, 47) := ⟨⟨by decide +kernel, by decide +kernel⟩, lw_t6 (List.mem_of_getElem? (i := 107) rfl), lw_t8 (List.mem_of_getElem? (i := 114) rfl), lw_t8 (List.mem_of_getElem? (i := 115) rfl)⟩
theorem lw_p110 : lw_okq (⟨"SwapBookModel", "isSettled", "(III)Z"⟩, 47) := ⟨⟨by decide +kernel, by decide +kernel⟩, lw_t6 (List.mem_of_getElem? (i := 107) rfl), lw_t8 (List.mem_of_getElem? (i := 118) rfl), lw_t8 (List.mem_of_getElem? (i := 119) rfl)⟩
theorem lw_p111 : lw_okq (⟨"SwapBookModel", "toldBy", "(III)I"⟩, 47) := ⟨⟨by decide +kernel, by decide +kernel⟩, lw_t6 (List.mem_of_getElem? (i := 107) rfl), lw_t8 (List.mem_of_getElem? (i := 122) rfl), lw_t8 (List.mem_of_getElem? (i := 123) rfl)⟩
def lw_privs_7 : List (MethodName × Nat) := [(⟨"SwapBookModel", "isClose", "()Z"⟩, 47), (⟨"SwapBookModel", "isWell", "()Z"⟩, 47), (⟨"SwapBookModel", "refuse", "(I)I"⟩, 47), (⟨"SwapBookModel", "isChange", "(I)Z"⟩, 47), (⟨"SwapBookModel", "levelOf", "(I)I"⟩, 47), (⟨"SwapBookModel", "hangers", "(I)I"⟩, 47), (⟨"SwapBookModel", "isSet", "(I)Z"⟩, 47), (⟨"SwapBookModel", "lackOf", "(I)I"⟩, 47), (⟨"SwapBookModel", "whyNot", "(I)I"⟩, 47), (⟨"SwapBookModel", "listOf", "(I[I)I"⟩, 47), (⟨"SwapBookModel", "isThere", "(II)Z"⟩, 47), (⟨"SwapBookModel", "isLeftOut", "(II)Z"⟩, 47), (⟨"SwapBookModel", "quarrelers", "(II)I"⟩, 47), (⟨"SwapBookModel", "quarrel", "(III)Z"⟩, 47), (⟨"SwapBookModel", "isSettled", "(III)Z"⟩, 47), (⟨"SwapBookModel", "toldBy", "(III)I"⟩, 47)]
theorem lw_r7 : ∀ q ∈ lw_privs_7, lw_okq q := List.forall_mem_cons.mpr ⟨lw_p96, List.forall_mem_cons.mpr ⟨lw_p97, List.forall_mem_cons.mpr ⟨lw_p98, List.forall_mem_cons.mpr ⟨lw_p99, List.forall_mem_cons.mpr ⟨lw_p100, List.forall_mem_cons.mpr ⟨lw_p101, List.forall_mem_cons.mpr ⟨lw_p102, List.forall_mem_cons.mpr ⟨lw_p103, List.forall_mem_cons.mpr ⟨lw_p104, List.forall_mem_cons.mpr ⟨lw_p105, List.forall_mem_cons.mpr ⟨lw_p106, List.forall_mem_cons.mpr ⟨lw_p107, List.forall_mem_cons.mpr ⟨lw_p108, List.forall_mem_cons.mpr ⟨lw_p109, List.forall_mem_cons.mpr ⟨lw_p110, List.forall_mem_cons.mpr ⟨lw_p111, fun _ h => absurd h List.not_mem_nil⟩⟩⟩⟩⟩⟩⟩⟩⟩⟩⟩⟩⟩⟩⟩⟩
theorem lw_p112 : lw_okq (⟨"SwapBookModel", "allHang", "(II)Z"⟩, 47) := ⟨⟨by decide +kernel, by decide +kernel⟩, lw_t6 (List.mem_of_getElem? (i := 107) rfl), lw_t8 (List.mem_of_getElem? (i := 126) rfl), lw_t8 (List.mem_of_getElem? (i := 127) rfl)⟩
theorem lw_p113 : lw_okq (⟨"SwapBookModel", "whyNoThing", "(II)I"⟩, 47) := ⟨⟨by decide +kernel, by decide +kernel⟩, lw_t6 (List.mem_of_getElem? (i := 107) rfl), lw_t8 (List.mem_of_getElem? (i := 138) rfl), lw_t8 (List.mem_of_getElem? (i := 139) rfl)⟩
theorem lw_p114 : lw_okq (⟨"SwapBookModel", "placeIn", "(II)I"⟩, 47) := ⟨⟨by decide +kernel, by decide +kernel⟩, lw_t6 (List.mem_of_getElem? (i := 107) rfl), lw_t8 (List.mem_of_getElem? (i := 150) rfl), lw_t8 (List.mem_of_getElem? (i := 151) rfl)⟩
theorem lw_p115 : lw_okq (⟨"SwapBookModel", "whyNotTwo", "(II)I"⟩, 47) := ⟨⟨by decide +kernel, by decide +kernel⟩, lw_t6 (List.mem_of_getElem? (i := 107) rfl), lw_t8 (List.mem_of_getElem? (i := 158) rfl), lw_t8 (List.mem_of_getElem? (i := 159) rfl)⟩
theorem lw_p116 : lw_okq (⟨"SwapBookModel", "quarrelsIn", "(I)I"⟩, 47) := ⟨⟨by decide +kernel, by decide +kernel⟩, lw_t6 (List.mem_of_getElem? (i := 107) rfl), lw_t8 (List.mem_of_getElem? (i := 170) rfl), lw_t8 (List.mem_of_getElem? (i := 171) rfl)⟩
theorem lw_p117 : lw_okq (⟨"SwapBookModel", "isQuiet", "(I)Z"⟩, 47) := ⟨⟨by decide +kernel, by decide +kernel⟩, lw_t6 (List.mem_of_getElem? (i := 107) rfl), lw_t8 (List.mem_of_getElem? (i := 182) rfl), lw_t8 (List.mem_of_getElem? (i := 183) rfl)⟩
theorem lw_p118 : lw_okq (⟨"SwapBookModel", "need", "(III)V"⟩, 47) := ⟨⟨by decide +kernel, by decide +kernel⟩, lw_t6 (List.mem_of_getElem? (i := 107) rfl), lw_t8 (List.mem_of_getElem? (i := 194) rfl), lw_t8 (List.mem_of_getElem? (i := 195) rfl)⟩
theorem lw_p119 : lw_okq (⟨"SwapBookModel", "countWays", "(I)V"⟩, 47) := ⟨⟨by decide +kernel, by decide +kernel⟩, lw_t6 (List.mem_of_getElem? (i := 107) rfl), lw_t8 (List.mem_of_getElem? (i := 198) rfl), lw_t8 (List.mem_of_getElem? (i := 199) rfl)⟩
theorem lw_p120 : lw_okq (⟨"SwapBookModel", "fraction", "(JJ)Z"⟩, 47) := ⟨⟨by decide +kernel, by decide +kernel⟩, lw_t6 (List.mem_of_getElem? (i := 107) rfl), lw_t8 (List.mem_of_getElem? (i := 206) rfl), lw_t8 (List.mem_of_getElem? (i := 207) rfl)⟩
theorem lw_p121 : lw_okq (⟨"SwapBookModel", "isTray", "(I)Z"⟩, 47) := ⟨⟨by decide +kernel, by decide +kernel⟩, lw_t6 (List.mem_of_getElem? (i := 107) rfl), lw_t8 (List.mem_of_getElem? (i := 221) rfl), lw_t8 (List.mem_of_getElem? (i := 222) rfl)⟩
theorem lw_p122 : lw_okq (⟨"SwapBookModel", "numberOf", "(II)J"⟩, 47) := ⟨⟨by decide +kernel, by decide +kernel⟩, lw_t6 (List.mem_of_getElem? (i := 107) rfl), lw_t8 (List.mem_of_getElem? (i := 226) rfl), lw_t8 (List.mem_of_getElem? (i := 227) rfl)⟩
theorem lw_p123 : lw_okq (⟨"SwapBookModel", "orderSet", "()I"⟩, 47) := ⟨⟨by decide +kernel, by decide +kernel⟩, lw_t6 (List.mem_of_getElem? (i := 107) rfl), lw_t8 (List.mem_of_getElem? (i := 234) rfl), lw_t8 (List.mem_of_getElem? (i := 235) rfl)⟩
theorem lw_p124 : lw_okq (⟨"SwapBookModel", "swapped", "(I)Z"⟩, 47) := ⟨⟨by decide +kernel, by decide +kernel⟩, lw_t6 (List.mem_of_getElem? (i := 107) rfl), lw_t9 (List.mem_of_getElem? (i := 10) rfl), lw_t9 (List.mem_of_getElem? (i := 11) rfl)⟩
theorem lw_p125 : lw_okq (⟨"SwapBookModel", "isIsland", "(I)Z"⟩, 47) := ⟨⟨by decide +kernel, by decide +kernel⟩, lw_t6 (List.mem_of_getElem? (i := 107) rfl), lw_t9 (List.mem_of_getElem? (i := 26) rfl), lw_t9 (List.mem_of_getElem? (i := 27) rfl)⟩
theorem lw_p126 : lw_okq (⟨"SwapBookModel", "readStep", "(I)V"⟩, 47) := ⟨⟨by decide +kernel, by decide +kernel⟩, lw_t6 (List.mem_of_getElem? (i := 107) rfl), lw_t9 (List.mem_of_getElem? (i := 38) rfl), lw_t9 (List.mem_of_getElem? (i := 39) rfl)⟩
theorem lw_p127 : lw_okq (⟨"SwapBookModel", "readRest", "(I)V"⟩, 47) := ⟨⟨by decide +kernel, by decide +kernel⟩, lw_t6 (List.mem_of_getElem? (i := 107) rfl), lw_t9 (List.mem_of_getElem? (i := 42) rfl), lw_t9 (List.mem_of_getElem? (i := 43) rfl)⟩
def lw_privs_8 : List (MethodName × Nat) := [(⟨"SwapBookModel", "allHang", "(II)Z"⟩, 47), (⟨"SwapBookModel", "whyNoThing", "(II)I"⟩, 47), (⟨"SwapBookModel", "placeIn", "(II)I"⟩, 47), (⟨"SwapBookModel", "whyNotTwo", "(II)I"⟩, 47), (⟨"SwapBookModel", "quarrelsIn", "(I)I"⟩, 47), (⟨"SwapBookModel", "isQuiet", "(I)Z"⟩, 47), (⟨"SwapBookModel", "need", "(III)V"⟩, 47), (⟨"SwapBookModel", "countWays", "(I)V"⟩, 47), (⟨"SwapBookModel", "fraction", "(JJ)Z"⟩, 47), (⟨"SwapBookModel", "isTray", "(I)Z"⟩, 47), (⟨"SwapBookModel", "numberOf", "(II)J"⟩, 47), (⟨"SwapBookModel", "orderSet", "()I"⟩, 47), (⟨"SwapBookModel", "swapped", "(I)Z"⟩, 47), (⟨"SwapBookModel", "isIsland", "(I)Z"⟩, 47), (⟨"SwapBookModel", "readStep", "(I)V"⟩, 47), (⟨"SwapBookModel", "readRest", "(I)V"⟩, 47)]
theorem lw_r8 : ∀ q ∈ lw_privs_8, lw_okq q := List.forall_mem_cons.mpr ⟨lw_p112, List.forall_mem_cons.mpr ⟨lw_p113, List.forall_mem_cons.mpr ⟨lw_p114, List.forall_mem_cons.mpr ⟨lw_p115, List.forall_mem_cons.mpr ⟨lw_p116, List.forall_mem_cons.mpr ⟨lw_p117, List.forall_mem_cons.mpr ⟨lw_p118, List.forall_mem_cons.mpr ⟨lw_p119, List.forall_mem_cons.mpr ⟨lw_p120, List.forall_mem_cons.mpr ⟨lw_p121, List.forall_mem_cons.mpr ⟨lw_p122, List.forall_mem_cons.mpr ⟨lw_p123, List.forall_mem_cons.mpr ⟨lw_p124, List.forall_mem_cons.mpr ⟨lw_p125, List.forall_mem_cons.mpr ⟨lw_p126, List.forall_mem_cons.mpr ⟨lw_p127, fun _ h => absurd h List.not_mem_nil⟩⟩⟩⟩⟩⟩⟩⟩⟩⟩⟩⟩⟩⟩⟩⟩
theorem lw_p128 : lw_okq (⟨"SwapBookModel", "readLogName", "(Z)I"⟩, 47) := ⟨⟨by decide +kernel, by decide +kernel⟩, lw_t6 (List.mem_of_getElem? (i := 107) rfl), lw_t9 (List.mem_of_getElem? (i := 46) rfl), lw_t9 (List.mem_of_getElem? (i := 47) rfl)⟩
theorem lw_p129 : lw_okq (⟨"SwapBookModel", "readShip", "(I)V"⟩, 47) := ⟨⟨by decide +kernel, by decide +kernel⟩, lw_t6 (List.mem_of_getElem? (i := 107) rfl), lw_t9 (List.mem_of_getElem? (i := 50) rfl), lw_t9 (List.mem_of_getElem? (i := 51) rfl)⟩
theorem lw_p130 : lw_okq (⟨"SwapBookModel", "readTest", "(I)V"⟩, 47) := ⟨⟨by decide +kernel, by decide +kernel⟩, lw_t6 (List.mem_of_getElem? (i := 107) rfl), lw_t9 (List.mem_of_getElem? (i := 54) rfl), lw_t9 (List.mem_of_getElem? (i := 55) rfl)⟩
theorem lw_p131 : lw_okq (⟨"SwapBookModel", "run", "(I)V"⟩, 47) := ⟨⟨by decide +kernel, by decide +kernel⟩, lw_t6 (List.mem_of_getElem? (i := 107) rfl), lw_t9 (List.mem_of_getElem? (i := 63) rfl), lw_t9 (List.mem_of_getElem? (i := 64) rfl)⟩
theorem lw_p132 : lw_okq (⟨"SwapBookModel", "doAll", "(II)V"⟩, 47) := ⟨⟨by decide +kernel, by decide +kernel⟩, lw_t6 (List.mem_of_getElem? (i := 107) rfl), lw_t9 (List.mem_of_getElem? (i := 67) rfl), lw_t9 (List.mem_of_getElem? (i := 68) rfl)⟩
theorem lw_p133 : lw_okq (⟨"SwapBookModel", "doOne", "(I)V"⟩, 47) := ⟨⟨by decide +kernel, by decide +kernel⟩, lw_t6 (List.mem_of_getElem? (i := 107) rfl), lw_t9 (List.mem_of_getElem? (i := 71) rfl), lw_t9 (List.mem_of_getElem? (i := 72) rfl)⟩
theorem lw_p134 : lw_okq (⟨"SwapBookModel", "doAt", "(III)V"⟩, 47) := ⟨⟨by decide +kernel, by decide +kernel⟩, lw_t6 (List.mem_of_getElem? (i := 107) rfl), lw_t9 (List.mem_of_getElem? (i := 75) rfl), lw_t9 (List.mem_of_getElem? (i := 76) rfl)⟩
theorem lw_p135 : lw_okq (⟨"SwapBookModel", "doShip", "(I)V"⟩, 47) := ⟨⟨by decide +kernel, by decide +kernel⟩, lw_t6 (List.mem_of_getElem? (i := 107) rfl), lw_t9 (List.mem_of_getElem? (i := 79) rfl), lw_t9 (List.mem_of_getElem? (i := 80) rfl)⟩
theorem lw_p136 : lw_okq (⟨"SwapBookModel", "comes", "(II)V"⟩, 47) := ⟨⟨by decide +kernel, by decide +kernel⟩, lw_t6 (List.mem_of_getElem? (i := 107) rfl), lw_t9 (List.mem_of_getElem? (i := 83) rfl), lw_t9 (List.mem_of_getElem? (i := 84) rfl)⟩
theorem lw_p137 : lw_okq (⟨"SwapBookModel", "load", "(III)V"⟩, 47) := ⟨⟨by decide +kernel, by decide +kernel⟩, lw_t6 (List.mem_of_getElem? (i := 107) rfl), lw_t9 (List.mem_of_getElem? (i := 87) rfl), lw_t9 (List.mem_of_getElem? (i := 88) rfl)⟩
theorem lw_p138 : lw_okq (⟨"SwapBookModel", "doWait", "(I)V"⟩, 47) := ⟨⟨by decide +kernel, by decide +kernel⟩, lw_t6 (List.mem_of_getElem? (i := 107) rfl), lw_t9 (List.mem_of_getElem? (i := 91) rfl), lw_t9 (List.mem_of_getElem? (i := 92) rfl)⟩
theorem lw_p139 : lw_okq (⟨"SwapBookModel", "takeAway", "(I)V"⟩, 47) := ⟨⟨by decide +kernel, by decide +kernel⟩, lw_t6 (List.mem_of_getElem? (i := 107) rfl), lw_t9 (List.mem_of_getElem? (i := 95) rfl), lw_t9 (List.mem_of_getElem? (i := 96) rfl)⟩
theorem lw_p140 : lw_okq (⟨"SwapBookModel", "doDraw", "(I)V"⟩, 47) := ⟨⟨by decide +kernel, by decide +kernel⟩, lw_t6 (List.mem_of_getElem? (i := 107) rfl), lw_t9 (List.mem_of_getElem? (i := 99) rfl), lw_t9 (List.mem_of_getElem? (i := 100) rfl)⟩
theorem lw_p141 : lw_okq (⟨"SwapBookModel", "draw", "()I"⟩, 47) := ⟨⟨by decide +kernel, by decide +kernel⟩, lw_t6 (List.mem_of_getElem? (i := 107) rfl), lw_t9 (List.mem_of_getElem? (i := 103) rfl), lw_t9 (List.mem_of_getElem? (i := 104) rfl)⟩
theorem lw_p142 : lw_okq (⟨"SwapBookModel", "isSo", "(I)Z"⟩, 47) := ⟨⟨by decide +kernel, by decide +kernel⟩, lw_t6 (List.mem_of_getElem? (i := 107) rfl), lw_t9 (List.mem_of_getElem? (i := 107) rfl), lw_t9 (List.mem_of_getElem? (i := 108) rfl)⟩
theorem lw_p143 : lw_okq (⟨"SwapBookModel", "copy", "(II)V"⟩, 47) := ⟨⟨by decide +kernel, by decide +kernel⟩, lw_t6 (List.mem_of_getElem? (i := 107) rfl), lw_t9 (List.mem_of_getElem? (i := 136) rfl), lw_t9 (List.mem_of_getElem? (i := 137) rfl)⟩
def lw_privs_9 : List (MethodName × Nat) := [(⟨"SwapBookModel", "readLogName", "(Z)I"⟩, 47), (⟨"SwapBookModel", "readShip", "(I)V"⟩, 47), (⟨"SwapBookModel", "readTest", "(I)V"⟩, 47), (⟨"SwapBookModel", "run", "(I)V"⟩, 47), (⟨"SwapBookModel", "doAll", "(II)V"⟩, 47), (⟨"SwapBookModel", "doOne", "(I)V"⟩, 47), (⟨"SwapBookModel", "doAt", "(III)V"⟩, 47), (⟨"SwapBookModel", "doShip", "(I)V"⟩, 47), (⟨"SwapBookModel", "comes", "(II)V"⟩, 47), (⟨"SwapBookModel", "load", "(III)V"⟩, 47), (⟨"SwapBookModel", "doWait", "(I)V"⟩, 47), (⟨"SwapBookModel", "takeAway", "(I)V"⟩, 47), (⟨"SwapBookModel", "doDraw", "(I)V"⟩, 47), (⟨"SwapBookModel", "draw", "()I"⟩, 47), (⟨"SwapBookModel", "isSo", "(I)Z"⟩, 47), (⟨"SwapBookModel", "copy", "(II)V"⟩, 47)]
theorem lw_r9 : ∀ q ∈ lw_privs_9, lw_okq q := List.forall_mem_cons.mpr ⟨lw_p128, List.forall_mem_cons.mpr ⟨lw_p129, List.forall_mem_cons.mpr ⟨lw_p130, List.forall_mem_cons.mpr ⟨lw_p131, List.forall_mem_cons.mpr ⟨lw_p132, List.forall_mem_cons.mpr ⟨lw_p133, List.forall_mem_cons.mpr ⟨lw_p134, List.forall_mem_cons.mpr ⟨lw_p135, List.forall_mem_cons.mpr ⟨lw_p136, List.forall_mem_cons.mpr ⟨lw_p137, List.forall_mem_cons.mpr ⟨lw_p138, List.forall_mem_cons.mpr ⟨lw_p139, List.forall_mem_cons.mpr ⟨lw_p140, List.forall_mem_cons.mpr ⟨lw_p141, List.forall_mem_cons.mpr ⟨lw_p142, List.forall_mem_cons.mpr ⟨lw_p143, fun _ h => absurd h List.not_mem_nil⟩⟩⟩⟩⟩⟩⟩⟩⟩⟩⟩⟩⟩⟩⟩⟩
def lw_privs : List (MethodName × Nat) := lw_privs_1 ++ (lw_privs_2 ++ (lw_privs_3 ++ (lw_privs_4 ++ (lw_privs_5 ++ (lw_privs_6 ++ (lw_privs_7 ++ (lw_privs_8 ++ (lw_privs_9))))))))
def lw_tbl : List Cond := k2_sels lw_privs ++ tables_1
theorem lw_privs_ok : ∀ q ∈ lw_privs, lw_okq q := by
  show ∀ q ∈ lw_privs_1 ++ (lw_privs_2 ++ (lw_privs_3 ++ (lw_privs_4 ++ (lw_privs_5 ++ (lw_privs_6 ++ (lw_privs_7 ++ (lw_privs_8 ++ (lw_privs_9)))))))), lw_okq q
  exact List.forall_mem_append.mpr ⟨lw_r1, List.forall_mem_append.mpr ⟨lw_r2, List.forall_mem_append.mpr ⟨lw_r3, List.forall_mem_append.mpr ⟨lw_r4, List.forall_mem_append.mpr ⟨lw_r5, List.forall_mem_append.mpr ⟨lw_r6, List.forall_mem_append.mpr ⟨lw_r7, List.forall_mem_append.mpr ⟨lw_r8, lw_r9⟩⟩⟩⟩⟩⟩⟩⟩
-- ===== ONE list of words for every method: the tables' words that hold all through a run =====
def lw_all : List Cond := lw_tbl.filter goodWord
/-- a word of the tables by its place: claim/WORDS.tsv -/
theorem lw_w {w : Cond} (i : Nat) (h : lw_tbl[i]? = some w) (g : goodWord w = true) : w ∈ lw_all := List.mem_filter.mpr ⟨List.mem_of_getElem? h, g⟩
theorem lw_all_tbl {w : Cond} (h : w ∈ lw_all) : w ∈ lw_tbl := (List.mem_filter.mp h).1
theorem lw_self : GoodIn lw_all lw_all := fun w h => ⟨h, good_of_word (List.mem_filter.mp h).2⟩
/-- a class's field words, by their places -/
theorem lw_in (ws : List Cond) (ps : List Nat) (hp : ws = ps.filterMap (fun i => lw_tbl[i]?)) (hg : ws.all goodWord = true) : ∀ w ∈ ws, w ∈ lw_all := by
  intro w h
  have h1 := List.all_eq_true.mp hg w h
  rw [hp] at h
  obtain ⟨i, -, hi⟩ := List.mem_filterMap.mp h
  exact lw_w i hi h1
/-- the words of a contract for the method y with code b, L locals, answer r -/
abbrev ws_ (y : MethodName) (b : ByteArray) (L : Nat) (r : Option FieldType) : List Cond := Cond.code y b L r :: lw_all
theorem lw_meth {y : MethodName} {b : ByteArray} {L : Nat} {r : Option FieldType} (h : Cond.code y b L r ∈ lw_all) : GoodIn lw_all (ws_ y b L r) := by
  intro w hw
  rcases List.mem_cons.mp hw with e | e
  · rw [e]
    exact lw_self _ h
  · exact lw_self _ e
theorem lw_app {a c : List Cond} (ha : ∀ w ∈ a, w ∈ lw_all) (hc : GoodIn lw_all c) : GoodIn lw_all (a ++ c) := by
  intro w hw
  rcases List.mem_append.mp hw with e | e
  · exact lw_self w (ha w e)
  · exact hc w e
/-- what a call through an object asks: cwV n hts (lw_V ..) -/
theorem lw_V {own : String} {idx : Nat} {C : String} {y : MethodName} {b : ByteArray} {L : Nat} {r : Option FieldType} (h1 : Cond.methodLink own idx y ∈ lw_all) (h2 : Cond.instanceMethod y ∈ lw_all) (h3 : Cond.selects C y y ∈ lw_all) (h4 : Cond.initialized C ∈ lw_all) (h5 : Cond.code y b L r ∈ lw_all) : GoodIn lw_all (wsV own idx C y (ws_ y b L r)) := by
  refine lw_app ?_ (lw_meth h5)
  intro w hw
  simp only [List.mem_cons, List.not_mem_nil, or_false] at hw
  rcases hw with e | e | e | e
  · rw [e]; exact h1
  · rw [e]; exact h2
  · rw [e]; exact h3
  · rw [e]; exact h4
/-- what a static call asks: va_cwS n hts (lw_S ..) -/
theorem lw_S {own : String} {idx : Nat} {y : MethodName} {b : ByteArray} {L : Nat} {r : Option FieldType} (h1 : Cond.methodLink own idx y ∈ lw_all) (h2 : Cond.static y ∈ lw_all) (h3 : Cond.initialized y.cls ∈ lw_all) (h4 : Cond.code y b L r ∈ lw_all) : GoodIn lw_all (va_wsS own idx y (ws_ y b L r)) := by
  refine lw_app ?_ (lw_meth h4)
  intro w hw
  simp only [List.mem_cons, List.not_mem_nil, or_false] at hw
  rcases hw with e | e | e
  · rw [e]; exact h1
  · rw [e]; exact h2
  · rw [e]; exact h3
/-- the words of a contract for a method WITH HANDLERS (hh: its table) -/
abbrev wsW_ (y : MethodName) (b : ByteArray) (L : Nat) (r : Option FieldType) (hh : List (Nat × Nat × Nat × Nat)) : List Cond := Cond.codeWith y b L r hh :: lw_all
theorem lw_methW {y : MethodName} {b : ByteArray} {L : Nat} {r : Option FieldType} {hh : List (Nat × Nat × Nat × Nat)} (h : Cond.codeWith y b L r hh ∈ lw_all) : GoodIn lw_all (wsW_ y b L r hh) := by
  intro w hw
  rcases List.mem_cons.mp hw with e | e
  · rw [e]
    exact lw_self _ h
  · exact lw_self _ e
/-- any list of words by their places (lw_in), good -/
theorem lw_good {ws : List Cond} (h : ∀ w ∈ ws, w ∈ lw_all) : GoodIn lw_all ws := fun w hw => lw_self w (h w hw)
/-- what a call of a method with handlers asks: vx_cwVW n hts (lw_VW ..), vx_cwSW n hts (lw_SW ..) -/
theorem lw_VW {own : String} {idx : Nat} {C : String} {y : MethodName} {b : ByteArray} {L : Nat} {r : Option FieldType} {hh : List (Nat × Nat × Nat × Nat)} (h1 : Cond.methodLink own idx y ∈ lw_all) (h2 : Cond.instanceMethod y ∈ lw_all) (h3 : Cond.selects C y y ∈ lw_all) (h4 : Cond.initialized C ∈ lw_all) (h5 : Cond.codeWith y b L r hh ∈ lw_all) : GoodIn lw_all (wsV own idx C y (wsW_ y b L r hh)) := by
  refine lw_app ?_ (lw_methW h5)
  intro w hw
  simp only [List.mem_cons, List.not_mem_nil, or_false] at hw
  rcases hw with e | e | e | e
  · rw [e]; exact h1
  · rw [e]; exact h2
  · rw [e]; exact h3
  · rw [e]; exact h4
theorem lw_SW {own : String} {idx : Nat} {y : MethodName} {b : ByteArray} {L : Nat} {r : Option FieldType} {hh : List (Nat × Nat × Nat × Nat)} (h1 : Cond.methodLink own idx y ∈ lw_all) (h2 : Cond.static y ∈ lw_all) (h3 : Cond.initialized y.cls ∈ lw_all) (h4 : Cond.codeWith y b L r hh ∈ lw_all) : GoodIn lw_all (va_wsS own idx y (wsW_ y b L r hh)) := by
  refine lw_app ?_ (lw_methW h4)
  intro w hw
  simp only [List.mem_cons, List.not_mem_nil, or_false] at hw
  rcases hw with e | e | e
  · rw [e]; exact h1
  · rw [e]; exact h2
  · rw [e]; exact h3
/-- a word by its place in its run of the tables -/
theorem lw_at {r : List Cond} (hr : ∀ w ∈ r, w ∈ lw_tbl) {w : Cond} (i : Nat) (h : r[i]? = some w) : w ∈ lw_tbl := hr w (List.mem_of_getElem? h)
theorem lw_g {w : Cond} (h : w ∈ lw_tbl) (g : goodWord w = true) : w ∈ lw_all := List.mem_filter.mpr ⟨h, g⟩
theorem lw_ms : ∀ w ∈ k2_sels lw_privs, w ∈ lw_tbl := fun w h => show w ∈ k2_sels lw_privs ++ tables_1 from List.mem_append_left _ h
theorem lw_m1 : ∀ w ∈ tables_1_1, w ∈ lw_tbl := fun w h => show w ∈ k2_sels lw_privs ++ tables_1 from List.mem_append_right (k2_sels lw_privs) (show w ∈ tables_1 from List.mem_append_left _ h)
theorem lw_m2 : ∀ w ∈ tables_1_2, w ∈ lw_tbl := fun w h => show w ∈ k2_sels lw_privs ++ tables_1 from List.mem_append_right (k2_sels lw_privs) (show w ∈ tables_1 from List.mem_append_right _ (List.mem_append_left _ h))
theorem lw_m3 : ∀ w ∈ tables_1_3, w ∈ lw_tbl := fun w h => show w ∈ k2_sels lw_privs ++ tables_1 from List.mem_append_right (k2_sels lw_privs) (show w ∈ tables_1 from List.mem_append_right _ (List.mem_append_right _ (List.mem_append_left _ h)))
theorem lw_m4 : ∀ w ∈ tables_1_4, w ∈ lw_tbl := fun w h => show w ∈ k2_sels lw_privs ++ tables_1 from List.mem_append_right (k2_sels lw_privs) (show w ∈ tables_1 from List.mem_append_right _ (List.mem_append_right _ (List.mem_append_right _ (List.mem_append_left _ h))))
theorem lw_m5 : ∀ w ∈ tables_1_5, w ∈ lw_tbl := fun w h => show w ∈ k2_sels lw_privs ++ tables_1 from List.mem_append_right (k2_sels lw_privs) (show w ∈ tables_1 from List.mem_append_right _ (List.mem_append_right _ (List.mem_append_right _ (List.mem_append_right _ (List.mem_append_left _ h)))))
theorem lw_m6 : ∀ w ∈ tables_1_6, w ∈ lw_tbl := fun w h => show w ∈ k2_sels lw_privs ++ tables_1 from List.mem_append_right (k2_sels lw_privs) (show w ∈ tables_1 from List.mem_append_right _ (List.mem_append_right _ (List.mem_append_right _ (List.mem_append_right _ (List.mem_append_right _ (List.mem_append_left _ h))))))
theorem lw_m7 : ∀ w ∈ tables_1_7, w ∈ lw_tbl := fun w h => show w ∈ k2_sels lw_privs ++ tables_1 from List.mem_append_right (k2_sels lw_privs) (show w ∈ tables_1 from List.mem_append_right _ (List.mem_append_right _ (List.mem_append_right _ (List.mem_append_right _ (List.mem_append_right _ (List.mem_append_right _ (List.mem_append_left _ h)))))))
theorem lw_m8 : ∀ w ∈ tables_1_8, w ∈ lw_tbl := fun w h => show w ∈ k2_sels lw_privs ++ tables_1 from List.mem_append_right (k2_sels lw_privs) (show w ∈ tables_1 from List.mem_append_right _ (List.mem_append_right _ (List.mem_append_right _ (List.mem_append_right _ (List.mem_append_right _ (List.mem_append_right _ (List.mem_append_right _ (List.mem_append_left _ h))))))))
theorem lw_m9 : ∀ w ∈ tables_1_9, w ∈ lw_tbl := fun w h => show w ∈ k2_sels lw_privs ++ tables_1 from List.mem_append_right (k2_sels lw_privs) (show w ∈ tables_1 from List.mem_append_right _ (List.mem_append_right _ (List.mem_append_right _ (List.mem_append_right _ (List.mem_append_right _ (List.mem_append_right _ (List.mem_append_right _ (List.mem_append_right _ h))))))))
theorem qs0 : (Cond.selects "java/lang/NullPointerException" ⟨"java/lang/NullPointerException", "getExtendedNPEMessage", "()Ljava/lang/String;"⟩ ⟨"java/lang/NullPointerException", "getExtendedNPEMessage", "()Ljava/lang/String;"⟩) ∈ lw_all := lw_g (lw_at lw_ms 0 rfl) rfl
theorem qs1 : (Cond.selects "java/lang/Throwable" ⟨"java/lang/Throwable", "fillInStackTrace", "(I)Ljava/lang/Throwable;"⟩ ⟨"java/lang/Throwable", "fillInStackTrace", "(I)Ljava/lang/Throwable;"⟩) ∈ lw_all := lw_g (lw_at lw_ms 1 rfl) rfl
theorem qs2 : (Cond.selects "SwapBook" ⟨"SwapBook", "is", "(I)Z"⟩ ⟨"SwapBook", "is", "(I)Z"⟩) ∈ lw_all := lw_g (lw_at lw_ms 2 rfl) rfl
theorem qs3 : (Cond.selects "SwapBook" ⟨"SwapBook", "none", "(I)I"⟩ ⟨"SwapBook", "none", "(I)I"⟩) ∈ lw_all := lw_g (lw_at lw_ms 3 rfl) rfl
theorem qs4 : (Cond.selects "SwapBook" ⟨"SwapBook", "four", "(I)V"⟩ ⟨"SwapBook", "four", "(I)V"⟩) ∈ lw_all := lw_g (lw_at lw_ms 4 rfl) rfl
theorem qs5 : (Cond.selects "SwapBook" ⟨"SwapBook", "takes", "(II)Z"⟩ ⟨"SwapBook", "takes", "(II)Z"⟩) ∈ lw_all := lw_g (lw_at lw_ms 5 rfl) rfl
theorem qs6 : (Cond.selects "SwapBook$Reader" ⟨"SwapBook$Reader", "part", "()V"⟩ ⟨"SwapBook$Reader", "part", "()V"⟩) ∈ lw_all := lw_g (lw_at lw_ms 6 rfl) rfl
theorem qs7 : (Cond.selects "SwapBook$Reader" ⟨"SwapBook$Reader", "newName", "()J"⟩ ⟨"SwapBook$Reader", "newName", "()J"⟩) ∈ lw_all := lw_g (lw_at lw_ms 7 rfl) rfl
theorem qs8 : (Cond.selects "SwapBook$Reader" ⟨"SwapBook$Reader", "aPut", "(J)LSwapBook$Change;"⟩ ⟨"SwapBook$Reader", "aPut", "(J)LSwapBook$Change;"⟩) ∈ lw_all := lw_g (lw_at lw_ms 8 rfl) rfl
theorem qs9 : (Cond.selects "SwapBook$Reader" ⟨"SwapBook$Reader", "word", "(I)V"⟩ ⟨"SwapBook$Reader", "word", "(I)V"⟩) ∈ lw_all := lw_g (lw_at lw_ms 9 rfl) rfl
theorem qs10 : (Cond.selects "SwapBook$Reader" ⟨"SwapBook$Reader", "told", "()I"⟩ ⟨"SwapBook$Reader", "told", "()I"⟩) ∈ lw_all := lw_g (lw_at lw_ms 10 rfl) rfl
theorem qs11 : (Cond.selects "SwapBook$Reader" ⟨"SwapBook$Reader", "aSettle", "(J)LSwapBook$Change;"⟩ ⟨"SwapBook$Reader", "aSettle", "(J)LSwapBook$Change;"⟩) ∈ lw_all := lw_g (lw_at lw_ms 11 rfl) rfl
theorem qs12 : (Cond.selects "SwapBook$Reader" ⟨"SwapBook$Reader", "ofTwo", "()I"⟩ ⟨"SwapBook$Reader", "ofTwo", "()I"⟩) ∈ lw_all := lw_g (lw_at lw_ms 12 rfl) rfl
theorem qs13 : (Cond.selects "SwapBook$Reader" ⟨"SwapBook$Reader", "aChange", "()I"⟩ ⟨"SwapBook$Reader", "aChange", "()I"⟩) ∈ lw_all := lw_g (lw_at lw_ms 13 rfl) rfl
theorem qs14 : (Cond.selects "SwapBook$Reader" ⟨"SwapBook$Reader", "another", "(JI)LSwapBook$Change;"⟩ ⟨"SwapBook$Reader", "another", "(JI)LSwapBook$Change;"⟩) ∈ lw_all := lw_g (lw_at lw_ms 14 rfl) rfl
theorem qs15 : (Cond.selects "SwapBook$Reader" ⟨"SwapBook$Reader", "after", "(LSwapBook$Change;)V"⟩ ⟨"SwapBook$Reader", "after", "(LSwapBook$Change;)V"⟩) ∈ lw_all := lw_g (lw_at lw_ms 15 rfl) rfl
theorem qs16 : (Cond.selects "SwapBook$Reader" ⟨"SwapBook$Reader", "isName", "()Z"⟩ ⟨"SwapBook$Reader", "isName", "()Z"⟩) ∈ lw_all := lw_g (lw_at lw_ms 16 rfl) rfl
theorem qs17 : (Cond.selects "SwapBook" ⟨"SwapBook", "refused", "(LSwapBook$Wrong;)I"⟩ ⟨"SwapBook", "refused", "(LSwapBook$Wrong;)I"⟩) ∈ lw_all := lw_g (lw_at lw_ms 17 rfl) rfl
theorem qs18 : (Cond.selects "SwapBook" ⟨"SwapBook", "gives", "(I)I"⟩ ⟨"SwapBook", "gives", "(I)I"⟩) ∈ lw_all := lw_g (lw_at lw_ms 18 rfl) rfl
theorem qs19 : (Cond.selects "SwapBook$Reader" ⟨"SwapBook$Reader", "step", "()V"⟩ ⟨"SwapBook$Reader", "step", "()V"⟩) ∈ lw_all := lw_g (lw_at lw_ms 19 rfl) rfl
theorem qs20 : (Cond.selects "SwapBook$Reader" ⟨"SwapBook$Reader", "passedChange", "()I"⟩ ⟨"SwapBook$Reader", "passedChange", "()I"⟩) ∈ lw_all := lw_g (lw_at lw_ms 20 rfl) rfl
theorem qs21 : (Cond.selects "SwapBook$Reader" ⟨"SwapBook$Reader", "anIsland", "()I"⟩ ⟨"SwapBook$Reader", "anIsland", "()I"⟩) ∈ lw_all := lw_g (lw_at lw_ms 21 rfl) rfl
theorem qs22 : (Cond.selects "SwapBook$Reader" ⟨"SwapBook$Reader", "ship", "(LSwapBook$Step;)V"⟩ ⟨"SwapBook$Reader", "ship", "(LSwapBook$Step;)V"⟩) ∈ lw_all := lw_g (lw_at lw_ms 22 rfl) rfl
theorem qs23 : (Cond.selects "SwapBook$Reader" ⟨"SwapBook$Reader", "test", "(LSwapBook$Step;)V"⟩ ⟨"SwapBook$Reader", "test", "(LSwapBook$Step;)V"⟩) ∈ lw_all := lw_g (lw_at lw_ms 23 rfl) rfl
theorem qs24 : (Cond.selects "SwapBook" ⟨"SwapBook", "isChange", "(J)Z"⟩ ⟨"SwapBook", "isChange", "(J)Z"⟩) ∈ lw_all := lw_g (lw_at lw_ms 24 rfl) rfl
theorem qs25 : (Cond.selects "SwapBook" ⟨"SwapBook", "hung", "(I)I"⟩ ⟨"SwapBook", "hung", "(I)I"⟩) ∈ lw_all := lw_g (lw_at lw_ms 25 rfl) rfl
theorem qs26 : (Cond.selects "SwapBook" ⟨"SwapBook", "isSet", "(I)Z"⟩ ⟨"SwapBook", "isSet", "(I)Z"⟩) ∈ lw_all := lw_g (lw_at lw_ms 26 rfl) rfl
theorem qs27 : (Cond.selects "SwapBook" ⟨"SwapBook", "without", "(II)I"⟩ ⟨"SwapBook", "without", "(II)I"⟩) ∈ lw_all := lw_g (lw_at lw_ms 27 rfl) rfl
theorem qs28 : (Cond.selects "SwapBook" ⟨"SwapBook", "wrongSet", "(I)I"⟩ ⟨"SwapBook", "wrongSet", "(I)I"⟩) ∈ lw_all := lw_g (lw_at lw_ms 28 rfl) rfl
theorem qs29 : (Cond.selects "SwapBook" ⟨"SwapBook", "lists", "(I)V"⟩ ⟨"SwapBook", "lists", "(I)V"⟩) ∈ lw_all := lw_g (lw_at lw_ms 29 rfl) rfl
theorem qs30 : (Cond.selects "SwapBook" ⟨"SwapBook", "wrongThing", "(II)I"⟩ ⟨"SwapBook", "wrongThing", "(II)I"⟩) ∈ lw_all := lw_g (lw_at lw_ms 30 rfl) rfl
theorem qs31 : (Cond.selects "SwapBook" ⟨"SwapBook", "placeOf", "(I)I"⟩ ⟨"SwapBook", "placeOf", "(I)I"⟩) ∈ lw_all := lw_g (lw_at lw_ms 31 rfl) rfl
theorem qs32 : (Cond.selects "SwapBook" ⟨"SwapBook", "wrongSets", "(II)I"⟩ ⟨"SwapBook", "wrongSets", "(II)I"⟩) ∈ lw_all := lw_g (lw_at lw_ms 32 rfl) rfl
theorem qs33 : (Cond.selects "SwapBook" ⟨"SwapBook", "differs", "(IIZ)I"⟩ ⟨"SwapBook", "differs", "(IIZ)I"⟩) ∈ lw_all := lw_g (lw_at lw_ms 33 rfl) rfl
theorem qs34 : (Cond.selects "SwapBook" ⟨"SwapBook", "inSet", "(II)I"⟩ ⟨"SwapBook", "inSet", "(II)I"⟩) ∈ lw_all := lw_g (lw_at lw_ms 34 rfl) rfl
theorem qs35 : (Cond.selects "SwapBook" ⟨"SwapBook", "quietest", "(I)I"⟩ ⟨"SwapBook", "quietest", "(I)I"⟩) ∈ lw_all := lw_g (lw_at lw_ms 35 rfl) rfl
theorem qs36 : (Cond.selects "SwapBook" ⟨"SwapBook", "counts", "(I)V"⟩ ⟨"SwapBook", "counts", "(I)V"⟩) ∈ lw_all := lw_g (lw_at lw_ms 36 rfl) rfl
theorem qs37 : (Cond.selects "SwapBook" ⟨"SwapBook", "mayCome", "(II)Z"⟩ ⟨"SwapBook", "mayCome", "(II)Z"⟩) ∈ lw_all := lw_g (lw_at lw_ms 37 rfl) rfl
theorem qs38 : (Cond.selects "SwapBook" ⟨"SwapBook", "tell", "(JJ)Z"⟩ ⟨"SwapBook", "tell", "(JJ)Z"⟩) ∈ lw_all := lw_g (lw_at lw_ms 38 rfl) rfl
theorem qs39 : (Cond.selects "SwapBook" ⟨"SwapBook", "upTo", "(I)I"⟩ ⟨"SwapBook", "upTo", "(I)I"⟩) ∈ lw_all := lw_g (lw_at lw_ms 39 rfl) rfl
theorem qs40 : (Cond.selects "SwapBook" ⟨"SwapBook", "maySwap", "(I)Z"⟩ ⟨"SwapBook", "maySwap", "(I)Z"⟩) ∈ lw_all := lw_g (lw_at lw_ms 40 rfl) rfl
theorem qs41 : (Cond.selects "SwapBook" ⟨"SwapBook", "swaps", "(I)V"⟩ ⟨"SwapBook", "swaps", "(I)V"⟩) ∈ lw_all := lw_g (lw_at lw_ms 41 rfl) rfl
theorem qs42 : (Cond.selects "SwapBook" ⟨"SwapBook", "isIsland", "(I)Z"⟩ ⟨"SwapBook", "isIsland", "(I)Z"⟩) ∈ lw_all := lw_g (lw_at lw_ms 42 rfl) rfl
theorem qs43 : (Cond.selects "SwapBook" ⟨"SwapBook", "sails", "(I)V"⟩ ⟨"SwapBook", "sails", "(I)V"⟩) ∈ lw_all := lw_g (lw_at lw_ms 43 rfl) rfl
theorem qs44 : (Cond.selects "SwapBook" ⟨"SwapBook", "does", "(LSwapBook$Step;)Z"⟩ ⟨"SwapBook", "does", "(LSwapBook$Step;)Z"⟩) ∈ lw_all := lw_g (lw_at lw_ms 44 rfl) rfl
theorem qs45 : (Cond.selects "SwapBook" ⟨"SwapBook", "ships", "(LSwapBook$Step;)Z"⟩ ⟨"SwapBook", "ships", "(LSwapBook$Step;)Z"⟩) ∈ lw_all := lw_g (lw_at lw_ms 45 rfl) rfl
theorem qs46 : (Cond.selects "SwapBook" ⟨"SwapBook", "sets", "(III)V"⟩ ⟨"SwapBook", "sets", "(III)V"⟩) ∈ lw_all := lw_g (lw_at lw_ms 46 rfl) rfl
theorem qs47 : (Cond.selects "SwapBook" ⟨"SwapBook", "arrives", "()V"⟩ ⟨"SwapBook", "arrives", "()V"⟩) ∈ lw_all := lw_g (lw_at lw_ms 47 rfl) rfl
theorem qs48 : (Cond.selects "SwapBook" ⟨"SwapBook", "removes", "(I)V"⟩ ⟨"SwapBook", "removes", "(I)V"⟩) ∈ lw_all := lw_g (lw_at lw_ms 48 rfl) rfl
theorem qs49 : (Cond.selects "SwapBook" ⟨"SwapBook", "draws", "(I)V"⟩ ⟨"SwapBook", "draws", "(I)V"⟩) ∈ lw_all := lw_g (lw_at lw_ms 49 rfl) rfl
theorem qs50 : (Cond.selects "SwapBook" ⟨"SwapBook", "holds", "(LSwapBook$Step;)Z"⟩ ⟨"SwapBook", "holds", "(LSwapBook$Step;)Z"⟩) ∈ lw_all := lw_g (lw_at lw_ms 50 rfl) rfl
theorem qs51 : (Cond.selects "SwapBook" ⟨"SwapBook", "behindEnds", "(I)I"⟩ ⟨"SwapBook", "behindEnds", "(I)I"⟩) ∈ lw_all := lw_g (lw_at lw_ms 51 rfl) rfl
theorem qs52 : (Cond.selects "SwapBookModel" ⟨"SwapBookModel", "no", "(I)Z"⟩ ⟨"SwapBookModel", "no", "(I)Z"⟩) ∈ lw_all := lw_g (lw_at lw_ms 52 rfl) rfl
theorem qs53 : (Cond.selects "SwapBookModel" ⟨"SwapBookModel", "placed", "(II)I"⟩ ⟨"SwapBookModel", "placed", "(II)I"⟩) ∈ lw_all := lw_g (lw_at lw_ms 53 rfl) rfl
theorem qs54 : (Cond.selects "SwapBookModel" ⟨"SwapBookModel", "trayed", "(I)I"⟩ ⟨"SwapBookModel", "trayed", "(I)I"⟩) ∈ lw_all := lw_g (lw_at lw_ms 54 rfl) rfl
theorem qs55 : (Cond.selects "SwapBookModel" ⟨"SwapBookModel", "lay", "(I)V"⟩ ⟨"SwapBookModel", "lay", "(I)V"⟩) ∈ lw_all := lw_g (lw_at lw_ms 55 rfl) rfl
theorem qs56 : (Cond.selects "SwapBookModel" ⟨"SwapBookModel", "opens", "(II)Z"⟩ ⟨"SwapBookModel", "opens", "(II)Z"⟩) ∈ lw_all := lw_g (lw_at lw_ms 56 rfl) rfl
theorem qs57 : (Cond.selects "SwapBookModel" ⟨"SwapBookModel", "next", "()V"⟩ ⟨"SwapBookModel", "next", "()V"⟩) ∈ lw_all := lw_g (lw_at lw_ms 57 rfl) rfl
theorem qs58 : (Cond.selects "SwapBookModel" ⟨"SwapBookModel", "look2", "(I)I"⟩ ⟨"SwapBookModel", "look2", "(I)I"⟩) ∈ lw_all := lw_g (lw_at lw_ms 58 rfl) rfl
theorem qs59 : (Cond.selects "SwapBookModel" ⟨"SwapBookModel", "isIslandWord", "()Z"⟩ ⟨"SwapBookModel", "isIslandWord", "()Z"⟩) ∈ lw_all := lw_g (lw_at lw_ms 59 rfl) rfl
theorem qs60 : (Cond.selects "SwapBookModel" ⟨"SwapBookModel", "isWord", "(J)Z"⟩ ⟨"SwapBookModel", "isWord", "(J)Z"⟩) ∈ lw_all := lw_g (lw_at lw_ms 60 rfl) rfl
theorem qs61 : (Cond.selects "SwapBookModel" ⟨"SwapBookModel", "readIsland", "()V"⟩ ⟨"SwapBookModel", "readIsland", "()V"⟩) ∈ lw_all := lw_g (lw_at lw_ms 61 rfl) rfl
theorem qs62 : (Cond.selects "SwapBookModel" ⟨"SwapBookModel", "fail", "(II)V"⟩ ⟨"SwapBookModel", "fail", "(II)V"⟩) ∈ lw_all := lw_g (lw_at lw_ms 62 rfl) rfl
theorem qs63 : (Cond.selects "SwapBookModel" ⟨"SwapBookModel", "readNew", "(II)V"⟩ ⟨"SwapBookModel", "readNew", "(II)V"⟩) ∈ lw_all := lw_g (lw_at lw_ms 63 rfl) rfl
theorem qs64 : (Cond.selects "SwapBookModel" ⟨"SwapBookModel", "isName", "()Z"⟩ ⟨"SwapBookModel", "isName", "()Z"⟩) ∈ lw_all := lw_g (lw_at lw_ms 64 rfl) rfl
theorem qs65 : (Cond.selects "SwapBookModel" ⟨"SwapBookModel", "isKept", "()Z"⟩ ⟨"SwapBookModel", "isKept", "()Z"⟩) ∈ lw_all := lw_g (lw_at lw_ms 65 rfl) rfl
theorem qs66 : (Cond.selects "SwapBookModel" ⟨"SwapBookModel", "kindWord", "()I"⟩ ⟨"SwapBookModel", "kindWord", "()I"⟩) ∈ lw_all := lw_g (lw_at lw_ms 66 rfl) rfl
theorem qs67 : (Cond.selects "SwapBookModel" ⟨"SwapBookModel", "isKey", "()Z"⟩ ⟨"SwapBookModel", "isKey", "()Z"⟩) ∈ lw_all := lw_g (lw_at lw_ms 67 rfl) rfl
theorem qs68 : (Cond.selects "SwapBookModel" ⟨"SwapBookModel", "isSays", "()Z"⟩ ⟨"SwapBookModel", "isSays", "()Z"⟩) ∈ lw_all := lw_g (lw_at lw_ms 68 rfl) rfl
theorem qs69 : (Cond.selects "SwapBookModel" ⟨"SwapBookModel", "isOf", "()Z"⟩ ⟨"SwapBookModel", "isOf", "()Z"⟩) ∈ lw_all := lw_g (lw_at lw_ms 69 rfl) rfl
theorem qs70 : (Cond.selects "SwapBookModel" ⟨"SwapBookModel", "isNot", "()Z"⟩ ⟨"SwapBookModel", "isNot", "()Z"⟩) ∈ lw_all := lw_g (lw_at lw_ms 70 rfl) rfl
theorem qs71 : (Cond.selects "SwapBookModel" ⟨"SwapBookModel", "isAfter", "()Z"⟩ ⟨"SwapBookModel", "isAfter", "()Z"⟩) ∈ lw_all := lw_g (lw_at lw_ms 71 rfl) rfl
theorem qs72 : (Cond.selects "SwapBookModel" ⟨"SwapBookModel", "stepWord", "()I"⟩ ⟨"SwapBookModel", "stepWord", "()I"⟩) ∈ lw_all := lw_g (lw_at lw_ms 72 rfl) rfl
theorem qs73 : (Cond.selects "SwapBookModel" ⟨"SwapBookModel", "isAt", "()Z"⟩ ⟨"SwapBookModel", "isAt", "()Z"⟩) ∈ lw_all := lw_g (lw_at lw_ms 73 rfl) rfl
theorem qs74 : (Cond.selects "SwapBookModel" ⟨"SwapBookModel", "isTo", "()Z"⟩ ⟨"SwapBookModel", "isTo", "()Z"⟩) ∈ lw_all := lw_g (lw_at lw_ms 74 rfl) rfl
theorem qs75 : (Cond.selects "SwapBookModel" ⟨"SwapBookModel", "isLate", "()Z"⟩ ⟨"SwapBookModel", "isLate", "()Z"⟩) ∈ lw_all := lw_g (lw_at lw_ms 75 rfl) rfl
theorem qs76 : (Cond.selects "SwapBookModel" ⟨"SwapBookModel", "isTwice", "()Z"⟩ ⟨"SwapBookModel", "isTwice", "()Z"⟩) ∈ lw_all := lw_g (lw_at lw_ms 76 rfl) rfl
theorem qs77 : (Cond.selects "SwapBookModel" ⟨"SwapBookModel", "isHas", "()Z"⟩ ⟨"SwapBookModel", "isHas", "()Z"⟩) ∈ lw_all := lw_g (lw_at lw_ms 77 rfl) rfl
theorem qs78 : (Cond.selects "SwapBookModel" ⟨"SwapBookModel", "isQuietWord", "()Z"⟩ ⟨"SwapBookModel", "isQuietWord", "()Z"⟩) ∈ lw_all := lw_g (lw_at lw_ms 78 rfl) rfl
theorem qs79 : (Cond.selects "SwapBookModel" ⟨"SwapBookModel", "isDayWord", "()Z"⟩ ⟨"SwapBookModel", "isDayWord", "()Z"⟩) ∈ lw_all := lw_g (lw_at lw_ms 79 rfl) rfl
theorem qs80 : (Cond.selects "SwapBookModel" ⟨"SwapBookModel", "isEnd", "()Z"⟩ ⟨"SwapBookModel", "isEnd", "()Z"⟩) ∈ lw_all := lw_g (lw_at lw_ms 80 rfl) rfl
theorem qs81 : (Cond.selects "SwapBookModel" ⟨"SwapBookModel", "wrong", "()V"⟩ ⟨"SwapBookModel", "wrong", "()V"⟩) ∈ lw_all := lw_g (lw_at lw_ms 81 rfl) rfl
theorem qs82 : (Cond.selects "SwapBookModel" ⟨"SwapBookModel", "named", "(III)I"⟩ ⟨"SwapBookModel", "named", "(III)I"⟩) ∈ lw_all := lw_g (lw_at lw_ms 82 rfl) rfl
theorem qs83 : (Cond.selects "SwapBookModel" ⟨"SwapBookModel", "readChange", "()V"⟩ ⟨"SwapBookModel", "readChange", "()V"⟩) ∈ lw_all := lw_g (lw_at lw_ms 83 rfl) rfl
theorem qs84 : (Cond.selects "SwapBookModel" ⟨"SwapBookModel", "readWhat", "(II)I"⟩ ⟨"SwapBookModel", "readWhat", "(II)I"⟩) ∈ lw_all := lw_g (lw_at lw_ms 84 rfl) rfl
theorem qs85 : (Cond.selects "SwapBookModel" ⟨"SwapBookModel", "readSettle", "(I)I"⟩ ⟨"SwapBookModel", "readSettle", "(I)I"⟩) ∈ lw_all := lw_g (lw_at lw_ms 85 rfl) rfl
theorem qs86 : (Cond.selects "SwapBookModel" ⟨"SwapBookModel", "must", "(Z)V"⟩ ⟨"SwapBookModel", "must", "(Z)V"⟩) ∈ lw_all := lw_g (lw_at lw_ms 86 rfl) rfl
theorem qs87 : (Cond.selects "SwapBookModel" ⟨"SwapBookModel", "readQuarreler", "()I"⟩ ⟨"SwapBookModel", "readQuarreler", "()I"⟩) ∈ lw_all := lw_g (lw_at lw_ms 87 rfl) rfl
theorem qs88 : (Cond.selects "SwapBookModel" ⟨"SwapBookModel", "readTold", "()I"⟩ ⟨"SwapBookModel", "readTold", "()I"⟩) ∈ lw_all := lw_g (lw_at lw_ms 88 rfl) rfl
theorem qs89 : (Cond.selects "SwapBookModel" ⟨"SwapBookModel", "kind", "(II)I"⟩ ⟨"SwapBookModel", "kind", "(II)I"⟩) ∈ lw_all := lw_g (lw_at lw_ms 89 rfl) rfl
theorem qs90 : (Cond.selects "SwapBookModel" ⟨"SwapBookModel", "wouldQuarrel", "(III)Z"⟩ ⟨"SwapBookModel", "wouldQuarrel", "(III)Z"⟩) ∈ lw_all := lw_g (lw_at lw_ms 90 rfl) rfl
theorem qs91 : (Cond.selects "SwapBookModel" ⟨"SwapBookModel", "thingOf", "(II)I"⟩ ⟨"SwapBookModel", "thingOf", "(II)I"⟩) ∈ lw_all := lw_g (lw_at lw_ms 91 rfl) rfl
theorem qs92 : (Cond.selects "SwapBookModel" ⟨"SwapBookModel", "hangsOn", "(II)I"⟩ ⟨"SwapBookModel", "hangsOn", "(II)I"⟩) ∈ lw_all := lw_g (lw_at lw_ms 92 rfl) rfl
theorem qs93 : (Cond.selects "SwapBookModel" ⟨"SwapBookModel", "readOf", "()I"⟩ ⟨"SwapBookModel", "readOf", "()I"⟩) ∈ lw_all := lw_g (lw_at lw_ms 93 rfl) rfl
theorem qs94 : (Cond.selects "SwapBookModel" ⟨"SwapBookModel", "count", "(II)I"⟩ ⟨"SwapBookModel", "count", "(II)I"⟩) ∈ lw_all := lw_g (lw_at lw_ms 94 rfl) rfl
theorem qs95 : (Cond.selects "SwapBookModel" ⟨"SwapBookModel", "readAfter", "()I"⟩ ⟨"SwapBookModel", "readAfter", "()I"⟩) ∈ lw_all := lw_g (lw_at lw_ms 95 rfl) rfl
theorem qs96 : (Cond.selects "SwapBookModel" ⟨"SwapBookModel", "isClose", "()Z"⟩ ⟨"SwapBookModel", "isClose", "()Z"⟩) ∈ lw_all := lw_g (lw_at lw_ms 96 rfl) rfl
theorem qs97 : (Cond.selects "SwapBookModel" ⟨"SwapBookModel", "isWell", "()Z"⟩ ⟨"SwapBookModel", "isWell", "()Z"⟩) ∈ lw_all := lw_g (lw_at lw_ms 97 rfl) rfl
theorem qs98 : (Cond.selects "SwapBookModel" ⟨"SwapBookModel", "refuse", "(I)I"⟩ ⟨"SwapBookModel", "refuse", "(I)I"⟩) ∈ lw_all := lw_g (lw_at lw_ms 98 rfl) rfl
theorem qs99 : (Cond.selects "SwapBookModel" ⟨"SwapBookModel", "isChange", "(I)Z"⟩ ⟨"SwapBookModel", "isChange", "(I)Z"⟩) ∈ lw_all := lw_g (lw_at lw_ms 99 rfl) rfl
theorem qs100 : (Cond.selects "SwapBookModel" ⟨"SwapBookModel", "levelOf", "(I)I"⟩ ⟨"SwapBookModel", "levelOf", "(I)I"⟩) ∈ lw_all := lw_g (lw_at lw_ms 100 rfl) rfl
theorem qs101 : (Cond.selects "SwapBookModel" ⟨"SwapBookModel", "hangers", "(I)I"⟩ ⟨"SwapBookModel", "hangers", "(I)I"⟩) ∈ lw_all := lw_g (lw_at lw_ms 101 rfl) rfl
theorem qs102 : (Cond.selects "SwapBookModel" ⟨"SwapBookModel", "isSet", "(I)Z"⟩ ⟨"SwapBookModel", "isSet", "(I)Z"⟩) ∈ lw_all := lw_g (lw_at lw_ms 102 rfl) rfl
theorem qs103 : (Cond.selects "SwapBookModel" ⟨"SwapBookModel", "lackOf", "(I)I"⟩ ⟨"SwapBookModel", "lackOf", "(I)I"⟩) ∈ lw_all := lw_g (lw_at lw_ms 103 rfl) rfl
theorem qs104 : (Cond.selects "SwapBookModel" ⟨"SwapBookModel", "whyNot", "(I)I"⟩ ⟨"SwapBookModel", "whyNot", "(I)I"⟩) ∈ lw_all := lw_g (lw_at lw_ms 104 rfl) rfl
theorem qs105 : (Cond.selects "SwapBookModel" ⟨"SwapBookModel", "listOf", "(I[I)I"⟩ ⟨"SwapBookModel", "listOf", "(I[I)I"⟩) ∈ lw_all := lw_g (lw_at lw_ms 105 rfl) rfl
theorem qs106 : (Cond.selects "SwapBookModel" ⟨"SwapBookModel", "isThere", "(II)Z"⟩ ⟨"SwapBookModel", "isThere", "(II)Z"⟩) ∈ lw_all := lw_g (lw_at lw_ms 106 rfl) rfl
theorem qs107 : (Cond.selects "SwapBookModel" ⟨"SwapBookModel", "isLeftOut", "(II)Z"⟩ ⟨"SwapBookModel", "isLeftOut", "(II)Z"⟩) ∈ lw_all := lw_g (lw_at lw_ms 107 rfl) rfl
theorem qs108 : (Cond.selects "SwapBookModel" ⟨"SwapBookModel", "quarrelers", "(II)I"⟩ ⟨"SwapBookModel", "quarrelers", "(II)I"⟩) ∈ lw_all := lw_g (lw_at lw_ms 108 rfl) rfl
theorem qs109 : (Cond.selects "SwapBookModel" ⟨"SwapBookModel", "quarrel", "(III)Z"⟩ ⟨"SwapBookModel", "quarrel", "(III)Z"⟩) ∈ lw_all := lw_g (lw_at lw_ms 109 rfl) rfl
theorem qs110 : (Cond.selects "SwapBookModel" ⟨"SwapBookModel", "isSettled", "(III)Z"⟩ ⟨"SwapBookModel", "isSettled", "(III)Z"⟩) ∈ lw_all := lw_g (lw_at lw_ms 110 rfl) rfl
theorem qs111 : (Cond.selects "SwapBookModel" ⟨"SwapBookModel", "toldBy", "(III)I"⟩ ⟨"SwapBookModel", "toldBy", "(III)I"⟩) ∈ lw_all := lw_g (lw_at lw_ms 111 rfl) rfl
theorem qs112 : (Cond.selects "SwapBookModel" ⟨"SwapBookModel", "allHang", "(II)Z"⟩ ⟨"SwapBookModel", "allHang", "(II)Z"⟩) ∈ lw_all := lw_g (lw_at lw_ms 112 rfl) rfl
theorem qs113 : (Cond.selects "SwapBookModel" ⟨"SwapBookModel", "whyNoThing", "(II)I"⟩ ⟨"SwapBookModel", "whyNoThing", "(II)I"⟩) ∈ lw_all := lw_g (lw_at lw_ms 113 rfl) rfl
theorem qs114 : (Cond.selects "SwapBookModel" ⟨"SwapBookModel", "placeIn", "(II)I"⟩ ⟨"SwapBookModel", "placeIn", "(II)I"⟩) ∈ lw_all := lw_g (lw_at lw_ms 114 rfl) rfl
theorem qs115 : (Cond.selects "SwapBookModel" ⟨"SwapBookModel", "whyNotTwo", "(II)I"⟩ ⟨"SwapBookModel", "whyNotTwo", "(II)I"⟩) ∈ lw_all := lw_g (lw_at lw_ms 115 rfl) rfl
theorem qs116 : (Cond.selects "SwapBookModel" ⟨"SwapBookModel", "quarrelsIn", "(I)I"⟩ ⟨"SwapBookModel", "quarrelsIn", "(I)I"⟩) ∈ lw_all := lw_g (lw_at lw_ms 116 rfl) rfl
theorem qs117 : (Cond.selects "SwapBookModel" ⟨"SwapBookModel", "isQuiet", "(I)Z"⟩ ⟨"SwapBookModel", "isQuiet", "(I)Z"⟩) ∈ lw_all := lw_g (lw_at lw_ms 117 rfl) rfl
theorem qs118 : (Cond.selects "SwapBookModel" ⟨"SwapBookModel", "need", "(III)V"⟩ ⟨"SwapBookModel", "need", "(III)V"⟩) ∈ lw_all := lw_g (lw_at lw_ms 118 rfl) rfl
theorem qs119 : (Cond.selects "SwapBookModel" ⟨"SwapBookModel", "countWays", "(I)V"⟩ ⟨"SwapBookModel", "countWays", "(I)V"⟩) ∈ lw_all := lw_g (lw_at lw_ms 119 rfl) rfl
theorem qs120 : (Cond.selects "SwapBookModel" ⟨"SwapBookModel", "fraction", "(JJ)Z"⟩ ⟨"SwapBookModel", "fraction", "(JJ)Z"⟩) ∈ lw_all := lw_g (lw_at lw_ms 120 rfl) rfl
theorem qs121 : (Cond.selects "SwapBookModel" ⟨"SwapBookModel", "isTray", "(I)Z"⟩ ⟨"SwapBookModel", "isTray", "(I)Z"⟩) ∈ lw_all := lw_g (lw_at lw_ms 121 rfl) rfl
theorem qs122 : (Cond.selects "SwapBookModel" ⟨"SwapBookModel", "numberOf", "(II)J"⟩ ⟨"SwapBookModel", "numberOf", "(II)J"⟩) ∈ lw_all := lw_g (lw_at lw_ms 122 rfl) rfl
theorem qs123 : (Cond.selects "SwapBookModel" ⟨"SwapBookModel", "orderSet", "()I"⟩ ⟨"SwapBookModel", "orderSet", "()I"⟩) ∈ lw_all := lw_g (lw_at lw_ms 123 rfl) rfl
theorem qs124 : (Cond.selects "SwapBookModel" ⟨"SwapBookModel", "swapped", "(I)Z"⟩ ⟨"SwapBookModel", "swapped", "(I)Z"⟩) ∈ lw_all := lw_g (lw_at lw_ms 124 rfl) rfl
theorem qs125 : (Cond.selects "SwapBookModel" ⟨"SwapBookModel", "isIsland", "(I)Z"⟩ ⟨"SwapBookModel", "isIsland", "(I)Z"⟩) ∈ lw_all := lw_g (lw_at lw_ms 125 rfl) rfl
theorem qs126 : (Cond.selects "SwapBookModel" ⟨"SwapBookModel", "readStep", "(I)V"⟩ ⟨"SwapBookModel", "readStep", "(I)V"⟩) ∈ lw_all := lw_g (lw_at lw_ms 126 rfl) rfl
theorem qs127 : (Cond.selects "SwapBookModel" ⟨"SwapBookModel", "readRest", "(I)V"⟩ ⟨"SwapBookModel", "readRest", "(I)V"⟩) ∈ lw_all := lw_g (lw_at lw_ms 127 rfl) rfl
theorem qs128 : (Cond.selects "SwapBookModel" ⟨"SwapBookModel", "readLogName", "(Z)I"⟩ ⟨"SwapBookModel", "readLogName", "(Z)I"⟩) ∈ lw_all := lw_g (lw_at lw_ms 128 rfl) rfl
theorem qs129 : (Cond.selects "SwapBookModel" ⟨"SwapBookModel", "readShip", "(I)V"⟩ ⟨"SwapBookModel", "readShip", "(I)V"⟩) ∈ lw_all := lw_g (lw_at lw_ms 129 rfl) rfl
theorem qs130 : (Cond.selects "SwapBookModel" ⟨"SwapBookModel", "readTest", "(I)V"⟩ ⟨"SwapBookModel", "readTest", "(I)V"⟩) ∈ lw_all := lw_g (lw_at lw_ms 130 rfl) rfl
theorem qs131 : (Cond.selects "SwapBookModel" ⟨"SwapBookModel", "run", "(I)V"⟩ ⟨"SwapBookModel", "run", "(I)V"⟩) ∈ lw_all := lw_g (lw_at lw_ms 131 rfl) rfl
theorem qs132 : (Cond.selects "SwapBookModel" ⟨"SwapBookModel", "doAll", "(II)V"⟩ ⟨"SwapBookModel", "doAll", "(II)V"⟩) ∈ lw_all := lw_g (lw_at lw_ms 132 rfl) rfl
theorem qs133 : (Cond.selects "SwapBookModel" ⟨"SwapBookModel", "doOne", "(I)V"⟩ ⟨"SwapBookModel", "doOne", "(I)V"⟩) ∈ lw_all := lw_g (lw_at lw_ms 133 rfl) rfl
theorem qs134 : (Cond.selects "SwapBookModel" ⟨"SwapBookModel", "doAt", "(III)V"⟩ ⟨"SwapBookModel", "doAt", "(III)V"⟩) ∈ lw_all := lw_g (lw_at lw_ms 134 rfl) rfl
theorem qs135 : (Cond.selects "SwapBookModel" ⟨"SwapBookModel", "doShip", "(I)V"⟩ ⟨"SwapBookModel", "doShip", "(I)V"⟩) ∈ lw_all := lw_g (lw_at lw_ms 135 rfl) rfl
theorem qs136 : (Cond.selects "SwapBookModel" ⟨"SwapBookModel", "comes", "(II)V"⟩ ⟨"SwapBookModel", "comes", "(II)V"⟩) ∈ lw_all := lw_g (lw_at lw_ms 136 rfl) rfl
theorem qs137 : (Cond.selects "SwapBookModel" ⟨"SwapBookModel", "load", "(III)V"⟩ ⟨"SwapBookModel", "load", "(III)V"⟩) ∈ lw_all := lw_g (lw_at lw_ms 137 rfl) rfl
theorem qs138 : (Cond.selects "SwapBookModel" ⟨"SwapBookModel", "doWait", "(I)V"⟩ ⟨"SwapBookModel", "doWait", "(I)V"⟩) ∈ lw_all := lw_g (lw_at lw_ms 138 rfl) rfl
theorem qs139 : (Cond.selects "SwapBookModel" ⟨"SwapBookModel", "takeAway", "(I)V"⟩ ⟨"SwapBookModel", "takeAway", "(I)V"⟩) ∈ lw_all := lw_g (lw_at lw_ms 139 rfl) rfl
theorem qs140 : (Cond.selects "SwapBookModel" ⟨"SwapBookModel", "doDraw", "(I)V"⟩ ⟨"SwapBookModel", "doDraw", "(I)V"⟩) ∈ lw_all := lw_g (lw_at lw_ms 140 rfl) rfl
theorem qs141 : (Cond.selects "SwapBookModel" ⟨"SwapBookModel", "draw", "()I"⟩ ⟨"SwapBookModel", "draw", "()I"⟩) ∈ lw_all := lw_g (lw_at lw_ms 141 rfl) rfl
theorem qs142 : (Cond.selects "SwapBookModel" ⟨"SwapBookModel", "isSo", "(I)Z"⟩ ⟨"SwapBookModel", "isSo", "(I)Z"⟩) ∈ lw_all := lw_g (lw_at lw_ms 142 rfl) rfl
theorem qs143 : (Cond.selects "SwapBookModel" ⟨"SwapBookModel", "copy", "(II)V"⟩ ⟨"SwapBookModel", "copy", "(II)V"⟩) ∈ lw_all := lw_g (lw_at lw_ms 143 rfl) rfl
