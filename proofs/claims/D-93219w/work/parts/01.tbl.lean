-- ===== PART A: goes FIRST, ahead of the names: the tables' words, and 'selects' of the private methods out of them =====
/-- a private method of a class that the tables say can be made, by its rows of tables_1 -/
def lw_okq (q : MethodName × Nat) : Prop := (q.1.cls ≠ "java/lang/invoke/MethodHandle" ∧ q.1.cls ≠ "java/lang/invoke/VarHandle") ∧ Cond.instantiable q.1.cls q.2 ∈ tables_1 ∧ Cond.privateMethod q.1 ∈ tables_1 ∧ Cond.instanceMethod q.1 ∈ tables_1
set_option maxRecDepth 100000
theorem lw_t1 {w : Cond} (h : w ∈ tables_1_1) : w ∈ tables_1 := List.mem_append_left _ h
theorem lw_t2 {w : Cond} (h : w ∈ tables_1_2) : w ∈ tables_1 := List.mem_append_right _ (List.mem_append_left _ h)
theorem lw_t3 {w : Cond} (h : w ∈ tables_1_3) : w ∈ tables_1 := List.mem_append_right _ (List.mem_append_right _ (List.mem_append_left _ h))
theorem lw_t4 {w : Cond} (h : w ∈ tables_1_4) : w ∈ tables_1 := List.mem_append_right _ (List.mem_append_right _ (List.mem_append_right _ (List.mem_append_left _ h)))
theorem lw_t5 {w : Cond} (h : w ∈ tables_1_5) : w ∈ tables_1 := List.mem_append_right _ (List.mem_append_right _ (List.mem_append_right _ (List.mem_append_right _ (List.mem_append_left _ h))))
theorem lw_t6 {w : Cond} (h : w ∈ tables_1_6) : w ∈ tables_1 := List.mem_append_right _ (List.mem_append_right _ (List.mem_append_right _ (List.mem_append_right _ (List.mem_append_right _ h))))
theorem lw_p0 : lw_okq (⟨"java/lang/Throwable", "fillInStackTrace", "(I)Ljava/lang/Throwable;"⟩, 6) := ⟨⟨by decide +kernel, by decide +kernel⟩, lw_t1 (List.mem_of_getElem? (i := 179) rfl), lw_t1 (List.mem_of_getElem? (i := 177) rfl), lw_t1 (List.mem_of_getElem? (i := 178) rfl)⟩
theorem lw_p1 : lw_okq (⟨"SmokeLeans", "finds", "(LSmokeLeans$Finding;)I"⟩, 13) := ⟨⟨by decide +kernel, by decide +kernel⟩, lw_t1 (List.mem_of_getElem? (i := 24) rfl), lw_t1 (List.mem_of_getElem? (i := 212) rfl), lw_t1 (List.mem_of_getElem? (i := 213) rfl)⟩
theorem lw_p2 : lw_okq (⟨"SmokeLeans", "isRoom", "(I)Z"⟩, 13) := ⟨⟨by decide +kernel, by decide +kernel⟩, lw_t1 (List.mem_of_getElem? (i := 24) rfl), lw_t1 (List.mem_of_getElem? (i := 233) rfl), lw_t1 (List.mem_of_getElem? (i := 234) rfl)⟩
theorem lw_p3 : lw_okq (⟨"SmokeLeans", "isGap", "(I)Z"⟩, 13) := ⟨⟨by decide +kernel, by decide +kernel⟩, lw_t1 (List.mem_of_getElem? (i := 24) rfl), lw_t2 (List.mem_of_getElem? (i := 118) rfl), lw_t2 (List.mem_of_getElem? (i := 119) rfl)⟩
theorem lw_p4 : lw_okq (⟨"SmokeLeans", "more", "(LSmokeLeans$Gap;II)I"⟩, 13) := ⟨⟨by decide +kernel, by decide +kernel⟩, lw_t1 (List.mem_of_getElem? (i := 24) rfl), lw_t2 (List.mem_of_getElem? (i := 153) rfl), lw_t2 (List.mem_of_getElem? (i := 154) rfl)⟩
theorem lw_p5 : lw_okq (⟨"SmokeLeans$Reader", "next", "()V"⟩, 6) := ⟨⟨by decide +kernel, by decide +kernel⟩, lw_t3 (List.mem_of_getElem? (i := 31) rfl), lw_t3 (List.mem_of_getElem? (i := 60) rfl), lw_t3 (List.mem_of_getElem? (i := 61) rfl)⟩
theorem lw_p6 : lw_okq (⟨"SmokeLeans$Reader", "isAt", "(III)Z"⟩, 6) := ⟨⟨by decide +kernel, by decide +kernel⟩, lw_t3 (List.mem_of_getElem? (i := 31) rfl), lw_t3 (List.mem_of_getElem? (i := 64) rfl), lw_t3 (List.mem_of_getElem? (i := 65) rfl)⟩
theorem lw_p7 : lw_okq (⟨"SmokeLeans$Reader", "item", "()V"⟩, 6) := ⟨⟨by decide +kernel, by decide +kernel⟩, lw_t3 (List.mem_of_getElem? (i := 31) rfl), lw_t3 (List.mem_of_getElem? (i := 69) rfl), lw_t3 (List.mem_of_getElem? (i := 70) rfl)⟩
theorem lw_p8 : lw_okq (⟨"SmokeLeans$Reader", "kindHere", "()I"⟩, 6) := ⟨⟨by decide +kernel, by decide +kernel⟩, lw_t3 (List.mem_of_getElem? (i := 31) rfl), lw_t3 (List.mem_of_getElem? (i := 73) rfl), lw_t3 (List.mem_of_getElem? (i := 74) rfl)⟩
theorem lw_p9 : lw_okq (⟨"SmokeLeans$Reader", "isWord", "(Ljava/lang/String;)Z"⟩, 6) := ⟨⟨by decide +kernel, by decide +kernel⟩, lw_t3 (List.mem_of_getElem? (i := 31) rfl), lw_t3 (List.mem_of_getElem? (i := 78) rfl), lw_t3 (List.mem_of_getElem? (i := 79) rfl)⟩
theorem lw_p10 : lw_okq (⟨"SmokeLeans$Reader", "gap", "(I)V"⟩, 6) := ⟨⟨by decide +kernel, by decide +kernel⟩, lw_t3 (List.mem_of_getElem? (i := 31) rfl), lw_t3 (List.mem_of_getElem? (i := 135) rfl), lw_t3 (List.mem_of_getElem? (i := 136) rfl)⟩
theorem lw_p11 : lw_okq (⟨"SmokeLeans$Reader", "must", "(Z)V"⟩, 6) := ⟨⟨by decide +kernel, by decide +kernel⟩, lw_t3 (List.mem_of_getElem? (i := 31) rfl), lw_t3 (List.mem_of_getElem? (i := 139) rfl), lw_t3 (List.mem_of_getElem? (i := 140) rfl)⟩
theorem lw_p12 : lw_okq (⟨"SmokeLeans$Reader", "number", "(II)I"⟩, 6) := ⟨⟨by decide +kernel, by decide +kernel⟩, lw_t3 (List.mem_of_getElem? (i := 31) rfl), lw_t3 (List.mem_of_getElem? (i := 162) rfl), lw_t3 (List.mem_of_getElem? (i := 163) rfl)⟩
theorem lw_p13 : lw_okq (⟨"SmokeLeans$Reader", "other", "(I)I"⟩, 6) := ⟨⟨by decide +kernel, by decide +kernel⟩, lw_t3 (List.mem_of_getElem? (i := 31) rfl), lw_t3 (List.mem_of_getElem? (i := 166) rfl), lw_t3 (List.mem_of_getElem? (i := 167) rfl)⟩
theorem lw_p14 : lw_okq (⟨"SmokeLeans$Reader", "takes", "(Ljava/lang/String;)Z"⟩, 6) := ⟨⟨by decide +kernel, by decide +kernel⟩, lw_t3 (List.mem_of_getElem? (i := 31) rfl), lw_t3 (List.mem_of_getElem? (i := 171) rfl), lw_t3 (List.mem_of_getElem? (i := 172) rfl)⟩
theorem lw_p15 : lw_okq (⟨"SmokeLeans$House", "finds", "()V"⟩, 10) := ⟨⟨by decide +kernel, by decide +kernel⟩, lw_t1 (List.mem_of_getElem? (i := 32) rfl), lw_t3 (List.mem_of_getElem? (i := 191) rfl), lw_t3 (List.mem_of_getElem? (i := 192) rfl)⟩
def lw_privs_1 : List (MethodName × Nat) := [(⟨"java/lang/Throwable", "fillInStackTrace", "(I)Ljava/lang/Throwable;"⟩, 6), (⟨"SmokeLeans", "finds", "(LSmokeLeans$Finding;)I"⟩, 13), (⟨"SmokeLeans", "isRoom", "(I)Z"⟩, 13), (⟨"SmokeLeans", "isGap", "(I)Z"⟩, 13), (⟨"SmokeLeans", "more", "(LSmokeLeans$Gap;II)I"⟩, 13), (⟨"SmokeLeans$Reader", "next", "()V"⟩, 6), (⟨"SmokeLeans$Reader", "isAt", "(III)Z"⟩, 6), (⟨"SmokeLeans$Reader", "item", "()V"⟩, 6), (⟨"SmokeLeans$Reader", "kindHere", "()I"⟩, 6), (⟨"SmokeLeans$Reader", "isWord", "(Ljava/lang/String;)Z"⟩, 6), (⟨"SmokeLeans$Reader", "gap", "(I)V"⟩, 6), (⟨"SmokeLeans$Reader", "must", "(Z)V"⟩, 6), (⟨"SmokeLeans$Reader", "number", "(II)I"⟩, 6), (⟨"SmokeLeans$Reader", "other", "(I)I"⟩, 6), (⟨"SmokeLeans$Reader", "takes", "(Ljava/lang/String;)Z"⟩, 6), (⟨"SmokeLeans$House", "finds", "()V"⟩, 10)]
theorem lw_r1 : ∀ q ∈ lw_privs_1, lw_okq q := List.forall_mem_cons.mpr ⟨lw_p0, List.forall_mem_cons.mpr ⟨lw_p1, List.forall_mem_cons.mpr ⟨lw_p2, List.forall_mem_cons.mpr ⟨lw_p3, List.forall_mem_cons.mpr ⟨lw_p4, List.forall_mem_cons.mpr ⟨lw_p5, List.forall_mem_cons.mpr ⟨lw_p6, List.forall_mem_cons.mpr ⟨lw_p7, List.forall_mem_cons.mpr ⟨lw_p8, List.forall_mem_cons.mpr ⟨lw_p9, List.forall_mem_cons.mpr ⟨lw_p10, List.forall_mem_cons.mpr ⟨lw_p11, List.forall_mem_cons.mpr ⟨lw_p12, List.forall_mem_cons.mpr ⟨lw_p13, List.forall_mem_cons.mpr ⟨lw_p14, List.forall_mem_cons.mpr ⟨lw_p15, fun _ h => absurd h List.not_mem_nil⟩⟩⟩⟩⟩⟩⟩⟩⟩⟩⟩⟩⟩⟩⟩⟩
theorem lw_p16 : lw_okq (⟨"SmokeLeans$House", "round", "()Z"⟩, 10) := ⟨⟨by decide +kernel, by decide +kernel⟩, lw_t1 (List.mem_of_getElem? (i := 32) rfl), lw_t3 (List.mem_of_getElem? (i := 195) rfl), lw_t3 (List.mem_of_getElem? (i := 196) rfl)⟩
theorem lw_p17 : lw_okq (⟨"SmokeLeans$House", "pressed", "(I)I"⟩, 10) := ⟨⟨by decide +kernel, by decide +kernel⟩, lw_t1 (List.mem_of_getElem? (i := 32) rfl), lw_t3 (List.mem_of_getElem? (i := 199) rfl), lw_t3 (List.mem_of_getElem? (i := 200) rfl)⟩
theorem lw_p18 : lw_okq (⟨"SmokeLeans$House", "pushes", "(LSmokeLeans$Gap;I[I)I"⟩, 10) := ⟨⟨by decide +kernel, by decide +kernel⟩, lw_t1 (List.mem_of_getElem? (i := 32) rfl), lw_t3 (List.mem_of_getElem? (i := 203) rfl), lw_t3 (List.mem_of_getElem? (i := 204) rfl)⟩
theorem lw_p19 : lw_okq (⟨"SmokeLeans", "there", "(I)Ljava/lang/Object;"⟩, 13) := ⟨⟨by decide +kernel, by decide +kernel⟩, lw_t1 (List.mem_of_getElem? (i := 24) rfl), lw_t4 (List.mem_of_getElem? (i := 54) rfl), lw_t4 (List.mem_of_getElem? (i := 55) rfl)⟩
theorem lw_p20 : lw_okq (⟨"SmokeLeans", "isOpenSet", "(I)Z"⟩, 13) := ⟨⟨by decide +kernel, by decide +kernel⟩, lw_t1 (List.mem_of_getElem? (i := 24) rfl), lw_t4 (List.mem_of_getElem? (i := 86) rfl), lw_t4 (List.mem_of_getElem? (i := 87) rfl)⟩
theorem lw_p21 : lw_okq (⟨"SmokeLeans", "stops", "(III)V"⟩, 13) := ⟨⟨by decide +kernel, by decide +kernel⟩, lw_t1 (List.mem_of_getElem? (i := 24) rfl), lw_t4 (List.mem_of_getElem? (i := 101) rfl), lw_t4 (List.mem_of_getElem? (i := 102) rfl)⟩
theorem lw_p22 : lw_okq (⟨"SmokeLeans", "costs", "(I)I"⟩, 13) := ⟨⟨by decide +kernel, by decide +kernel⟩, lw_t1 (List.mem_of_getElem? (i := 24) rfl), lw_t4 (List.mem_of_getElem? (i := 105) rfl), lw_t4 (List.mem_of_getElem? (i := 106) rfl)⟩
theorem lw_p23 : lw_okq (⟨"SmokeLeans", "shutAll", "(IZ)V"⟩, 13) := ⟨⟨by decide +kernel, by decide +kernel⟩, lw_t1 (List.mem_of_getElem? (i := 24) rfl), lw_t4 (List.mem_of_getElem? (i := 109) rfl), lw_t4 (List.mem_of_getElem? (i := 110) rfl)⟩
theorem lw_p24 : lw_okq (⟨"SmokeLeans", "steps", "(I)I"⟩, 13) := ⟨⟨by decide +kernel, by decide +kernel⟩, lw_t1 (List.mem_of_getElem? (i := 24) rfl), lw_t4 (List.mem_of_getElem? (i := 118) rfl), lw_t4 (List.mem_of_getElem? (i := 119) rfl)⟩
theorem lw_p25 : lw_okq (⟨"SmokeLeans", "pays", "()I"⟩, 13) := ⟨⟨by decide +kernel, by decide +kernel⟩, lw_t1 (List.mem_of_getElem? (i := 24) rfl), lw_t4 (List.mem_of_getElem? (i := 122) rfl), lw_t4 (List.mem_of_getElem? (i := 123) rfl)⟩
theorem lw_p26 : lw_okq (⟨"SmokeLeans", "numberAt", "(II)Ljava/lang/Object;"⟩, 13) := ⟨⟨by decide +kernel, by decide +kernel⟩, lw_t1 (List.mem_of_getElem? (i := 24) rfl), lw_t4 (List.mem_of_getElem? (i := 171) rfl), lw_t4 (List.mem_of_getElem? (i := 172) rfl)⟩
theorem lw_p27 : lw_okq (⟨"SmokeLeans", "sum", "(I)I"⟩, 13) := ⟨⟨by decide +kernel, by decide +kernel⟩, lw_t1 (List.mem_of_getElem? (i := 24) rfl), lw_t4 (List.mem_of_getElem? (i := 199) rfl), lw_t4 (List.mem_of_getElem? (i := 200) rfl)⟩
theorem lw_p28 : lw_okq (⟨"SmokeLeansModel", "finds", "(I)I"⟩, 23) := ⟨⟨by decide +kernel, by decide +kernel⟩, lw_t4 (List.mem_of_getElem? (i := 209) rfl), lw_t5 (List.mem_of_getElem? (i := 50) rfl), lw_t5 (List.mem_of_getElem? (i := 51) rfl)⟩
theorem lw_p29 : lw_okq (⟨"SmokeLeansModel", "newRoom", "()I"⟩, 23) := ⟨⟨by decide +kernel, by decide +kernel⟩, lw_t4 (List.mem_of_getElem? (i := 209) rfl), lw_t5 (List.mem_of_getElem? (i := 55) rfl), lw_t5 (List.mem_of_getElem? (i := 56) rfl)⟩
theorem lw_p30 : lw_okq (⟨"SmokeLeansModel", "isRoom", "(I)Z"⟩, 23) := ⟨⟨by decide +kernel, by decide +kernel⟩, lw_t4 (List.mem_of_getElem? (i := 209) rfl), lw_t5 (List.mem_of_getElem? (i := 67) rfl), lw_t5 (List.mem_of_getElem? (i := 68) rfl)⟩
theorem lw_p31 : lw_okq (⟨"SmokeLeansModel", "newGap", "(IIIIIII)I"⟩, 23) := ⟨⟨by decide +kernel, by decide +kernel⟩, lw_t4 (List.mem_of_getElem? (i := 209) rfl), lw_t5 (List.mem_of_getElem? (i := 72) rfl), lw_t5 (List.mem_of_getElem? (i := 73) rfl)⟩
def lw_privs_2 : List (MethodName × Nat) := [(⟨"SmokeLeans$House", "round", "()Z"⟩, 10), (⟨"SmokeLeans$House", "pressed", "(I)I"⟩, 10), (⟨"SmokeLeans$House", "pushes", "(LSmokeLeans$Gap;I[I)I"⟩, 10), (⟨"SmokeLeans", "there", "(I)Ljava/lang/Object;"⟩, 13), (⟨"SmokeLeans", "isOpenSet", "(I)Z"⟩, 13), (⟨"SmokeLeans", "stops", "(III)V"⟩, 13), (⟨"SmokeLeans", "costs", "(I)I"⟩, 13), (⟨"SmokeLeans", "shutAll", "(IZ)V"⟩, 13), (⟨"SmokeLeans", "steps", "(I)I"⟩, 13), (⟨"SmokeLeans", "pays", "()I"⟩, 13), (⟨"SmokeLeans", "numberAt", "(II)Ljava/lang/Object;"⟩, 13), (⟨"SmokeLeans", "sum", "(I)I"⟩, 13), (⟨"SmokeLeansModel", "finds", "(I)I"⟩, 23), (⟨"SmokeLeansModel", "newRoom", "()I"⟩, 23), (⟨"SmokeLeansModel", "isRoom", "(I)Z"⟩, 23), (⟨"SmokeLeansModel", "newGap", "(IIIIIII)I"⟩, 23)]
theorem lw_r2 : ∀ q ∈ lw_privs_2, lw_okq q := List.forall_mem_cons.mpr ⟨lw_p16, List.forall_mem_cons.mpr ⟨lw_p17, List.forall_mem_cons.mpr ⟨lw_p18, List.forall_mem_cons.mpr ⟨lw_p19, List.forall_mem_cons.mpr ⟨lw_p20, List.forall_mem_cons.mpr ⟨lw_p21, List.forall_mem_cons.mpr ⟨lw_p22, List.forall_mem_cons.mpr ⟨lw_p23, List.forall_mem_cons.mpr ⟨lw_p24, List.forall_mem_cons.mpr ⟨lw_p25, List.forall_mem_cons.mpr ⟨lw_p26, List.forall_mem_cons.mpr ⟨lw_p27, List.forall_mem_cons.mpr ⟨lw_p28, List.forall_mem_cons.mpr ⟨lw_p29, List.forall_mem_cons.mpr ⟨lw_p30, List.forall_mem_cons.mpr ⟨lw_p31, fun _ h => absurd h List.not_mem_nil⟩⟩⟩⟩⟩⟩⟩⟩⟩⟩⟩⟩⟩⟩⟩⟩
theorem lw_p32 : lw_okq (⟨"SmokeLeansModel", "isGap", "(I)Z"⟩, 23) := ⟨⟨by decide +kernel, by decide +kernel⟩, lw_t4 (List.mem_of_getElem? (i := 209) rfl), lw_t5 (List.mem_of_getElem? (i := 80) rfl), lw_t5 (List.mem_of_getElem? (i := 81) rfl)⟩
theorem lw_p33 : lw_okq (⟨"SmokeLeansModel", "has", "(II)I"⟩, 23) := ⟨⟨by decide +kernel, by decide +kernel⟩, lw_t4 (List.mem_of_getElem? (i := 209) rfl), lw_t5 (List.mem_of_getElem? (i := 85) rfl), lw_t5 (List.mem_of_getElem? (i := 86) rfl)⟩
theorem lw_p34 : lw_okq (⟨"SmokeLeansModel", "breadth", "(I)I"⟩, 23) := ⟨⟨by decide +kernel, by decide +kernel⟩, lw_t4 (List.mem_of_getElem? (i := 209) rfl), lw_t5 (List.mem_of_getElem? (i := 89) rfl), lw_t5 (List.mem_of_getElem? (i := 90) rfl)⟩
theorem lw_p35 : lw_okq (⟨"SmokeLeansModel", "push", "(I)I"⟩, 23) := ⟨⟨by decide +kernel, by decide +kernel⟩, lw_t4 (List.mem_of_getElem? (i := 209) rfl), lw_t5 (List.mem_of_getElem? (i := 93) rfl), lw_t5 (List.mem_of_getElem? (i := 94) rfl)⟩
theorem lw_p36 : lw_okq (⟨"SmokeLeansModel", "isNeeded", "(I)Z"⟩, 23) := ⟨⟨by decide +kernel, by decide +kernel⟩, lw_t4 (List.mem_of_getElem? (i := 209) rfl), lw_t5 (List.mem_of_getElem? (i := 110) rfl), lw_t5 (List.mem_of_getElem? (i := 111) rfl)⟩
theorem lw_p37 : lw_okq (⟨"SmokeLeansModel", "puts", "()V"⟩, 23) := ⟨⟨by decide +kernel, by decide +kernel⟩, lw_t4 (List.mem_of_getElem? (i := 209) rfl), lw_t5 (List.mem_of_getElem? (i := 138) rfl), lw_t5 (List.mem_of_getElem? (i := 139) rfl)⟩
theorem lw_p38 : lw_okq (⟨"SmokeLeansModel", "next", "()V"⟩, 23) := ⟨⟨by decide +kernel, by decide +kernel⟩, lw_t4 (List.mem_of_getElem? (i := 209) rfl), lw_t5 (List.mem_of_getElem? (i := 142) rfl), lw_t5 (List.mem_of_getElem? (i := 143) rfl)⟩
theorem lw_p39 : lw_okq (⟨"SmokeLeansModel", "byteAt", "(I)I"⟩, 23) := ⟨⟨by decide +kernel, by decide +kernel⟩, lw_t4 (List.mem_of_getElem? (i := 209) rfl), lw_t5 (List.mem_of_getElem? (i := 146) rfl), lw_t5 (List.mem_of_getElem? (i := 147) rfl)⟩
theorem lw_p40 : lw_okq (⟨"SmokeLeansModel", "item", "()V"⟩, 23) := ⟨⟨by decide +kernel, by decide +kernel⟩, lw_t4 (List.mem_of_getElem? (i := 209) rfl), lw_t5 (List.mem_of_getElem? (i := 160) rfl), lw_t5 (List.mem_of_getElem? (i := 161) rfl)⟩
theorem lw_p41 : lw_okq (⟨"SmokeLeansModel", "kindHere", "()I"⟩, 23) := ⟨⟨by decide +kernel, by decide +kernel⟩, lw_t4 (List.mem_of_getElem? (i := 209) rfl), lw_t5 (List.mem_of_getElem? (i := 164) rfl), lw_t5 (List.mem_of_getElem? (i := 165) rfl)⟩
theorem lw_p42 : lw_okq (⟨"SmokeLeansModel", "isWord", "(IIIIIII)Z"⟩, 23) := ⟨⟨by decide +kernel, by decide +kernel⟩, lw_t4 (List.mem_of_getElem? (i := 209) rfl), lw_t5 (List.mem_of_getElem? (i := 168) rfl), lw_t5 (List.mem_of_getElem? (i := 169) rfl)⟩
theorem lw_p43 : lw_okq (⟨"SmokeLeansModel", "isAt", "(II)Z"⟩, 23) := ⟨⟨by decide +kernel, by decide +kernel⟩, lw_t4 (List.mem_of_getElem? (i := 209) rfl), lw_t5 (List.mem_of_getElem? (i := 172) rfl), lw_t5 (List.mem_of_getElem? (i := 173) rfl)⟩
theorem lw_p44 : lw_okq (⟨"SmokeLeansModel", "gapItem", "(I)V"⟩, 23) := ⟨⟨by decide +kernel, by decide +kernel⟩, lw_t4 (List.mem_of_getElem? (i := 209) rfl), lw_t5 (List.mem_of_getElem? (i := 176) rfl), lw_t5 (List.mem_of_getElem? (i := 177) rfl)⟩
theorem lw_p45 : lw_okq (⟨"SmokeLeansModel", "needs", "(Z)V"⟩, 23) := ⟨⟨by decide +kernel, by decide +kernel⟩, lw_t4 (List.mem_of_getElem? (i := 209) rfl), lw_t5 (List.mem_of_getElem? (i := 180) rfl), lw_t5 (List.mem_of_getElem? (i := 181) rfl)⟩
theorem lw_p46 : lw_okq (⟨"SmokeLeansModel", "number", "(II)V"⟩, 23) := ⟨⟨by decide +kernel, by decide +kernel⟩, lw_t4 (List.mem_of_getElem? (i := 209) rfl), lw_t5 (List.mem_of_getElem? (i := 184) rfl), lw_t5 (List.mem_of_getElem? (i := 185) rfl)⟩
theorem lw_p47 : lw_okq (⟨"SmokeLeansModel", "sameNumber", "(I)Z"⟩, 23) := ⟨⟨by decide +kernel, by decide +kernel⟩, lw_t4 (List.mem_of_getElem? (i := 209) rfl), lw_t5 (List.mem_of_getElem? (i := 188) rfl), lw_t5 (List.mem_of_getElem? (i := 189) rfl)⟩
def lw_privs_3 : List (MethodName × Nat) := [(⟨"SmokeLeansModel", "isGap", "(I)Z"⟩, 23), (⟨"SmokeLeansModel", "has", "(II)I"⟩, 23), (⟨"SmokeLeansModel", "breadth", "(I)I"⟩, 23), (⟨"SmokeLeansModel", "push", "(I)I"⟩, 23), (⟨"SmokeLeansModel", "isNeeded", "(I)Z"⟩, 23), (⟨"SmokeLeansModel", "puts", "()V"⟩, 23), (⟨"SmokeLeansModel", "next", "()V"⟩, 23), (⟨"SmokeLeansModel", "byteAt", "(I)I"⟩, 23), (⟨"SmokeLeansModel", "item", "()V"⟩, 23), (⟨"SmokeLeansModel", "kindHere", "()I"⟩, 23), (⟨"SmokeLeansModel", "isWord", "(IIIIIII)Z"⟩, 23), (⟨"SmokeLeansModel", "isAt", "(II)Z"⟩, 23), (⟨"SmokeLeansModel", "gapItem", "(I)V"⟩, 23), (⟨"SmokeLeansModel", "needs", "(Z)V"⟩, 23), (⟨"SmokeLeansModel", "number", "(II)V"⟩, 23), (⟨"SmokeLeansModel", "sameNumber", "(I)Z"⟩, 23)]
theorem lw_r3 : ∀ q ∈ lw_privs_3, lw_okq q := List.forall_mem_cons.mpr ⟨lw_p32, List.forall_mem_cons.mpr ⟨lw_p33, List.forall_mem_cons.mpr ⟨lw_p34, List.forall_mem_cons.mpr ⟨lw_p35, List.forall_mem_cons.mpr ⟨lw_p36, List.forall_mem_cons.mpr ⟨lw_p37, List.forall_mem_cons.mpr ⟨lw_p38, List.forall_mem_cons.mpr ⟨lw_p39, List.forall_mem_cons.mpr ⟨lw_p40, List.forall_mem_cons.mpr ⟨lw_p41, List.forall_mem_cons.mpr ⟨lw_p42, List.forall_mem_cons.mpr ⟨lw_p43, List.forall_mem_cons.mpr ⟨lw_p44, List.forall_mem_cons.mpr ⟨lw_p45, List.forall_mem_cons.mpr ⟨lw_p46, List.forall_mem_cons.mpr ⟨lw_p47, fun _ h => absurd h List.not_mem_nil⟩⟩⟩⟩⟩⟩⟩⟩⟩⟩⟩⟩⟩⟩⟩⟩
theorem lw_p48 : lw_okq (⟨"SmokeLeansModel", "perhaps", "(ZI)I"⟩, 23) := ⟨⟨by decide +kernel, by decide +kernel⟩, lw_t4 (List.mem_of_getElem? (i := 209) rfl), lw_t5 (List.mem_of_getElem? (i := 192) rfl), lw_t5 (List.mem_of_getElem? (i := 193) rfl)⟩
theorem lw_p49 : lw_okq (⟨"SmokeLeansModel", "nightItem", "()V"⟩, 23) := ⟨⟨by decide +kernel, by decide +kernel⟩, lw_t4 (List.mem_of_getElem? (i := 209) rfl), lw_t5 (List.mem_of_getElem? (i := 196) rfl), lw_t5 (List.mem_of_getElem? (i := 197) rfl)⟩
theorem lw_p50 : lw_okq (⟨"SmokeLeansModel", "putsBack", "()V"⟩, 23) := ⟨⟨by decide +kernel, by decide +kernel⟩, lw_t4 (List.mem_of_getElem? (i := 209) rfl), lw_t5 (List.mem_of_getElem? (i := 200) rfl), lw_t5 (List.mem_of_getElem? (i := 201) rfl)⟩
theorem lw_p51 : lw_okq (⟨"SmokeLeansModel", "rests", "()V"⟩, 23) := ⟨⟨by decide +kernel, by decide +kernel⟩, lw_t4 (List.mem_of_getElem? (i := 209) rfl), lw_t5 (List.mem_of_getElem? (i := 208) rfl), lw_t5 (List.mem_of_getElem? (i := 209) rfl)⟩
theorem lw_p52 : lw_okq (⟨"SmokeLeansModel", "round", "()Z"⟩, 23) := ⟨⟨by decide +kernel, by decide +kernel⟩, lw_t4 (List.mem_of_getElem? (i := 209) rfl), lw_t5 (List.mem_of_getElem? (i := 212) rfl), lw_t5 (List.mem_of_getElem? (i := 213) rfl)⟩
theorem lw_p53 : lw_okq (⟨"SmokeLeansModel", "asked", "(I)I"⟩, 23) := ⟨⟨by decide +kernel, by decide +kernel⟩, lw_t4 (List.mem_of_getElem? (i := 209) rfl), lw_t5 (List.mem_of_getElem? (i := 216) rfl), lw_t5 (List.mem_of_getElem? (i := 217) rfl)⟩
theorem lw_p54 : lw_okq (⟨"SmokeLeansModel", "flowOf", "(I)I"⟩, 23) := ⟨⟨by decide +kernel, by decide +kernel⟩, lw_t4 (List.mem_of_getElem? (i := 209) rfl), lw_t5 (List.mem_of_getElem? (i := 224) rfl), lw_t5 (List.mem_of_getElem? (i := 225) rfl)⟩
theorem lw_p55 : lw_okq (⟨"SmokeLeansModel", "leanOf", "(I)I"⟩, 23) := ⟨⟨by decide +kernel, by decide +kernel⟩, lw_t4 (List.mem_of_getElem? (i := 209) rfl), lw_t5 (List.mem_of_getElem? (i := 232) rfl), lw_t5 (List.mem_of_getElem? (i := 233) rfl)⟩
theorem lw_p56 : lw_okq (⟨"SmokeLeansModel", "fresh", "()I"⟩, 23) := ⟨⟨by decide +kernel, by decide +kernel⟩, lw_t4 (List.mem_of_getElem? (i := 209) rfl), lw_t6 (List.mem_of_getElem? (i := 12) rfl), lw_t6 (List.mem_of_getElem? (i := 13) rfl)⟩
theorem lw_p57 : lw_okq (⟨"SmokeLeansModel", "lost", "()I"⟩, 23) := ⟨⟨by decide +kernel, by decide +kernel⟩, lw_t4 (List.mem_of_getElem? (i := 209) rfl), lw_t6 (List.mem_of_getElem? (i := 16) rfl), lw_t6 (List.mem_of_getElem? (i := 17) rfl)⟩
theorem lw_p58 : lw_okq (⟨"SmokeLeansModel", "smokes", "()Z"⟩, 23) := ⟨⟨by decide +kernel, by decide +kernel⟩, lw_t4 (List.mem_of_getElem? (i := 209) rfl), lw_t6 (List.mem_of_getElem? (i := 20) rfl), lw_t6 (List.mem_of_getElem? (i := 21) rfl)⟩
theorem lw_p59 : lw_okq (⟨"SmokeLeansModel", "seen", "(I)I"⟩, 23) := ⟨⟨by decide +kernel, by decide +kernel⟩, lw_t4 (List.mem_of_getElem? (i := 209) rfl), lw_t6 (List.mem_of_getElem? (i := 32) rfl), lw_t6 (List.mem_of_getElem? (i := 33) rfl)⟩
theorem lw_p60 : lw_okq (⟨"SmokeLeansModel", "isStopping", "(I)Z"⟩, 23) := ⟨⟨by decide +kernel, by decide +kernel⟩, lw_t4 (List.mem_of_getElem? (i := 209) rfl), lw_t6 (List.mem_of_getElem? (i := 52) rfl), lw_t6 (List.mem_of_getElem? (i := 53) rfl)⟩
theorem lw_p61 : lw_okq (⟨"SmokeLeansModel", "costs", "(I)I"⟩, 23) := ⟨⟨by decide +kernel, by decide +kernel⟩, lw_t4 (List.mem_of_getElem? (i := 209) rfl), lw_t6 (List.mem_of_getElem? (i := 61) rfl), lw_t6 (List.mem_of_getElem? (i := 62) rfl)⟩
theorem lw_p62 : lw_okq (⟨"SmokeLeansModel", "shuts", "(II)V"⟩, 23) := ⟨⟨by decide +kernel, by decide +kernel⟩, lw_t4 (List.mem_of_getElem? (i := 209) rfl), lw_t6 (List.mem_of_getElem? (i := 65) rfl), lw_t6 (List.mem_of_getElem? (i := 66) rfl)⟩
theorem lw_p63 : lw_okq (⟨"SmokeLeansModel", "findOrder", "()V"⟩, 23) := ⟨⟨by decide +kernel, by decide +kernel⟩, lw_t4 (List.mem_of_getElem? (i := 209) rfl), lw_t6 (List.mem_of_getElem? (i := 74) rfl), lw_t6 (List.mem_of_getElem? (i := 75) rfl)⟩
def lw_privs_4 : List (MethodName × Nat) := [(⟨"SmokeLeansModel", "perhaps", "(ZI)I"⟩, 23), (⟨"SmokeLeansModel", "nightItem", "()V"⟩, 23), (⟨"SmokeLeansModel", "putsBack", "()V"⟩, 23), (⟨"SmokeLeansModel", "rests", "()V"⟩, 23), (⟨"SmokeLeansModel", "round", "()Z"⟩, 23), (⟨"SmokeLeansModel", "asked", "(I)I"⟩, 23), (⟨"SmokeLeansModel", "flowOf", "(I)I"⟩, 23), (⟨"SmokeLeansModel", "leanOf", "(I)I"⟩, 23), (⟨"SmokeLeansModel", "fresh", "()I"⟩, 23), (⟨"SmokeLeansModel", "lost", "()I"⟩, 23), (⟨"SmokeLeansModel", "smokes", "()Z"⟩, 23), (⟨"SmokeLeansModel", "seen", "(I)I"⟩, 23), (⟨"SmokeLeansModel", "isStopping", "(I)Z"⟩, 23), (⟨"SmokeLeansModel", "costs", "(I)I"⟩, 23), (⟨"SmokeLeansModel", "shuts", "(II)V"⟩, 23), (⟨"SmokeLeansModel", "findOrder", "()V"⟩, 23)]
theorem lw_r4 : ∀ q ∈ lw_privs_4, lw_okq q := List.forall_mem_cons.mpr ⟨lw_p48, List.forall_mem_cons.mpr ⟨lw_p49, List.forall_mem_cons.mpr ⟨lw_p50, List.forall_mem_cons.mpr ⟨lw_p51, List.forall_mem_cons.mpr ⟨lw_p52, List.forall_mem_cons.mpr ⟨lw_p53, List.forall_mem_cons.mpr ⟨lw_p54, List.forall_mem_cons.mpr ⟨lw_p55, List.forall_mem_cons.mpr ⟨lw_p56, List.forall_mem_cons.mpr ⟨lw_p57, List.forall_mem_cons.mpr ⟨lw_p58, List.forall_mem_cons.mpr ⟨lw_p59, List.forall_mem_cons.mpr ⟨lw_p60, List.forall_mem_cons.mpr ⟨lw_p61, List.forall_mem_cons.mpr ⟨lw_p62, List.forall_mem_cons.mpr ⟨lw_p63, fun _ h => absurd h List.not_mem_nil⟩⟩⟩⟩⟩⟩⟩⟩⟩⟩⟩⟩⟩⟩⟩⟩
theorem lw_p64 : lw_okq (⟨"SmokeLeansModel", "nextShut", "(I)I"⟩, 23) := ⟨⟨by decide +kernel, by decide +kernel⟩, lw_t4 (List.mem_of_getElem? (i := 209) rfl), lw_t6 (List.mem_of_getElem? (i := 78) rfl), lw_t6 (List.mem_of_getElem? (i := 79) rfl)⟩
theorem lw_p65 : lw_okq (⟨"SmokeLeansModel", "wrong", "(I)I"⟩, 23) := ⟨⟨by decide +kernel, by decide +kernel⟩, lw_t4 (List.mem_of_getElem? (i := 209) rfl), lw_t6 (List.mem_of_getElem? (i := 115) rfl), lw_t6 (List.mem_of_getElem? (i := 116) rfl)⟩
def lw_privs_5 : List (MethodName × Nat) := [(⟨"SmokeLeansModel", "nextShut", "(I)I"⟩, 23), (⟨"SmokeLeansModel", "wrong", "(I)I"⟩, 23)]
theorem lw_r5 : ∀ q ∈ lw_privs_5, lw_okq q := List.forall_mem_cons.mpr ⟨lw_p64, List.forall_mem_cons.mpr ⟨lw_p65, fun _ h => absurd h List.not_mem_nil⟩⟩
def lw_privs : List (MethodName × Nat) := lw_privs_1 ++ (lw_privs_2 ++ (lw_privs_3 ++ (lw_privs_4 ++ (lw_privs_5))))
def lw_tbl : List Cond := k2_sels lw_privs ++ tables_1
theorem lw_privs_ok : ∀ q ∈ lw_privs, lw_okq q := by
  show ∀ q ∈ lw_privs_1 ++ (lw_privs_2 ++ (lw_privs_3 ++ (lw_privs_4 ++ (lw_privs_5)))), lw_okq q
  exact List.forall_mem_append.mpr ⟨lw_r1, List.forall_mem_append.mpr ⟨lw_r2, List.forall_mem_append.mpr ⟨lw_r3, List.forall_mem_append.mpr ⟨lw_r4, lw_r5⟩⟩⟩⟩
-- ===== ONE list of words for every method: the tables' words that hold all through a run =====
def lw_all : List Cond := lw_tbl.filter goodWord
/-- a word of the tables by its place: claim/WORDS.tsv -/
theorem lw_w {w : Cond} (i : Nat) (h : lw_tbl[i]? = some w) (g : goodWord w = true) : w ∈ lw_all := List.mem_filter.mpr ⟨List.mem_of_getElem? h, g⟩
theorem lw_all_tbl {w : Cond} (h : w ∈ lw_all) : w ∈ lw_tbl := (List.mem_filter.mp h).1
theorem lw_self : GoodIn lw_all lw_all := fun w h => ⟨h, good_of_word (List.mem_filter.mp h).2⟩
/-- a class's field words, by their places -/
theorem lw_in (ws : List Cond) (ps : List Nat) (hp : ws = ps.filterMap (fun i => lw_tbl[i]?)) (hg : ws.all goodWord = true) : ∀ w ∈ ws, w ∈ lw_all := by
  intro w h
  have h1 := List.all_eq_true.mp hg w h
  rw [hp] at h
  obtain ⟨i, -, hi⟩ := List.mem_filterMap.mp h
  exact lw_w i hi h1
/-- the words of a contract for the method y with code b, L locals, answer r -/
abbrev ws_ (y : MethodName) (b : ByteArray) (L : Nat) (r : Option FieldType) : List Cond := Cond.code y b L r :: lw_all
theorem lw_meth {y : MethodName} {b : ByteArray} {L : Nat} {r : Option FieldType} (h : Cond.code y b L r ∈ lw_all) : GoodIn lw_all (ws_ y b L r) := by
  intro w hw
  rcases List.mem_cons.mp hw with e | e
  · rw [e]
    exact lw_self _ h
  · exact lw_self _ e
theorem lw_app {a c : List Cond} (ha : ∀ w ∈ a, w ∈ lw_all) (hc : GoodIn lw_all c) : GoodIn lw_all (a ++ c) := by
  intro w hw
  rcases List.mem_append.mp hw with e | e
  · exact lw_self w (ha w e)
  · exact hc w e
/-- what a call through an object asks: cwV n hts (lw_V ..) -/
theorem lw_V {own : String} {idx : Nat} {C : String} {y : MethodName} {b : ByteArray} {L : Nat} {r : Option FieldType} (h1 : Cond.methodLink own idx y ∈ lw_all) (h2 : Cond.instanceMethod y ∈ lw_all) (h3 : Cond.selects C y y ∈ lw_all) (h4 : Cond.initialized C ∈ lw_all) (h5 : Cond.code y b L r ∈ lw_all) : GoodIn lw_all (wsV own idx C y (ws_ y b L r)) := by
  refine lw_app ?_ (lw_meth h5)
  intro w hw
  simp only [List.mem_cons, List.not_mem_nil, or_false] at hw
  rcases hw with e | e | e | e
  · rw [e]; exact h1
  · rw [e]; exact h2
  · rw [e]; exact h3
  · rw [e]; exact h4
/-- what a static call asks: va_cwS n hts (lw_S ..) -/
theorem lw_S {own : String} {idx : Nat} {y : MethodName} {b : ByteArray} {L : Nat} {r : Option FieldType} (h1 : Cond.methodLink own idx y ∈ lw_all) (h2 : Cond.static y ∈ lw_all) (h3 : Cond.initialized y.cls ∈ lw_all) (h4 : Cond.code y b L r ∈ lw_all) : GoodIn lw_all (va_wsS own idx y (ws_ y b L r)) := by
  refine lw_app ?_ (lw_meth h4)
  intro w hw
  simp only [List.mem_cons, List.not_mem_nil, or_false] at hw
  rcases hw with e | e | e
  · rw [e]; exact h1
  · rw [e]; exact h2
  · rw [e]; exact h3
/-- the words of a contract for a method WITH HANDLERS (hh: its table) -/
abbrev wsW_ (y : MethodName) (b : ByteArray) (L : Nat) (r : Option FieldType) (hh : List (Nat × Nat × Nat × Nat)) : List Cond := Cond.codeWith y b L r hh :: lw_all
theorem lw_methW {y : MethodName} {b : ByteArray} {L : Nat} {r : Option FieldType} {hh : List (Nat × Nat × Nat × Nat)} (h : Cond.codeWith y b L r hh ∈ lw_all) : GoodIn lw_all (wsW_ y b L r hh) := by
  intro w hw
  rcases List.mem_cons.mp hw with e | e
  · rw [e]
    exact lw_self _ h
  · exact lw_self _ e
/-- any list of words by their places (lw_in), good -/
theorem lw_good {ws : List Cond} (h : ∀ w ∈ ws, w ∈ lw_all) : GoodIn lw_all ws := fun w hw => lw_self w (h w hw)
/-- what a call of a method with handlers asks: vx_cwVW n hts (lw_VW ..), vx_cwSW n hts (lw_SW ..) -/
theorem lw_VW {own : String} {idx : Nat} {C : String} {y : MethodName} {b : ByteArray} {L : Nat} {r : Option FieldType} {hh : List (Nat × Nat × Nat × Nat)} (h1 : Cond.methodLink own idx y ∈ lw_all) (h2 : Cond.instanceMethod y ∈ lw_all) (h3 : Cond.selects C y y ∈ lw_all) (h4 : Cond.initialized C ∈ lw_all) (h5 : Cond.codeWith y b L r hh ∈ lw_all) : GoodIn lw_all (wsV own idx C y (wsW_ y b L r hh)) := by
  refine lw_app ?_ (lw_methW h5)
  intro w hw
  simp only [List.mem_cons, List.not_mem_nil, or_false] at hw
  rcases hw with e | e | e | e
  · rw [e]; exact h1
  · rw [e]; exact h2
  · rw [e]; exact h3
  · rw [e]; exact h4
theorem lw_SW {own : String} {idx : Nat} {y : MethodName} {b : ByteArray} {L : Nat} {r : Option FieldType} {hh : List (Nat × Nat × Nat × Nat)} (h1 : Cond.methodLink own idx y ∈ lw_all) (h2 : Cond.static y ∈ lw_all) (h3 : Cond.initialized y.cls ∈ lw_all) (h4 : Cond.codeWith y b L r hh ∈ lw_all) : GoodIn lw_all (va_wsS own idx y (wsW_ y b L r hh)) := by
  refine lw_app ?_ (lw_methW h4)
  intro w hw
  simp only [List.mem_cons, List.not_mem_nil, or_false] at hw
  rcases hw with e | e | e
  · rw [e]; exact h1
  · rw [e]; exact h2
  · rw [e]; exact h3
/-- a word by its place in its run of the tables -/
theorem lw_at {r : List Cond} (hr : ∀ w ∈ r, w ∈ lw_tbl) {w : Cond} (i : Nat) (h : r[i]? = some w) : w ∈ lw_tbl := hr w (List.mem_of_getElem? h)
theorem lw_g {w : Cond} (h : w ∈ lw_tbl) (g : goodWord w = true) : w ∈ lw_all := List.mem_filter.mpr ⟨h, g⟩
theorem lw_ms : ∀ w ∈ k2_sels lw_privs, w ∈ lw_tbl := fun w h => show w ∈ k2_sels lw_privs ++ tables_1 from List.mem_append_left _ h
theorem lw_m1 : ∀ w ∈ tables_1_1, w ∈ lw_tbl := fun w h => show w ∈ k2_sels lw_privs ++ tables_1 from List.mem_append_right (k2_sels lw_privs) (show w ∈ tables_1 from List.mem_append_left _ h)
theorem lw_m2 : ∀ w ∈ tables_1_2, w ∈ lw_tbl := fun w h => show w ∈ k2_sels lw_privs ++ tables_1 from List.mem_append_right (k2_sels lw_privs) (show w ∈ tables_1 from List.mem_append_right _ (List.mem_append_left _ h))
theorem lw_m3 : ∀ w ∈ tables_1_3, w ∈ lw_tbl := fun w h => show w ∈ k2_sels lw_privs ++ tables_1 from List.mem_append_right (k2_sels lw_privs) (show w ∈ tables_1 from List.mem_append_right _ (List.mem_append_right _ (List.mem_append_left _ h)))
theorem lw_m4 : ∀ w ∈ tables_1_4, w ∈ lw_tbl := fun w h => show w ∈ k2_sels lw_privs ++ tables_1 from List.mem_append_right (k2_sels lw_privs) (show w ∈ tables_1 from List.mem_append_right _ (List.mem_append_right _ (List.mem_append_right _ (List.mem_append_left _ h))))
theorem lw_m5 : ∀ w ∈ tables_1_5, w ∈ lw_tbl := fun w h => show w ∈ k2_sels lw_privs ++ tables_1 from List.mem_append_right (k2_sels lw_privs) (show w ∈ tables_1 from List.mem_append_right _ (List.mem_append_right _ (List.mem_append_right _ (List.mem_append_right _ (List.mem_append_left _ h)))))
theorem lw_m6 : ∀ w ∈ tables_1_6, w ∈ lw_tbl := fun w h => show w ∈ k2_sels lw_privs ++ tables_1 from List.mem_append_right (k2_sels lw_privs) (show w ∈ tables_1 from List.mem_append_right _ (List.mem_append_right _ (List.mem_append_right _ (List.mem_append_right _ (List.mem_append_right _ h)))))
theorem qs0 : (Cond.selects "java/lang/Throwable" ⟨"java/lang/Throwable", "fillInStackTrace", "(I)Ljava/lang/Throwable;"⟩ ⟨"java/lang/Throwable", "fillInStackTrace", "(I)Ljava/lang/Throwable;"⟩) ∈ lw_all := lw_g (lw_at lw_ms 0 rfl) rfl
theorem qs1 : (Cond.selects "SmokeLeans" ⟨"SmokeLeans", "finds", "(LSmokeLeans$Finding;)I"⟩ ⟨"SmokeLeans", "finds", "(LSmokeLeans$Finding;)I"⟩) ∈ lw_all := lw_g (lw_at lw_ms 1 rfl) rfl
theorem qs2 : (Cond.selects "SmokeLeans" ⟨"SmokeLeans", "isRoom", "(I)Z"⟩ ⟨"SmokeLeans", "isRoom", "(I)Z"⟩) ∈ lw_all := lw_g (lw_at lw_ms 2 rfl) rfl
theorem qs3 : (Cond.selects "SmokeLeans" ⟨"SmokeLeans", "isGap", "(I)Z"⟩ ⟨"SmokeLeans", "isGap", "(I)Z"⟩) ∈ lw_all := lw_g (lw_at lw_ms 3 rfl) rfl
theorem qs4 : (Cond.selects "SmokeLeans" ⟨"SmokeLeans", "more", "(LSmokeLeans$Gap;II)I"⟩ ⟨"SmokeLeans", "more", "(LSmokeLeans$Gap;II)I"⟩) ∈ lw_all := lw_g (lw_at lw_ms 4 rfl) rfl
theorem qs5 : (Cond.selects "SmokeLeans$Reader" ⟨"SmokeLeans$Reader", "next", "()V"⟩ ⟨"SmokeLeans$Reader", "next", "()V"⟩) ∈ lw_all := lw_g (lw_at lw_ms 5 rfl) rfl
theorem qs6 : (Cond.selects "SmokeLeans$Reader" ⟨"SmokeLeans$Reader", "isAt", "(III)Z"⟩ ⟨"SmokeLeans$Reader", "isAt", "(III)Z"⟩) ∈ lw_all := lw_g (lw_at lw_ms 6 rfl) rfl
theorem qs7 : (Cond.selects "SmokeLeans$Reader" ⟨"SmokeLeans$Reader", "item", "()V"⟩ ⟨"SmokeLeans$Reader", "item", "()V"⟩) ∈ lw_all := lw_g (lw_at lw_ms 7 rfl) rfl
theorem qs8 : (Cond.selects "SmokeLeans$Reader" ⟨"SmokeLeans$Reader", "kindHere", "()I"⟩ ⟨"SmokeLeans$Reader", "kindHere", "()I"⟩) ∈ lw_all := lw_g (lw_at lw_ms 8 rfl) rfl
theorem qs9 : (Cond.selects "SmokeLeans$Reader" ⟨"SmokeLeans$Reader", "isWord", "(Ljava/lang/String;)Z"⟩ ⟨"SmokeLeans$Reader", "isWord", "(Ljava/lang/String;)Z"⟩) ∈ lw_all := lw_g (lw_at lw_ms 9 rfl) rfl
theorem qs10 : (Cond.selects "SmokeLeans$Reader" ⟨"SmokeLeans$Reader", "gap", "(I)V"⟩ ⟨"SmokeLeans$Reader", "gap", "(I)V"⟩) ∈ lw_all := lw_g (lw_at lw_ms 10 rfl) rfl
theorem qs11 : (Cond.selects "SmokeLeans$Reader" ⟨"SmokeLeans$Reader", "must", "(Z)V"⟩ ⟨"SmokeLeans$Reader", "must", "(Z)V"⟩) ∈ lw_all := lw_g (lw_at lw_ms 11 rfl) rfl
theorem qs12 : (Cond.selects "SmokeLeans$Reader" ⟨"SmokeLeans$Reader", "number", "(II)I"⟩ ⟨"SmokeLeans$Reader", "number", "(II)I"⟩) ∈ lw_all := lw_g (lw_at lw_ms 12 rfl) rfl
theorem qs13 : (Cond.selects "SmokeLeans$Reader" ⟨"SmokeLeans$Reader", "other", "(I)I"⟩ ⟨"SmokeLeans$Reader", "other", "(I)I"⟩) ∈ lw_all := lw_g (lw_at lw_ms 13 rfl) rfl
theorem qs14 : (Cond.selects "SmokeLeans$Reader" ⟨"SmokeLeans$Reader", "takes", "(Ljava/lang/String;)Z"⟩ ⟨"SmokeLeans$Reader", "takes", "(Ljava/lang/String;)Z"⟩) ∈ lw_all := lw_g (lw_at lw_ms 14 rfl) rfl
theorem qs15 : (Cond.selects "SmokeLeans$House" ⟨"SmokeLeans$House", "finds", "()V"⟩ ⟨"SmokeLeans$House", "finds", "()V"⟩) ∈ lw_all := lw_g (lw_at lw_ms 15 rfl) rfl
theorem qs16 : (Cond.selects "SmokeLeans$House" ⟨"SmokeLeans$House", "round", "()Z"⟩ ⟨"SmokeLeans$House", "round", "()Z"⟩) ∈ lw_all := lw_g (lw_at lw_ms 16 rfl) rfl
theorem qs17 : (Cond.selects "SmokeLeans$House" ⟨"SmokeLeans$House", "pressed", "(I)I"⟩ ⟨"SmokeLeans$House", "pressed", "(I)I"⟩) ∈ lw_all := lw_g (lw_at lw_ms 17 rfl) rfl
theorem qs18 : (Cond.selects "SmokeLeans$House" ⟨"SmokeLeans$House", "pushes", "(LSmokeLeans$Gap;I[I)I"⟩ ⟨"SmokeLeans$House", "pushes", "(LSmokeLeans$Gap;I[I)I"⟩) ∈ lw_all := lw_g (lw_at lw_ms 18 rfl) rfl
theorem qs19 : (Cond.selects "SmokeLeans" ⟨"SmokeLeans", "there", "(I)Ljava/lang/Object;"⟩ ⟨"SmokeLeans", "there", "(I)Ljava/lang/Object;"⟩) ∈ lw_all := lw_g (lw_at lw_ms 19 rfl) rfl
theorem qs20 : (Cond.selects "SmokeLeans" ⟨"SmokeLeans", "isOpenSet", "(I)Z"⟩ ⟨"SmokeLeans", "isOpenSet", "(I)Z"⟩) ∈ lw_all := lw_g (lw_at lw_ms 20 rfl) rfl
theorem qs21 : (Cond.selects "SmokeLeans" ⟨"SmokeLeans", "stops", "(III)V"⟩ ⟨"SmokeLeans", "stops", "(III)V"⟩) ∈ lw_all := lw_g (lw_at lw_ms 21 rfl) rfl
theorem qs22 : (Cond.selects "SmokeLeans" ⟨"SmokeLeans", "costs", "(I)I"⟩ ⟨"SmokeLeans", "costs", "(I)I"⟩) ∈ lw_all := lw_g (lw_at lw_ms 22 rfl) rfl
theorem qs23 : (Cond.selects "SmokeLeans" ⟨"SmokeLeans", "shutAll", "(IZ)V"⟩ ⟨"SmokeLeans", "shutAll", "(IZ)V"⟩) ∈ lw_all := lw_g (lw_at lw_ms 23 rfl) rfl
theorem qs24 : (Cond.selects "SmokeLeans" ⟨"SmokeLeans", "steps", "(I)I"⟩ ⟨"SmokeLeans", "steps", "(I)I"⟩) ∈ lw_all := lw_g (lw_at lw_ms 24 rfl) rfl
theorem qs25 : (Cond.selects "SmokeLeans" ⟨"SmokeLeans", "pays", "()I"⟩ ⟨"SmokeLeans", "pays", "()I"⟩) ∈ lw_all := lw_g (lw_at lw_ms 25 rfl) rfl
theorem qs26 : (Cond.selects "SmokeLeans" ⟨"SmokeLeans", "numberAt", "(II)Ljava/lang/Object;"⟩ ⟨"SmokeLeans", "numberAt", "(II)Ljava/lang/Object;"⟩) ∈ lw_all := lw_g (lw_at lw_ms 26 rfl) rfl
theorem qs27 : (Cond.selects "SmokeLeans" ⟨"SmokeLeans", "sum", "(I)I"⟩ ⟨"SmokeLeans", "sum", "(I)I"⟩) ∈ lw_all := lw_g (lw_at lw_ms 27 rfl) rfl
theorem qs28 : (Cond.selects "SmokeLeansModel" ⟨"SmokeLeansModel", "finds", "(I)I"⟩ ⟨"SmokeLeansModel", "finds", "(I)I"⟩) ∈ lw_all := lw_g (lw_at lw_ms 28 rfl) rfl
theorem qs29 : (Cond.selects "SmokeLeansModel" ⟨"SmokeLeansModel", "newRoom", "()I"⟩ ⟨"SmokeLeansModel", "newRoom", "()I"⟩) ∈ lw_all := lw_g (lw_at lw_ms 29 rfl) rfl
theorem qs30 : (Cond.selects "SmokeLeansModel" ⟨"SmokeLeansModel", "isRoom", "(I)Z"⟩ ⟨"SmokeLeansModel", "isRoom", "(I)Z"⟩) ∈ lw_all := lw_g (lw_at lw_ms 30 rfl) rfl
theorem qs31 : (Cond.selects "SmokeLeansModel" ⟨"SmokeLeansModel", "newGap", "(IIIIIII)I"⟩ ⟨"SmokeLeansModel", "newGap", "(IIIIIII)I"⟩) ∈ lw_all := lw_g (lw_at lw_ms 31 rfl) rfl
theorem qs32 : (Cond.selects "SmokeLeansModel" ⟨"SmokeLeansModel", "isGap", "(I)Z"⟩ ⟨"SmokeLeansModel", "isGap", "(I)Z"⟩) ∈ lw_all := lw_g (lw_at lw_ms 32 rfl) rfl
theorem qs33 : (Cond.selects "SmokeLeansModel" ⟨"SmokeLeansModel", "has", "(II)I"⟩ ⟨"SmokeLeansModel", "has", "(II)I"⟩) ∈ lw_all := lw_g (lw_at lw_ms 33 rfl) rfl
theorem qs34 : (Cond.selects "SmokeLeansModel" ⟨"SmokeLeansModel", "breadth", "(I)I"⟩ ⟨"SmokeLeansModel", "breadth", "(I)I"⟩) ∈ lw_all := lw_g (lw_at lw_ms 34 rfl) rfl
theorem qs35 : (Cond.selects "SmokeLeansModel" ⟨"SmokeLeansModel", "push", "(I)I"⟩ ⟨"SmokeLeansModel", "push", "(I)I"⟩) ∈ lw_all := lw_g (lw_at lw_ms 35 rfl) rfl
theorem qs36 : (Cond.selects "SmokeLeansModel" ⟨"SmokeLeansModel", "isNeeded", "(I)Z"⟩ ⟨"SmokeLeansModel", "isNeeded", "(I)Z"⟩) ∈ lw_all := lw_g (lw_at lw_ms 36 rfl) rfl
theorem qs37 : (Cond.selects "SmokeLeansModel" ⟨"SmokeLeansModel", "puts", "()V"⟩ ⟨"SmokeLeansModel", "puts", "()V"⟩) ∈ lw_all := lw_g (lw_at lw_ms 37 rfl) rfl
theorem qs38 : (Cond.selects "SmokeLeansModel" ⟨"SmokeLeansModel", "next", "()V"⟩ ⟨"SmokeLeansModel", "next", "()V"⟩) ∈ lw_all := lw_g (lw_at lw_ms 38 rfl) rfl
theorem qs39 : (Cond.selects "SmokeLeansModel" ⟨"SmokeLeansModel", "byteAt", "(I)I"⟩ ⟨"SmokeLeansModel", "byteAt", "(I)I"⟩) ∈ lw_all := lw_g (lw_at lw_ms 39 rfl) rfl
theorem qs40 : (Cond.selects "SmokeLeansModel" ⟨"SmokeLeansModel", "item", "()V"⟩ ⟨"SmokeLeansModel", "item", "()V"⟩) ∈ lw_all := lw_g (lw_at lw_ms 40 rfl) rfl
theorem qs41 : (Cond.selects "SmokeLeansModel" ⟨"SmokeLeansModel", "kindHere", "()I"⟩ ⟨"SmokeLeansModel", "kindHere", "()I"⟩) ∈ lw_all := lw_g (lw_at lw_ms 41 rfl) rfl
theorem qs42 : (Cond.selects "SmokeLeansModel" ⟨"SmokeLeansModel", "isWord", "(IIIIIII)Z"⟩ ⟨"SmokeLeansModel", "isWord", "(IIIIIII)Z"⟩) ∈ lw_all := lw_g (lw_at lw_ms 42 rfl) rfl
theorem qs43 : (Cond.selects "SmokeLeansModel" ⟨"SmokeLeansModel", "isAt", "(II)Z"⟩ ⟨"SmokeLeansModel", "isAt", "(II)Z"⟩) ∈ lw_all := lw_g (lw_at lw_ms 43 rfl) rfl
theorem qs44 : (Cond.selects "SmokeLeansModel" ⟨"SmokeLeansModel", "gapItem", "(I)V"⟩ ⟨"SmokeLeansModel", "gapItem", "(I)V"⟩) ∈ lw_all := lw_g (lw_at lw_ms 44 rfl) rfl
theorem qs45 : (Cond.selects "SmokeLeansModel" ⟨"SmokeLeansModel", "needs", "(Z)V"⟩ ⟨"SmokeLeansModel", "needs", "(Z)V"⟩) ∈ lw_all := lw_g (lw_at lw_ms 45 rfl) rfl
theorem qs46 : (Cond.selects "SmokeLeansModel" ⟨"SmokeLeansModel", "number", "(II)V"⟩ ⟨"SmokeLeansModel", "number", "(II)V"⟩) ∈ lw_all := lw_g (lw_at lw_ms 46 rfl) rfl
theorem qs47 : (Cond.selects "SmokeLeansModel" ⟨"SmokeLeansModel", "sameNumber", "(I)Z"⟩ ⟨"SmokeLeansModel", "sameNumber", "(I)Z"⟩) ∈ lw_all := lw_g (lw_at lw_ms 47 rfl) rfl
theorem qs48 : (Cond.selects "SmokeLeansModel" ⟨"SmokeLeansModel", "perhaps", "(ZI)I"⟩ ⟨"SmokeLeansModel", "perhaps", "(ZI)I"⟩) ∈ lw_all := lw_g (lw_at lw_ms 48 rfl) rfl
theorem qs49 : (Cond.selects "SmokeLeansModel" ⟨"SmokeLeansModel", "nightItem", "()V"⟩ ⟨"SmokeLeansModel", "nightItem", "()V"⟩) ∈ lw_all := lw_g (lw_at lw_ms 49 rfl) rfl
theorem qs50 : (Cond.selects "SmokeLeansModel" ⟨"SmokeLeansModel", "putsBack", "()V"⟩ ⟨"SmokeLeansModel", "putsBack", "()V"⟩) ∈ lw_all := lw_g (lw_at lw_ms 50 rfl) rfl
theorem qs51 : (Cond.selects "SmokeLeansModel" ⟨"SmokeLeansModel", "rests", "()V"⟩ ⟨"SmokeLeansModel", "rests", "()V"⟩) ∈ lw_all := lw_g (lw_at lw_ms 51 rfl) rfl
theorem qs52 : (Cond.selects "SmokeLeansModel" ⟨"SmokeLeansModel", "round", "()Z"⟩ ⟨"SmokeLeansModel", "round", "()Z"⟩) ∈ lw_all := lw_g (lw_at lw_ms 52 rfl) rfl
theorem qs53 : (Cond.selects "SmokeLeansModel" ⟨"SmokeLeansModel", "asked", "(I)I"⟩ ⟨"SmokeLeansModel", "asked", "(I)I"⟩) ∈ lw_all := lw_g (lw_at lw_ms 53 rfl) rfl
theorem qs54 : (Cond.selects "SmokeLeansModel" ⟨"SmokeLeansModel", "flowOf", "(I)I"⟩ ⟨"SmokeLeansModel", "flowOf", "(I)I"⟩) ∈ lw_all := lw_g (lw_at lw_ms 54 rfl) rfl
theorem qs55 : (Cond.selects "SmokeLeansModel" ⟨"SmokeLeansModel", "leanOf", "(I)I"⟩ ⟨"SmokeLeansModel", "leanOf", "(I)I"⟩) ∈ lw_all := lw_g (lw_at lw_ms 55 rfl) rfl
theorem qs56 : (Cond.selects "SmokeLeansModel" ⟨"SmokeLeansModel", "fresh", "()I"⟩ ⟨"SmokeLeansModel", "fresh", "()I"⟩) ∈ lw_all := lw_g (lw_at lw_ms 56 rfl) rfl
theorem qs57 : (Cond.selects "SmokeLeansModel" ⟨"SmokeLeansModel", "lost", "()I"⟩ ⟨"SmokeLeansModel", "lost", "()I"⟩) ∈ lw_all := lw_g (lw_at lw_ms 57 rfl) rfl
theorem qs58 : (Cond.selects "SmokeLeansModel" ⟨"SmokeLeansModel", "smokes", "()Z"⟩ ⟨"SmokeLeansModel", "smokes", "()Z"⟩) ∈ lw_all := lw_g (lw_at lw_ms 58 rfl) rfl
theorem qs59 : (Cond.selects "SmokeLeansModel" ⟨"SmokeLeansModel", "seen", "(I)I"⟩ ⟨"SmokeLeansModel", "seen", "(I)I"⟩) ∈ lw_all := lw_g (lw_at lw_ms 59 rfl) rfl
theorem qs60 : (Cond.selects "SmokeLeansModel" ⟨"SmokeLeansModel", "isStopping", "(I)Z"⟩ ⟨"SmokeLeansModel", "isStopping", "(I)Z"⟩) ∈ lw_all := lw_g (lw_at lw_ms 60 rfl) rfl
theorem qs61 : (Cond.selects "SmokeLeansModel" ⟨"SmokeLeansModel", "costs", "(I)I"⟩ ⟨"SmokeLeansModel", "costs", "(I)I"⟩) ∈ lw_all := lw_g (lw_at lw_ms 61 rfl) rfl
theorem qs62 : (Cond.selects "SmokeLeansModel" ⟨"SmokeLeansModel", "shuts", "(II)V"⟩ ⟨"SmokeLeansModel", "shuts", "(II)V"⟩) ∈ lw_all := lw_g (lw_at lw_ms 62 rfl) rfl
theorem qs63 : (Cond.selects "SmokeLeansModel" ⟨"SmokeLeansModel", "findOrder", "()V"⟩ ⟨"SmokeLeansModel", "findOrder", "()V"⟩) ∈ lw_all := lw_g (lw_at lw_ms 63 rfl) rfl
theorem qs64 : (Cond.selects "SmokeLeansModel" ⟨"SmokeLeansModel", "nextShut", "(I)I"⟩ ⟨"SmokeLeansModel", "nextShut", "(I)I"⟩) ∈ lw_all := lw_g (lw_at lw_ms 64 rfl) rfl
theorem qs65 : (Cond.selects "SmokeLeansModel" ⟨"SmokeLeansModel", "wrong", "(I)I"⟩ ⟨"SmokeLeansModel", "wrong", "(I)I"⟩) ∈ lw_all := lw_g (lw_at lw_ms 65 rfl) rfl
