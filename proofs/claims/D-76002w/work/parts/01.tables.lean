/-- a private method of a class that the tables say can be made, by its rows of tables_1 -/
def lw_okq (q : MethodName × Nat) : Prop := (q.1.cls ≠ "java/lang/invoke/MethodHandle" ∧ q.1.cls ≠ "java/lang/invoke/VarHandle") ∧ Cond.instantiable q.1.cls q.2 ∈ tables_1 ∧ Cond.privateMethod q.1 ∈ tables_1 ∧ Cond.instanceMethod q.1 ∈ tables_1
set_option maxRecDepth 100000
theorem lw_t1 {w : Cond} (h : w ∈ tables_1_1) : w ∈ tables_1 := List.mem_append_left _ h
theorem lw_t2 {w : Cond} (h : w ∈ tables_1_2) : w ∈ tables_1 := List.mem_append_right _ (List.mem_append_left _ h)
theorem lw_t3 {w : Cond} (h : w ∈ tables_1_3) : w ∈ tables_1 := List.mem_append_right _ (List.mem_append_right _ (List.mem_append_left _ h))
theorem lw_t4 {w : Cond} (h : w ∈ tables_1_4) : w ∈ tables_1 := List.mem_append_right _ (List.mem_append_right _ (List.mem_append_right _ (List.mem_append_left _ h)))
theorem lw_t5 {w : Cond} (h : w ∈ tables_1_5) : w ∈ tables_1 := List.mem_append_right _ (List.mem_append_right _ (List.mem_append_right _ (List.mem_append_right _ (List.mem_append_left _ h))))
theorem lw_t6 {w : Cond} (h : w ∈ tables_1_6) : w ∈ tables_1 := List.mem_append_right _ (List.mem_append_right _ (List.mem_append_right _ (List.mem_append_right _ (List.mem_append_right _ (List.mem_append_left _ h)))))
theorem lw_t7 {w : Cond} (h : w ∈ tables_1_7) : w ∈ tables_1 := List.mem_append_right _ (List.mem_append_right _ (List.mem_append_right _ (List.mem_append_right _ (List.mem_append_right _ (List.mem_append_right _ (List.mem_append_left _ h))))))
theorem lw_t8 {w : Cond} (h : w ∈ tables_1_8) : w ∈ tables_1 := List.mem_append_right _ (List.mem_append_right _ (List.mem_append_right _ (List.mem_append_right _ (List.mem_append_right _ (List.mem_append_right _ (List.mem_append_right _ h))))))
theorem lw_p0 : lw_okq (⟨"java/lang/Throwable", "fillInStackTrace", "(I)Ljava/lang/Throwable;"⟩, 6) := ⟨⟨by decide +kernel, by decide +kernel⟩, lw_t1 (List.mem_of_getElem? (i := 72) rfl), lw_t1 (List.mem_of_getElem? (i := 70) rfl), lw_t1 (List.mem_of_getElem? (i := 71) rfl)⟩
theorem lw_p1 : lw_okq (⟨"OwlEars", "made", "(II)LOwlEars$Strike;"⟩, 13) := ⟨⟨by decide +kernel, by decide +kernel⟩, lw_t1 (List.mem_of_getElem? (i := 27) rfl), lw_t1 (List.mem_of_getElem? (i := 221) rfl), lw_t1 (List.mem_of_getElem? (i := 222) rfl)⟩
theorem lw_p2 : lw_okq (⟨"OwlEars", "finding", "(I)I"⟩, 13) := ⟨⟨by decide +kernel, by decide +kernel⟩, lw_t1 (List.mem_of_getElem? (i := 27) rfl), lw_t2 (List.mem_of_getElem? (i := 126) rfl), lw_t2 (List.mem_of_getElem? (i := 127) rfl)⟩
theorem lw_p3 : lw_okq (⟨"OwlEars", "isOfMouse", "(II)Z"⟩, 13) := ⟨⟨by decide +kernel, by decide +kernel⟩, lw_t1 (List.mem_of_getElem? (i := 27) rfl), lw_t2 (List.mem_of_getElem? (i := 160) rfl), lw_t2 (List.mem_of_getElem? (i := 161) rfl)⟩
theorem lw_p4 : lw_okq (⟨"OwlEars", "isStrike", "(I)Z"⟩, 13) := ⟨⟨by decide +kernel, by decide +kernel⟩, lw_t1 (List.mem_of_getElem? (i := 27) rfl), lw_t2 (List.mem_of_getElem? (i := 192) rfl), lw_t2 (List.mem_of_getElem? (i := 193) rfl)⟩
theorem lw_p5 : lw_okq (⟨"OwlEars", "strikeOf", "(I)LOwlEars$Strike;"⟩, 13) := ⟨⟨by decide +kernel, by decide +kernel⟩, lw_t1 (List.mem_of_getElem? (i := 27) rfl), lw_t2 (List.mem_of_getElem? (i := 196) rfl), lw_t2 (List.mem_of_getElem? (i := 197) rfl)⟩
theorem lw_p6 : lw_okq (⟨"OwlEars", "takesOf", "(I)I"⟩, 13) := ⟨⟨by decide +kernel, by decide +kernel⟩, lw_t1 (List.mem_of_getElem? (i := 27) rfl), lw_t2 (List.mem_of_getElem? (i := 229) rfl), lw_t2 (List.mem_of_getElem? (i := 230) rfl)⟩
theorem lw_p7 : lw_okq (⟨"OwlEars", "hasIt", "(I)Z"⟩, 13) := ⟨⟨by decide +kernel, by decide +kernel⟩, lw_t1 (List.mem_of_getElem? (i := 27) rfl), lw_t3 (List.mem_of_getElem? (i := 110) rfl), lw_t3 (List.mem_of_getElem? (i := 111) rfl)⟩
theorem lw_p8 : lw_okq (⟨"OwlEars", "passes", "(I)V"⟩, 13) := ⟨⟨by decide +kernel, by decide +kernel⟩, lw_t1 (List.mem_of_getElem? (i := 27) rfl), lw_t3 (List.mem_of_getElem? (i := 124) rfl), lw_t3 (List.mem_of_getElem? (i := 125) rfl)⟩
theorem lw_p9 : lw_okq (⟨"OwlEars", "hits", "(I)Z"⟩, 13) := ⟨⟨by decide +kernel, by decide +kernel⟩, lw_t1 (List.mem_of_getElem? (i := 27) rfl), lw_t3 (List.mem_of_getElem? (i := 135) rfl), lw_t3 (List.mem_of_getElem? (i := 136) rfl)⟩
theorem lw_p10 : lw_okq (⟨"OwlEars", "isMade", "(I)I"⟩, 13) := ⟨⟨by decide +kernel, by decide +kernel⟩, lw_t1 (List.mem_of_getElem? (i := 27) rfl), lw_t3 (List.mem_of_getElem? (i := 201) rfl), lw_t3 (List.mem_of_getElem? (i := 202) rfl)⟩
theorem lw_p11 : lw_okq (⟨"OwlEars", "goesOn", "(I)I"⟩, 13) := ⟨⟨by decide +kernel, by decide +kernel⟩, lw_t1 (List.mem_of_getElem? (i := 27) rfl), lw_t3 (List.mem_of_getElem? (i := 212) rfl), lw_t3 (List.mem_of_getElem? (i := 213) rfl)⟩
theorem lw_p12 : lw_okq (⟨"OwlEars$World", "isAhead", "()Z"⟩, 9) := ⟨⟨by decide +kernel, by decide +kernel⟩, lw_t1 (List.mem_of_getElem? (i := 124) rfl), lw_t3 (List.mem_of_getElem? (i := 225) rfl), lw_t3 (List.mem_of_getElem? (i := 226) rfl)⟩
theorem lw_p13 : lw_okq (⟨"OwlEars", "havingIt", "()I"⟩, 13) := ⟨⟨by decide +kernel, by decide +kernel⟩, lw_t1 (List.mem_of_getElem? (i := 27) rfl), lw_t4 (List.mem_of_getElem? (i := 0) rfl), lw_t4 (List.mem_of_getElem? (i := 1) rfl)⟩
theorem lw_p14 : lw_okq (⟨"OwlEars", "cellBehind", "(I)I"⟩, 13) := ⟨⟨by decide +kernel, by decide +kernel⟩, lw_t1 (List.mem_of_getElem? (i := 27) rfl), lw_t4 (List.mem_of_getElem? (i := 22) rfl), lw_t4 (List.mem_of_getElem? (i := 23) rfl)⟩
theorem lw_p15 : lw_okq (⟨"OwlEars", "heardIn", "(I)I"⟩, 13) := ⟨⟨by decide +kernel, by decide +kernel⟩, lw_t1 (List.mem_of_getElem? (i := 27) rfl), lw_t4 (List.mem_of_getElem? (i := 30) rfl), lw_t4 (List.mem_of_getElem? (i := 31) rfl)⟩
def lw_privs_1 : List (MethodName × Nat) := [(⟨"java/lang/Throwable", "fillInStackTrace", "(I)Ljava/lang/Throwable;"⟩, 6), (⟨"OwlEars", "made", "(II)LOwlEars$Strike;"⟩, 13), (⟨"OwlEars", "finding", "(I)I"⟩, 13), (⟨"OwlEars", "isOfMouse", "(II)Z"⟩, 13), (⟨"OwlEars", "isStrike", "(I)Z"⟩, 13), (⟨"OwlEars", "strikeOf", "(I)LOwlEars$Strike;"⟩, 13), (⟨"OwlEars", "takesOf", "(I)I"⟩, 13), (⟨"OwlEars", "hasIt", "(I)Z"⟩, 13), (⟨"OwlEars", "passes", "(I)V"⟩, 13), (⟨"OwlEars", "hits", "(I)Z"⟩, 13), (⟨"OwlEars", "isMade", "(I)I"⟩, 13), (⟨"OwlEars", "goesOn", "(I)I"⟩, 13), (⟨"OwlEars$World", "isAhead", "()Z"⟩, 9), (⟨"OwlEars", "havingIt", "()I"⟩, 13), (⟨"OwlEars", "cellBehind", "(I)I"⟩, 13), (⟨"OwlEars", "heardIn", "(I)I"⟩, 13)]
theorem lw_r1 : ∀ q ∈ lw_privs_1, lw_okq q := List.forall_mem_cons.mpr ⟨lw_p0, List.forall_mem_cons.mpr ⟨lw_p1, List.forall_mem_cons.mpr ⟨lw_p2, List.forall_mem_cons.mpr ⟨lw_p3, List.forall_mem_cons.mpr ⟨lw_p4, List.forall_mem_cons.mpr ⟨lw_p5, List.forall_mem_cons.mpr ⟨lw_p6, List.forall_mem_cons.mpr ⟨lw_p7, List.forall_mem_cons.mpr ⟨lw_p8, List.forall_mem_cons.mpr ⟨lw_p9, List.forall_mem_cons.mpr ⟨lw_p10, List.forall_mem_cons.mpr ⟨lw_p11, List.forall_mem_cons.mpr ⟨lw_p12, List.forall_mem_cons.mpr ⟨lw_p13, List.forall_mem_cons.mpr ⟨lw_p14, List.forall_mem_cons.mpr ⟨lw_p15, fun _ h => absurd h List.not_mem_nil⟩⟩⟩⟩⟩⟩⟩⟩⟩⟩⟩⟩⟩⟩⟩⟩
theorem lw_p16 : lw_okq (⟨"OwlEars", "ticksTill", "(I)I"⟩, 13) := ⟨⟨by decide +kernel, by decide +kernel⟩, lw_t1 (List.mem_of_getElem? (i := 27) rfl), lw_t4 (List.mem_of_getElem? (i := 38) rfl), lw_t4 (List.mem_of_getElem? (i := 39) rfl)⟩
theorem lw_p17 : lw_okq (⟨"OwlEars", "orNone", "(I)I"⟩, 13) := ⟨⟨by decide +kernel, by decide +kernel⟩, lw_t1 (List.mem_of_getElem? (i := 27) rfl), lw_t4 (List.mem_of_getElem? (i := 42) rfl), lw_t4 (List.mem_of_getElem? (i := 43) rfl)⟩
theorem lw_p18 : lw_okq (⟨"OwlEars", "cellsIn", "(I)J"⟩, 13) := ⟨⟨by decide +kernel, by decide +kernel⟩, lw_t1 (List.mem_of_getElem? (i := 27) rfl), lw_t4 (List.mem_of_getElem? (i := 54) rfl), lw_t4 (List.mem_of_getElem? (i := 55) rfl)⟩
theorem lw_p19 : lw_okq (⟨"OwlEars", "soonestFor", "(I)I"⟩, 13) := ⟨⟨by decide +kernel, by decide +kernel⟩, lw_t1 (List.mem_of_getElem? (i := 27) rfl), lw_t4 (List.mem_of_getElem? (i := 62) rfl), lw_t4 (List.mem_of_getElem? (i := 63) rfl)⟩
theorem lw_p20 : lw_okq (⟨"OwlEars", "chancesOf", "(II)I"⟩, 13) := ⟨⟨by decide +kernel, by decide +kernel⟩, lw_t1 (List.mem_of_getElem? (i := 27) rfl), lw_t4 (List.mem_of_getElem? (i := 70) rfl), lw_t4 (List.mem_of_getElem? (i := 71) rfl)⟩
theorem lw_p21 : lw_okq (⟨"OwlEars", "allThatHave", "(III)J"⟩, 13) := ⟨⟨by decide +kernel, by decide +kernel⟩, lw_t1 (List.mem_of_getElem? (i := 27) rfl), lw_t4 (List.mem_of_getElem? (i := 78) rfl), lw_t4 (List.mem_of_getElem? (i := 79) rfl)⟩
theorem lw_p22 : lw_okq (⟨"OwlEars", "leastOf", "(J)I"⟩, 13) := ⟨⟨by decide +kernel, by decide +kernel⟩, lw_t1 (List.mem_of_getElem? (i := 27) rfl), lw_t4 (List.mem_of_getElem? (i := 82) rfl), lw_t4 (List.mem_of_getElem? (i := 83) rfl)⟩
theorem lw_p23 : lw_okq (⟨"OwlEars", "bestIn", "(I)I"⟩, 13) := ⟨⟨by decide +kernel, by decide +kernel⟩, lw_t1 (List.mem_of_getElem? (i := 27) rfl), lw_t4 (List.mem_of_getElem? (i := 109) rfl), lw_t4 (List.mem_of_getElem? (i := 110) rfl)⟩
theorem lw_p24 : lw_okq (⟨"OwlEars", "bestOwl", "(III)I"⟩, 13) := ⟨⟨by decide +kernel, by decide +kernel⟩, lw_t1 (List.mem_of_getElem? (i := 27) rfl), lw_t4 (List.mem_of_getElem? (i := 118) rfl), lw_t4 (List.mem_of_getElem? (i := 119) rfl)⟩
theorem lw_p25 : lw_okq (⟨"OwlEars", "areTicks", "(II)Z"⟩, 13) := ⟨⟨by decide +kernel, by decide +kernel⟩, lw_t1 (List.mem_of_getElem? (i := 27) rfl), lw_t4 (List.mem_of_getElem? (i := 130) rfl), lw_t4 (List.mem_of_getElem? (i := 131) rfl)⟩
theorem lw_p26 : lw_okq (⟨"OwlEars", "quietest", "(II)I"⟩, 13) := ⟨⟨by decide +kernel, by decide +kernel⟩, lw_t1 (List.mem_of_getElem? (i := 27) rfl), lw_t4 (List.mem_of_getElem? (i := 134) rfl), lw_t4 (List.mem_of_getElem? (i := 135) rfl)⟩
theorem lw_p27 : lw_okq (⟨"OwlEars", "heardBy", "(III)I"⟩, 13) := ⟨⟨by decide +kernel, by decide +kernel⟩, lw_t1 (List.mem_of_getElem? (i := 27) rfl), lw_t4 (List.mem_of_getElem? (i := 138) rfl), lw_t4 (List.mem_of_getElem? (i := 139) rfl)⟩
theorem lw_p28 : lw_okq (⟨"OwlEars", "runsIn", "(I)I"⟩, 13) := ⟨⟨by decide +kernel, by decide +kernel⟩, lw_t1 (List.mem_of_getElem? (i := 27) rfl), lw_t4 (List.mem_of_getElem? (i := 142) rfl), lw_t4 (List.mem_of_getElem? (i := 143) rfl)⟩
theorem lw_p29 : lw_okq (⟨"OwlEars", "allThatFit", "(IIII)J"⟩, 13) := ⟨⟨by decide +kernel, by decide +kernel⟩, lw_t1 (List.mem_of_getElem? (i := 27) rfl), lw_t4 (List.mem_of_getElem? (i := 154) rfl), lw_t4 (List.mem_of_getElem? (i := 155) rfl)⟩
theorem lw_p30 : lw_okq (⟨"OwlEars", "rowAt", "(I)Ljava/lang/Object;"⟩, 13) := ⟨⟨by decide +kernel, by decide +kernel⟩, lw_t1 (List.mem_of_getElem? (i := 27) rfl), lw_t4 (List.mem_of_getElem? (i := 158) rfl), lw_t4 (List.mem_of_getElem? (i := 159) rfl)⟩
theorem lw_p31 : lw_okq (⟨"OwlEars", "need", "(ZI)V"⟩, 13) := ⟨⟨by decide +kernel, by decide +kernel⟩, lw_t1 (List.mem_of_getElem? (i := 27) rfl), lw_t4 (List.mem_of_getElem? (i := 165) rfl), lw_t4 (List.mem_of_getElem? (i := 166) rfl)⟩
def lw_privs_2 : List (MethodName × Nat) := [(⟨"OwlEars", "ticksTill", "(I)I"⟩, 13), (⟨"OwlEars", "orNone", "(I)I"⟩, 13), (⟨"OwlEars", "cellsIn", "(I)J"⟩, 13), (⟨"OwlEars", "soonestFor", "(I)I"⟩, 13), (⟨"OwlEars", "chancesOf", "(II)I"⟩, 13), (⟨"OwlEars", "allThatHave", "(III)J"⟩, 13), (⟨"OwlEars", "leastOf", "(J)I"⟩, 13), (⟨"OwlEars", "bestIn", "(I)I"⟩, 13), (⟨"OwlEars", "bestOwl", "(III)I"⟩, 13), (⟨"OwlEars", "areTicks", "(II)Z"⟩, 13), (⟨"OwlEars", "quietest", "(II)I"⟩, 13), (⟨"OwlEars", "heardBy", "(III)I"⟩, 13), (⟨"OwlEars", "runsIn", "(I)I"⟩, 13), (⟨"OwlEars", "allThatFit", "(IIII)J"⟩, 13), (⟨"OwlEars", "rowAt", "(I)Ljava/lang/Object;"⟩, 13), (⟨"OwlEars", "need", "(ZI)V"⟩, 13)]
theorem lw_r2 : ∀ q ∈ lw_privs_2, lw_okq q := List.forall_mem_cons.mpr ⟨lw_p16, List.forall_mem_cons.mpr ⟨lw_p17, List.forall_mem_cons.mpr ⟨lw_p18, List.forall_mem_cons.mpr ⟨lw_p19, List.forall_mem_cons.mpr ⟨lw_p20, List.forall_mem_cons.mpr ⟨lw_p21, List.forall_mem_cons.mpr ⟨lw_p22, List.forall_mem_cons.mpr ⟨lw_p23, List.forall_mem_cons.mpr ⟨lw_p24, List.forall_mem_cons.mpr ⟨lw_p25, List.forall_mem_cons.mpr ⟨lw_p26, List.forall_mem_cons.mpr ⟨lw_p27, List.forall_mem_cons.mpr ⟨lw_p28, List.forall_mem_cons.mpr ⟨lw_p29, List.forall_mem_cons.mpr ⟨lw_p30, List.forall_mem_cons.mpr ⟨lw_p31, fun _ h => absurd h List.not_mem_nil⟩⟩⟩⟩⟩⟩⟩⟩⟩⟩⟩⟩⟩⟩⟩⟩
theorem lw_p32 : lw_okq (⟨"OwlEars", "refused", "(I)LOwlEars$Refusal;"⟩, 13) := ⟨⟨by decide +kernel, by decide +kernel⟩, lw_t1 (List.mem_of_getElem? (i := 27) rfl), lw_t4 (List.mem_of_getElem? (i := 169) rfl), lw_t4 (List.mem_of_getElem? (i := 170) rfl)⟩
theorem lw_p33 : lw_okq (⟨"OwlEars", "areHeardSo", "(Ljava/lang/Object;I)Z"⟩, 13) := ⟨⟨by decide +kernel, by decide +kernel⟩, lw_t1 (List.mem_of_getElem? (i := 27) rfl), lw_t4 (List.mem_of_getElem? (i := 173) rfl), lw_t4 (List.mem_of_getElem? (i := 174) rfl)⟩
theorem lw_p34 : lw_okq (⟨"OwlEars", "isHeardSo", "(II)Z"⟩, 13) := ⟨⟨by decide +kernel, by decide +kernel⟩, lw_t1 (List.mem_of_getElem? (i := 27) rfl), lw_t4 (List.mem_of_getElem? (i := 186) rfl), lw_t4 (List.mem_of_getElem? (i := 187) rfl)⟩
theorem lw_p35 : lw_okq (⟨"OwlEars", "rustles", "(I)I"⟩, 13) := ⟨⟨by decide +kernel, by decide +kernel⟩, lw_t1 (List.mem_of_getElem? (i := 27) rfl), lw_t4 (List.mem_of_getElem? (i := 204) rfl), lw_t4 (List.mem_of_getElem? (i := 205) rfl)⟩
theorem lw_p36 : lw_okq (⟨"OwlEars$Reader", "next", "()V"⟩, 8) := ⟨⟨by decide +kernel, by decide +kernel⟩, lw_t1 (List.mem_of_getElem? (i := 103) rfl), lw_t5 (List.mem_of_getElem? (i := 5) rfl), lw_t5 (List.mem_of_getElem? (i := 6) rfl)⟩
theorem lw_p37 : lw_okq (⟨"OwlEars$Reader", "byteAt", "(I)I"⟩, 8) := ⟨⟨by decide +kernel, by decide +kernel⟩, lw_t1 (List.mem_of_getElem? (i := 103) rfl), lw_t5 (List.mem_of_getElem? (i := 9) rfl), lw_t5 (List.mem_of_getElem? (i := 10) rfl)⟩
theorem lw_p38 : lw_okq (⟨"OwlEars$Reader", "word", "()V"⟩, 8) := ⟨⟨by decide +kernel, by decide +kernel⟩, lw_t1 (List.mem_of_getElem? (i := 103) rfl), lw_t5 (List.mem_of_getElem? (i := 17) rfl), lw_t5 (List.mem_of_getElem? (i := 18) rfl)⟩
theorem lw_p39 : lw_okq (⟨"OwlEars$Reader", "isKey", "(II)Z"⟩, 8) := ⟨⟨by decide +kernel, by decide +kernel⟩, lw_t1 (List.mem_of_getElem? (i := 103) rfl), lw_t5 (List.mem_of_getElem? (i := 21) rfl), lw_t5 (List.mem_of_getElem? (i := 22) rfl)⟩
theorem lw_p40 : lw_okq (⟨"OwlEars$Reader", "need", "(Z)V"⟩, 8) := ⟨⟨by decide +kernel, by decide +kernel⟩, lw_t1 (List.mem_of_getElem? (i := 103) rfl), lw_t5 (List.mem_of_getElem? (i := 66) rfl), lw_t5 (List.mem_of_getElem? (i := 67) rfl)⟩
theorem lw_p41 : lw_okq (⟨"OwlEars$Reader", "digits", "()V"⟩, 8) := ⟨⟨by decide +kernel, by decide +kernel⟩, lw_t1 (List.mem_of_getElem? (i := 103) rfl), lw_t5 (List.mem_of_getElem? (i := 73) rfl), lw_t5 (List.mem_of_getElem? (i := 74) rfl)⟩
theorem lw_p42 : lw_okq (⟨"OwlEars$Reader", "item", "()V"⟩, 8) := ⟨⟨by decide +kernel, by decide +kernel⟩, lw_t1 (List.mem_of_getElem? (i := 103) rfl), lw_t5 (List.mem_of_getElem? (i := 77) rfl), lw_t5 (List.mem_of_getElem? (i := 78) rfl)⟩
theorem lw_p43 : lw_okq (⟨"OwlEars$Reader", "mouse", "()V"⟩, 8) := ⟨⟨by decide +kernel, by decide +kernel⟩, lw_t1 (List.mem_of_getElem? (i := 103) rfl), lw_t5 (List.mem_of_getElem? (i := 81) rfl), lw_t5 (List.mem_of_getElem? (i := 82) rfl)⟩
theorem lw_p44 : lw_okq (⟨"OwlEars$Reader", "behind", "(II)I"⟩, 8) := ⟨⟨by decide +kernel, by decide +kernel⟩, lw_t1 (List.mem_of_getElem? (i := 103) rfl), lw_t5 (List.mem_of_getElem? (i := 85) rfl), lw_t5 (List.mem_of_getElem? (i := 86) rfl)⟩
theorem lw_p45 : lw_okq (⟨"OwlEars$Reader", "number", "(II)I"⟩, 8) := ⟨⟨by decide +kernel, by decide +kernel⟩, lw_t1 (List.mem_of_getElem? (i := 103) rfl), lw_t5 (List.mem_of_getElem? (i := 89) rfl), lw_t5 (List.mem_of_getElem? (i := 90) rfl)⟩
theorem lw_p46 : lw_okq (⟨"OwlEars$Reader", "heading", "(I)I"⟩, 8) := ⟨⟨by decide +kernel, by decide +kernel⟩, lw_t1 (List.mem_of_getElem? (i := 103) rfl), lw_t5 (List.mem_of_getElem? (i := 93) rfl), lw_t5 (List.mem_of_getElem? (i := 94) rfl)⟩
theorem lw_p47 : lw_okq (⟨"OwlEars$Reader", "isWord", "(I)Z"⟩, 8) := ⟨⟨by decide +kernel, by decide +kernel⟩, lw_t1 (List.mem_of_getElem? (i := 103) rfl), lw_t5 (List.mem_of_getElem? (i := 97) rfl), lw_t5 (List.mem_of_getElem? (i := 98) rfl)⟩
def lw_privs_3 : List (MethodName × Nat) := [(⟨"OwlEars", "refused", "(I)LOwlEars$Refusal;"⟩, 13), (⟨"OwlEars", "areHeardSo", "(Ljava/lang/Object;I)Z"⟩, 13), (⟨"OwlEars", "isHeardSo", "(II)Z"⟩, 13), (⟨"OwlEars", "rustles", "(I)I"⟩, 13), (⟨"OwlEars$Reader", "next", "()V"⟩, 8), (⟨"OwlEars$Reader", "byteAt", "(I)I"⟩, 8), (⟨"OwlEars$Reader", "word", "()V"⟩, 8), (⟨"OwlEars$Reader", "isKey", "(II)Z"⟩, 8), (⟨"OwlEars$Reader", "need", "(Z)V"⟩, 8), (⟨"OwlEars$Reader", "digits", "()V"⟩, 8), (⟨"OwlEars$Reader", "item", "()V"⟩, 8), (⟨"OwlEars$Reader", "mouse", "()V"⟩, 8), (⟨"OwlEars$Reader", "behind", "(II)I"⟩, 8), (⟨"OwlEars$Reader", "number", "(II)I"⟩, 8), (⟨"OwlEars$Reader", "heading", "(I)I"⟩, 8), (⟨"OwlEars$Reader", "isWord", "(I)Z"⟩, 8)]
theorem lw_r3 : ∀ q ∈ lw_privs_3, lw_okq q := List.forall_mem_cons.mpr ⟨lw_p32, List.forall_mem_cons.mpr ⟨lw_p33, List.forall_mem_cons.mpr ⟨lw_p34, List.forall_mem_cons.mpr ⟨lw_p35, List.forall_mem_cons.mpr ⟨lw_p36, List.forall_mem_cons.mpr ⟨lw_p37, List.forall_mem_cons.mpr ⟨lw_p38, List.forall_mem_cons.mpr ⟨lw_p39, List.forall_mem_cons.mpr ⟨lw_p40, List.forall_mem_cons.mpr ⟨lw_p41, List.forall_mem_cons.mpr ⟨lw_p42, List.forall_mem_cons.mpr ⟨lw_p43, List.forall_mem_cons.mpr ⟨lw_p44, List.forall_mem_cons.mpr ⟨lw_p45, List.forall_mem_cons.mpr ⟨lw_p46, List.forall_mem_cons.mpr ⟨lw_p47, fun _ h => absurd h List.not_mem_nil⟩⟩⟩⟩⟩⟩⟩⟩⟩⟩⟩⟩⟩⟩⟩⟩
theorem lw_p48 : lw_okq (⟨"OwlEars$Reader", "owl", "()V"⟩, 8) := ⟨⟨by decide +kernel, by decide +kernel⟩, lw_t1 (List.mem_of_getElem? (i := 103) rfl), lw_t5 (List.mem_of_getElem? (i := 101) rfl), lw_t5 (List.mem_of_getElem? (i := 102) rfl)⟩
theorem lw_p49 : lw_okq (⟨"OwlEars$Reader", "row", "([II)V"⟩, 8) := ⟨⟨by decide +kernel, by decide +kernel⟩, lw_t1 (List.mem_of_getElem? (i := 103) rfl), lw_t5 (List.mem_of_getElem? (i := 105) rfl), lw_t5 (List.mem_of_getElem? (i := 106) rfl)⟩
theorem lw_p50 : lw_okq (⟨"OwlEars$Reader", "strike", "(I)V"⟩, 8) := ⟨⟨by decide +kernel, by decide +kernel⟩, lw_t1 (List.mem_of_getElem? (i := 103) rfl), lw_t5 (List.mem_of_getElem? (i := 109) rfl), lw_t5 (List.mem_of_getElem? (i := 110) rfl)⟩
theorem lw_p51 : lw_okq (⟨"OwlEars", "thingAt", "(I)Ljava/lang/Object;"⟩, 13) := ⟨⟨by decide +kernel, by decide +kernel⟩, lw_t1 (List.mem_of_getElem? (i := 27) rfl), lw_t5 (List.mem_of_getElem? (i := 125) rfl), lw_t5 (List.mem_of_getElem? (i := 126) rfl)⟩
theorem lw_p52 : lw_okq (⟨"OwlEars", "loads", "(Ljava/lang/Object;)I"⟩, 13) := ⟨⟨by decide +kernel, by decide +kernel⟩, lw_t1 (List.mem_of_getElem? (i := 27) rfl), lw_t5 (List.mem_of_getElem? (i := 180) rfl), lw_t5 (List.mem_of_getElem? (i := 181) rfl)⟩
theorem lw_p53 : lw_okq (⟨"OwlEars", "rightOnes", "(Ljava/lang/Object;)I"⟩, 13) := ⟨⟨by decide +kernel, by decide +kernel⟩, lw_t1 (List.mem_of_getElem? (i := 27) rfl), lw_t5 (List.mem_of_getElem? (i := 188) rfl), lw_t5 (List.mem_of_getElem? (i := 189) rfl)⟩
theorem lw_p54 : lw_okq (⟨"OwlEars", "holding", "()I"⟩, 13) := ⟨⟨by decide +kernel, by decide +kernel⟩, lw_t1 (List.mem_of_getElem? (i := 27) rfl), lw_t5 (List.mem_of_getElem? (i := 217) rfl), lw_t5 (List.mem_of_getElem? (i := 218) rfl)⟩
theorem lw_p55 : lw_okq (⟨"OwlEarsModel", "become", "(II)I"⟩, 24) := ⟨⟨by decide +kernel, by decide +kernel⟩, lw_t5 (List.mem_of_getElem? (i := 225) rfl), lw_t6 (List.mem_of_getElem? (i := 93) rfl), lw_t6 (List.mem_of_getElem? (i := 94) rfl)⟩
theorem lw_p56 : lw_okq (⟨"OwlEarsModel", "finding", "(I)I"⟩, 24) := ⟨⟨by decide +kernel, by decide +kernel⟩, lw_t5 (List.mem_of_getElem? (i := 225) rfl), lw_t6 (List.mem_of_getElem? (i := 98) rfl), lw_t6 (List.mem_of_getElem? (i := 99) rfl)⟩
theorem lw_p57 : lw_okq (⟨"OwlEarsModel", "loudAt", "(I)I"⟩, 24) := ⟨⟨by decide +kernel, by decide +kernel⟩, lw_t5 (List.mem_of_getElem? (i := 225) rfl), lw_t6 (List.mem_of_getElem? (i := 106) rfl), lw_t6 (List.mem_of_getElem? (i := 107) rfl)⟩
theorem lw_p58 : lw_okq (⟨"OwlEarsModel", "loud", "()I"⟩, 24) := ⟨⟨by decide +kernel, by decide +kernel⟩, lw_t5 (List.mem_of_getElem? (i := 225) rfl), lw_t6 (List.mem_of_getElem? (i := 110) rfl), lw_t6 (List.mem_of_getElem? (i := 111) rfl)⟩
theorem lw_p59 : lw_okq (⟨"OwlEarsModel", "isRunning", "()Z"⟩, 24) := ⟨⟨by decide +kernel, by decide +kernel⟩, lw_t5 (List.mem_of_getElem? (i := 225) rfl), lw_t6 (List.mem_of_getElem? (i := 114) rfl), lw_t6 (List.mem_of_getElem? (i := 115) rfl)⟩
theorem lw_p60 : lw_okq (⟨"OwlEarsModel", "mayBeMouse", "(II)Z"⟩, 24) := ⟨⟨by decide +kernel, by decide +kernel⟩, lw_t5 (List.mem_of_getElem? (i := 225) rfl), lw_t6 (List.mem_of_getElem? (i := 127) rfl), lw_t6 (List.mem_of_getElem? (i := 128) rfl)⟩
theorem lw_p61 : lw_okq (⟨"OwlEarsModel", "comes", "(III)I"⟩, 24) := ⟨⟨by decide +kernel, by decide +kernel⟩, lw_t5 (List.mem_of_getElem? (i := 225) rfl), lw_t6 (List.mem_of_getElem? (i := 150) rfl), lw_t6 (List.mem_of_getElem? (i := 151) rfl)⟩
theorem lw_p62 : lw_okq (⟨"OwlEarsModel", "isStrike", "(I)Z"⟩, 24) := ⟨⟨by decide +kernel, by decide +kernel⟩, lw_t5 (List.mem_of_getElem? (i := 225) rfl), lw_t6 (List.mem_of_getElem? (i := 161) rfl), lw_t6 (List.mem_of_getElem? (i := 162) rfl)⟩
theorem lw_p63 : lw_okq (⟨"OwlEarsModel", "takes", "(I)I"⟩, 24) := ⟨⟨by decide +kernel, by decide +kernel⟩, lw_t5 (List.mem_of_getElem? (i := 225) rfl), lw_t6 (List.mem_of_getElem? (i := 165) rfl), lw_t6 (List.mem_of_getElem? (i := 166) rfl)⟩
def lw_privs_4 : List (MethodName × Nat) := [(⟨"OwlEars$Reader", "owl", "()V"⟩, 8), (⟨"OwlEars$Reader", "row", "([II)V"⟩, 8), (⟨"OwlEars$Reader", "strike", "(I)V"⟩, 8), (⟨"OwlEars", "thingAt", "(I)Ljava/lang/Object;"⟩, 13), (⟨"OwlEars", "loads", "(Ljava/lang/Object;)I"⟩, 13), (⟨"OwlEars", "rightOnes", "(Ljava/lang/Object;)I"⟩, 13), (⟨"OwlEars", "holding", "()I"⟩, 13), (⟨"OwlEarsModel", "become", "(II)I"⟩, 24), (⟨"OwlEarsModel", "finding", "(I)I"⟩, 24), (⟨"OwlEarsModel", "loudAt", "(I)I"⟩, 24), (⟨"OwlEarsModel", "loud", "()I"⟩, 24), (⟨"OwlEarsModel", "isRunning", "()Z"⟩, 24), (⟨"OwlEarsModel", "mayBeMouse", "(II)Z"⟩, 24), (⟨"OwlEarsModel", "comes", "(III)I"⟩, 24), (⟨"OwlEarsModel", "isStrike", "(I)Z"⟩, 24), (⟨"OwlEarsModel", "takes", "(I)I"⟩, 24)]
theorem lw_r4 : ∀ q ∈ lw_privs_4, lw_okq q := List.forall_mem_cons.mpr ⟨lw_p48, List.forall_mem_cons.mpr ⟨lw_p49, List.forall_mem_cons.mpr ⟨lw_p50, List.forall_mem_cons.mpr ⟨lw_p51, List.forall_mem_cons.mpr ⟨lw_p52, List.forall_mem_cons.mpr ⟨lw_p53, List.forall_mem_cons.mpr ⟨lw_p54, List.forall_mem_cons.mpr ⟨lw_p55, List.forall_mem_cons.mpr ⟨lw_p56, List.forall_mem_cons.mpr ⟨lw_p57, List.forall_mem_cons.mpr ⟨lw_p58, List.forall_mem_cons.mpr ⟨lw_p59, List.forall_mem_cons.mpr ⟨lw_p60, List.forall_mem_cons.mpr ⟨lw_p61, List.forall_mem_cons.mpr ⟨lw_p62, List.forall_mem_cons.mpr ⟨lw_p63, fun _ h => absurd h List.not_mem_nil⟩⟩⟩⟩⟩⟩⟩⟩⟩⟩⟩⟩⟩⟩⟩⟩
theorem lw_p64 : lw_okq (⟨"OwlEarsModel", "strikeIs", "(II)I"⟩, 24) := ⟨⟨by decide +kernel, by decide +kernel⟩, lw_t5 (List.mem_of_getElem? (i := 225) rfl), lw_t6 (List.mem_of_getElem? (i := 169) rfl), lw_t6 (List.mem_of_getElem? (i := 170) rfl)⟩
theorem lw_p65 : lw_okq (⟨"OwlEarsModel", "deep", "(I)I"⟩, 24) := ⟨⟨by decide +kernel, by decide +kernel⟩, lw_t5 (List.mem_of_getElem? (i := 225) rfl), lw_t6 (List.mem_of_getElem? (i := 173) rfl), lw_t6 (List.mem_of_getElem? (i := 174) rfl)⟩
theorem lw_p66 : lw_okq (⟨"OwlEarsModel", "wide", "(I)I"⟩, 24) := ⟨⟨by decide +kernel, by decide +kernel⟩, lw_t5 (List.mem_of_getElem? (i := 225) rfl), lw_t6 (List.mem_of_getElem? (i := 177) rfl), lw_t6 (List.mem_of_getElem? (i := 178) rfl)⟩
theorem lw_p67 : lw_okq (⟨"OwlEarsModel", "has", "(I)Z"⟩, 24) := ⟨⟨by decide +kernel, by decide +kernel⟩, lw_t5 (List.mem_of_getElem? (i := 225) rfl), lw_t6 (List.mem_of_getElem? (i := 181) rfl), lw_t6 (List.mem_of_getElem? (i := 182) rfl)⟩
theorem lw_p68 : lw_okq (⟨"OwlEarsModel", "ticks", "(I)V"⟩, 24) := ⟨⟨by decide +kernel, by decide +kernel⟩, lw_t5 (List.mem_of_getElem? (i := 225) rfl), lw_t6 (List.mem_of_getElem? (i := 188) rfl), lw_t6 (List.mem_of_getElem? (i := 189) rfl)⟩
theorem lw_p69 : lw_okq (⟨"OwlEarsModel", "tick", "()V"⟩, 24) := ⟨⟨by decide +kernel, by decide +kernel⟩, lw_t5 (List.mem_of_getElem? (i := 225) rfl), lw_t6 (List.mem_of_getElem? (i := 192) rfl), lw_t6 (List.mem_of_getElem? (i := 193) rfl)⟩
theorem lw_p70 : lw_okq (⟨"OwlEarsModel", "reaches", "(I)Z"⟩, 24) := ⟨⟨by decide +kernel, by decide +kernel⟩, lw_t5 (List.mem_of_getElem? (i := 225) rfl), lw_t6 (List.mem_of_getElem? (i := 199) rfl), lw_t6 (List.mem_of_getElem? (i := 200) rfl)⟩
theorem lw_p71 : lw_okq (⟨"OwlEarsModel", "strikesNow", "(I)I"⟩, 24) := ⟨⟨by decide +kernel, by decide +kernel⟩, lw_t5 (List.mem_of_getElem? (i := 225) rfl), lw_t6 (List.mem_of_getElem? (i := 216) rfl), lw_t6 (List.mem_of_getElem? (i := 217) rfl)⟩
theorem lw_p72 : lw_okq (⟨"OwlEarsModel", "hears", "()Z"⟩, 24) := ⟨⟨by decide +kernel, by decide +kernel⟩, lw_t5 (List.mem_of_getElem? (i := 225) rfl), lw_t6 (List.mem_of_getElem? (i := 229) rfl), lw_t6 (List.mem_of_getElem? (i := 230) rfl)⟩
theorem lw_p73 : lw_okq (⟨"OwlEarsModel", "isAhead", "()Z"⟩, 24) := ⟨⟨by decide +kernel, by decide +kernel⟩, lw_t5 (List.mem_of_getElem? (i := 225) rfl), lw_t6 (List.mem_of_getElem? (i := 233) rfl), lw_t6 (List.mem_of_getElem? (i := 234) rfl)⟩
theorem lw_p74 : lw_okq (⟨"OwlEarsModel", "high", "()I"⟩, 24) := ⟨⟨by decide +kernel, by decide +kernel⟩, lw_t5 (List.mem_of_getElem? (i := 225) rfl), lw_t6 (List.mem_of_getElem? (i := 237) rfl), lw_t6 (List.mem_of_getElem? (i := 238) rfl)⟩
theorem lw_p75 : lw_okq (⟨"OwlEarsModel", "side", "()I"⟩, 24) := ⟨⟨by decide +kernel, by decide +kernel⟩, lw_t5 (List.mem_of_getElem? (i := 225) rfl), lw_t7 (List.mem_of_getElem? (i := 4) rfl), lw_t7 (List.mem_of_getElem? (i := 5) rfl)⟩
theorem lw_p76 : lw_okq (⟨"OwlEarsModel", "having", "()I"⟩, 24) := ⟨⟨by decide +kernel, by decide +kernel⟩, lw_t5 (List.mem_of_getElem? (i := 225) rfl), lw_t7 (List.mem_of_getElem? (i := 8) rfl), lw_t7 (List.mem_of_getElem? (i := 9) rfl)⟩
theorem lw_p77 : lw_okq (⟨"OwlEarsModel", "hadAll", "()I"⟩, 24) := ⟨⟨by decide +kernel, by decide +kernel⟩, lw_t5 (List.mem_of_getElem? (i := 225) rfl), lw_t7 (List.mem_of_getElem? (i := 12) rfl), lw_t7 (List.mem_of_getElem? (i := 13) rfl)⟩
theorem lw_p78 : lw_okq (⟨"OwlEarsModel", "snowAll", "()I"⟩, 24) := ⟨⟨by decide +kernel, by decide +kernel⟩, lw_t5 (List.mem_of_getElem? (i := 225) rfl), lw_t7 (List.mem_of_getElem? (i := 16) rfl), lw_t7 (List.mem_of_getElem? (i := 17) rfl)⟩
theorem lw_p79 : lw_okq (⟨"OwlEarsModel", "putBack", "(I)I"⟩, 24) := ⟨⟨by decide +kernel, by decide +kernel⟩, lw_t5 (List.mem_of_getElem? (i := 225) rfl), lw_t7 (List.mem_of_getElem? (i := 32) rfl), lw_t7 (List.mem_of_getElem? (i := 33) rfl)⟩
def lw_privs_5 : List (MethodName × Nat) := [(⟨"OwlEarsModel", "strikeIs", "(II)I"⟩, 24), (⟨"OwlEarsModel", "deep", "(I)I"⟩, 24), (⟨"OwlEarsModel", "wide", "(I)I"⟩, 24), (⟨"OwlEarsModel", "has", "(I)Z"⟩, 24), (⟨"OwlEarsModel", "ticks", "(I)V"⟩, 24), (⟨"OwlEarsModel", "tick", "()V"⟩, 24), (⟨"OwlEarsModel", "reaches", "(I)Z"⟩, 24), (⟨"OwlEarsModel", "strikesNow", "(I)I"⟩, 24), (⟨"OwlEarsModel", "hears", "()Z"⟩, 24), (⟨"OwlEarsModel", "isAhead", "()Z"⟩, 24), (⟨"OwlEarsModel", "high", "()I"⟩, 24), (⟨"OwlEarsModel", "side", "()I"⟩, 24), (⟨"OwlEarsModel", "having", "()I"⟩, 24), (⟨"OwlEarsModel", "hadAll", "()I"⟩, 24), (⟨"OwlEarsModel", "snowAll", "()I"⟩, 24), (⟨"OwlEarsModel", "putBack", "(I)I"⟩, 24)]
theorem lw_r5 : ∀ q ∈ lw_privs_5, lw_okq q := List.forall_mem_cons.mpr ⟨lw_p64, List.forall_mem_cons.mpr ⟨lw_p65, List.forall_mem_cons.mpr ⟨lw_p66, List.forall_mem_cons.mpr ⟨lw_p67, List.forall_mem_cons.mpr ⟨lw_p68, List.forall_mem_cons.mpr ⟨lw_p69, List.forall_mem_cons.mpr ⟨lw_p70, List.forall_mem_cons.mpr ⟨lw_p71, List.forall_mem_cons.mpr ⟨lw_p72, List.forall_mem_cons.mpr ⟨lw_p73, List.forall_mem_cons.mpr ⟨lw_p74, List.forall_mem_cons.mpr ⟨lw_p75, List.forall_mem_cons.mpr ⟨lw_p76, List.forall_mem_cons.mpr ⟨lw_p77, List.forall_mem_cons.mpr ⟨lw_p78, List.forall_mem_cons.mpr ⟨lw_p79, fun _ h => absurd h List.not_mem_nil⟩⟩⟩⟩⟩⟩⟩⟩⟩⟩⟩⟩⟩⟩⟩⟩
theorem lw_p80 : lw_okq (⟨"OwlEarsModel", "heardIn", "(I)I"⟩, 24) := ⟨⟨by decide +kernel, by decide +kernel⟩, lw_t5 (List.mem_of_getElem? (i := 225) rfl), lw_t7 (List.mem_of_getElem? (i := 40) rfl), lw_t7 (List.mem_of_getElem? (i := 41) rfl)⟩
theorem lw_p81 : lw_okq (⟨"OwlEarsModel", "orNone", "(I)I"⟩, 24) := ⟨⟨by decide +kernel, by decide +kernel⟩, lw_t5 (List.mem_of_getElem? (i := 225) rfl), lw_t7 (List.mem_of_getElem? (i := 48) rfl), lw_t7 (List.mem_of_getElem? (i := 49) rfl)⟩
theorem lw_p82 : lw_okq (⟨"OwlEarsModel", "chancesIn", "(II)I"⟩, 24) := ⟨⟨by decide +kernel, by decide +kernel⟩, lw_t5 (List.mem_of_getElem? (i := 225) rfl), lw_t7 (List.mem_of_getElem? (i := 68) rfl), lw_t7 (List.mem_of_getElem? (i := 69) rfl)⟩
theorem lw_p83 : lw_okq (⟨"OwlEarsModel", "aimsOf", "(I)J"⟩, 24) := ⟨⟨by decide +kernel, by decide +kernel⟩, lw_t5 (List.mem_of_getElem? (i := 225) rfl), lw_t7 (List.mem_of_getElem? (i := 76) rfl), lw_t7 (List.mem_of_getElem? (i := 77) rfl)⟩
theorem lw_p84 : lw_okq (⟨"OwlEarsModel", "good", "(III)I"⟩, 24) := ⟨⟨by decide +kernel, by decide +kernel⟩, lw_t5 (List.mem_of_getElem? (i := 225) rfl), lw_t7 (List.mem_of_getElem? (i := 88) rfl), lw_t7 (List.mem_of_getElem? (i := 89) rfl)⟩
theorem lw_p85 : lw_okq (⟨"OwlEarsModel", "mostHeard", "(III)I"⟩, 24) := ⟨⟨by decide +kernel, by decide +kernel⟩, lw_t5 (List.mem_of_getElem? (i := 225) rfl), lw_t7 (List.mem_of_getElem? (i := 110) rfl), lw_t7 (List.mem_of_getElem? (i := 111) rfl)⟩
theorem lw_p86 : lw_okq (⟨"OwlEarsModel", "quietest", "(II)I"⟩, 24) := ⟨⟨by decide +kernel, by decide +kernel⟩, lw_t5 (List.mem_of_getElem? (i := 225) rfl), lw_t7 (List.mem_of_getElem? (i := 125) rfl), lw_t7 (List.mem_of_getElem? (i := 126) rfl)⟩
theorem lw_p87 : lw_okq (⟨"OwlEarsModel", "lacksFor", "(II)I"⟩, 24) := ⟨⟨by decide +kernel, by decide +kernel⟩, lw_t5 (List.mem_of_getElem? (i := 225) rfl), lw_t7 (List.mem_of_getElem? (i := 137) rfl), lw_t7 (List.mem_of_getElem? (i := 138) rfl)⟩
theorem lw_p88 : lw_okq (⟨"OwlEarsModel", "lacks", "(I)I"⟩, 24) := ⟨⟨by decide +kernel, by decide +kernel⟩, lw_t5 (List.mem_of_getElem? (i := 225) rfl), lw_t7 (List.mem_of_getElem? (i := 141) rfl), lw_t7 (List.mem_of_getElem? (i := 142) rfl)⟩
theorem lw_p89 : lw_okq (⟨"OwlEarsModel", "fitting", "(IIII)J"⟩, 24) := ⟨⟨by decide +kernel, by decide +kernel⟩, lw_t5 (List.mem_of_getElem? (i := 225) rfl), lw_t7 (List.mem_of_getElem? (i := 149) rfl), lw_t7 (List.mem_of_getElem? (i := 150) rfl)⟩
theorem lw_p90 : lw_okq (⟨"OwlEarsModel", "wasHeard", "(II)Z"⟩, 24) := ⟨⟨by decide +kernel, by decide +kernel⟩, lw_t5 (List.mem_of_getElem? (i := 225) rfl), lw_t7 (List.mem_of_getElem? (i := 153) rfl), lw_t7 (List.mem_of_getElem? (i := 154) rfl)⟩
theorem lw_p91 : lw_okq (⟨"OwlEarsModel", "isHeardSo", "(II)Z"⟩, 24) := ⟨⟨by decide +kernel, by decide +kernel⟩, lw_t5 (List.mem_of_getElem? (i := 225) rfl), lw_t7 (List.mem_of_getElem? (i := 157) rfl), lw_t7 (List.mem_of_getElem? (i := 158) rfl)⟩
theorem lw_p92 : lw_okq (⟨"OwlEarsModel", "drawn", "()I"⟩, 24) := ⟨⟨by decide +kernel, by decide +kernel⟩, lw_t5 (List.mem_of_getElem? (i := 225) rfl), lw_t7 (List.mem_of_getElem? (i := 169) rfl), lw_t7 (List.mem_of_getElem? (i := 170) rfl)⟩
theorem lw_p93 : lw_okq (⟨"OwlEarsModel", "next", "()V"⟩, 24) := ⟨⟨by decide +kernel, by decide +kernel⟩, lw_t5 (List.mem_of_getElem? (i := 225) rfl), lw_t7 (List.mem_of_getElem? (i := 194) rfl), lw_t7 (List.mem_of_getElem? (i := 195) rfl)⟩
theorem lw_p94 : lw_okq (⟨"OwlEarsModel", "byteAt", "(I)I"⟩, 24) := ⟨⟨by decide +kernel, by decide +kernel⟩, lw_t5 (List.mem_of_getElem? (i := 225) rfl), lw_t7 (List.mem_of_getElem? (i := 198) rfl), lw_t7 (List.mem_of_getElem? (i := 199) rfl)⟩
theorem lw_p95 : lw_okq (⟨"OwlEarsModel", "readItem", "()V"⟩, 24) := ⟨⟨by decide +kernel, by decide +kernel⟩, lw_t5 (List.mem_of_getElem? (i := 225) rfl), lw_t7 (List.mem_of_getElem? (i := 202) rfl), lw_t7 (List.mem_of_getElem? (i := 203) rfl)⟩
def lw_privs_6 : List (MethodName × Nat) := [(⟨"OwlEarsModel", "heardIn", "(I)I"⟩, 24), (⟨"OwlEarsModel", "orNone", "(I)I"⟩, 24), (⟨"OwlEarsModel", "chancesIn", "(II)I"⟩, 24), (⟨"OwlEarsModel", "aimsOf", "(I)J"⟩, 24), (⟨"OwlEarsModel", "good", "(III)I"⟩, 24), (⟨"OwlEarsModel", "mostHeard", "(III)I"⟩, 24), (⟨"OwlEarsModel", "quietest", "(II)I"⟩, 24), (⟨"OwlEarsModel", "lacksFor", "(II)I"⟩, 24), (⟨"OwlEarsModel", "lacks", "(I)I"⟩, 24), (⟨"OwlEarsModel", "fitting", "(IIII)J"⟩, 24), (⟨"OwlEarsModel", "wasHeard", "(II)Z"⟩, 24), (⟨"OwlEarsModel", "isHeardSo", "(II)Z"⟩, 24), (⟨"OwlEarsModel", "drawn", "()I"⟩, 24), (⟨"OwlEarsModel", "next", "()V"⟩, 24), (⟨"OwlEarsModel", "byteAt", "(I)I"⟩, 24), (⟨"OwlEarsModel", "readItem", "()V"⟩, 24)]
theorem lw_r6 : ∀ q ∈ lw_privs_6, lw_okq q := List.forall_mem_cons.mpr ⟨lw_p80, List.forall_mem_cons.mpr ⟨lw_p81, List.forall_mem_cons.mpr ⟨lw_p82, List.forall_mem_cons.mpr ⟨lw_p83, List.forall_mem_cons.mpr ⟨lw_p84, List.forall_mem_cons.mpr ⟨lw_p85, List.forall_mem_cons.mpr ⟨lw_p86, List.forall_mem_cons.mpr ⟨lw_p87, List.forall_mem_cons.mpr ⟨lw_p88, List.forall_mem_cons.mpr ⟨lw_p89, List.forall_mem_cons.mpr ⟨lw_p90, List.forall_mem_cons.mpr ⟨lw_p91, List.forall_mem_cons.mpr ⟨lw_p92, List.forall_mem_cons.mpr ⟨lw_p93, List.forall_mem_cons.mpr ⟨lw_p94, List.forall_mem_cons.mpr ⟨lw_p95, fun _ h => absurd h List.not_mem_nil⟩⟩⟩⟩⟩⟩⟩⟩⟩⟩⟩⟩⟩⟩⟩⟩
theorem lw_p96 : lw_okq (⟨"OwlEarsModel", "wordOf", "([Ljava/lang/String;)I"⟩, 24) := ⟨⟨by decide +kernel, by decide +kernel⟩, lw_t5 (List.mem_of_getElem? (i := 225) rfl), lw_t7 (List.mem_of_getElem? (i := 206) rfl), lw_t7 (List.mem_of_getElem? (i := 207) rfl)⟩
theorem lw_p97 : lw_okq (⟨"OwlEarsModel", "isWord", "(Ljava/lang/String;)Z"⟩, 24) := ⟨⟨by decide +kernel, by decide +kernel⟩, lw_t5 (List.mem_of_getElem? (i := 225) rfl), lw_t7 (List.mem_of_getElem? (i := 210) rfl), lw_t7 (List.mem_of_getElem? (i := 211) rfl)⟩
theorem lw_p98 : lw_okq (⟨"OwlEarsModel", "must", "(Z)V"⟩, 24) := ⟨⟨by decide +kernel, by decide +kernel⟩, lw_t5 (List.mem_of_getElem? (i := 225) rfl), lw_t7 (List.mem_of_getElem? (i := 223) rfl), lw_t7 (List.mem_of_getElem? (i := 224) rfl)⟩
theorem lw_p99 : lw_okq (⟨"OwlEarsModel", "number", "(II)I"⟩, 24) := ⟨⟨by decide +kernel, by decide +kernel⟩, lw_t5 (List.mem_of_getElem? (i := 225) rfl), lw_t7 (List.mem_of_getElem? (i := 227) rfl), lw_t7 (List.mem_of_getElem? (i := 228) rfl)⟩
theorem lw_p100 : lw_okq (⟨"OwlEarsModel", "afterWord", "(Ljava/lang/String;II)I"⟩, 24) := ⟨⟨by decide +kernel, by decide +kernel⟩, lw_t5 (List.mem_of_getElem? (i := 225) rfl), lw_t7 (List.mem_of_getElem? (i := 232) rfl), lw_t7 (List.mem_of_getElem? (i := 233) rfl)⟩
theorem lw_p101 : lw_okq (⟨"OwlEarsModel", "addItem", "(IIIII)V"⟩, 24) := ⟨⟨by decide +kernel, by decide +kernel⟩, lw_t5 (List.mem_of_getElem? (i := 225) rfl), lw_t7 (List.mem_of_getElem? (i := 236) rfl), lw_t7 (List.mem_of_getElem? (i := 237) rfl)⟩
theorem lw_p102 : lw_okq (⟨"OwlEarsModel", "readMouse", "()V"⟩, 24) := ⟨⟨by decide +kernel, by decide +kernel⟩, lw_t5 (List.mem_of_getElem? (i := 225) rfl), lw_t8 (List.mem_of_getElem? (i := 1) rfl), lw_t8 (List.mem_of_getElem? (i := 2) rfl)⟩
theorem lw_p103 : lw_okq (⟨"OwlEarsModel", "headingTold", "()I"⟩, 24) := ⟨⟨by decide +kernel, by decide +kernel⟩, lw_t5 (List.mem_of_getElem? (i := 225) rfl), lw_t8 (List.mem_of_getElem? (i := 5) rfl), lw_t8 (List.mem_of_getElem? (i := 6) rfl)⟩
theorem lw_p104 : lw_okq (⟨"OwlEarsModel", "readLying", "(II)V"⟩, 24) := ⟨⟨by decide +kernel, by decide +kernel⟩, lw_t5 (List.mem_of_getElem? (i := 225) rfl), lw_t8 (List.mem_of_getElem? (i := 12) rfl), lw_t8 (List.mem_of_getElem? (i := 13) rfl)⟩
theorem lw_p105 : lw_okq (⟨"OwlEarsModel", "isToldSo", "(I)I"⟩, 24) := ⟨⟨by decide +kernel, by decide +kernel⟩, lw_t5 (List.mem_of_getElem? (i := 225) rfl), lw_t8 (List.mem_of_getElem? (i := 18) rfl), lw_t8 (List.mem_of_getElem? (i := 19) rfl)⟩
theorem lw_p106 : lw_okq (⟨"OwlEarsModel", "tellsTo", "(II)V"⟩, 24) := ⟨⟨by decide +kernel, by decide +kernel⟩, lw_t5 (List.mem_of_getElem? (i := 225) rfl), lw_t8 (List.mem_of_getElem? (i := 22) rfl), lw_t8 (List.mem_of_getElem? (i := 23) rfl)⟩
def lw_privs_7 : List (MethodName × Nat) := [(⟨"OwlEarsModel", "wordOf", "([Ljava/lang/String;)I"⟩, 24), (⟨"OwlEarsModel", "isWord", "(Ljava/lang/String;)Z"⟩, 24), (⟨"OwlEarsModel", "must", "(Z)V"⟩, 24), (⟨"OwlEarsModel", "number", "(II)I"⟩, 24), (⟨"OwlEarsModel", "afterWord", "(Ljava/lang/String;II)I"⟩, 24), (⟨"OwlEarsModel", "addItem", "(IIIII)V"⟩, 24), (⟨"OwlEarsModel", "readMouse", "()V"⟩, 24), (⟨"OwlEarsModel", "headingTold", "()I"⟩, 24), (⟨"OwlEarsModel", "readLying", "(II)V"⟩, 24), (⟨"OwlEarsModel", "isToldSo", "(I)I"⟩, 24), (⟨"OwlEarsModel", "tellsTo", "(II)V"⟩, 24)]
theorem lw_r7 : ∀ q ∈ lw_privs_7, lw_okq q := List.forall_mem_cons.mpr ⟨lw_p96, List.forall_mem_cons.mpr ⟨lw_p97, List.forall_mem_cons.mpr ⟨lw_p98, List.forall_mem_cons.mpr ⟨lw_p99, List.forall_mem_cons.mpr ⟨lw_p100, List.forall_mem_cons.mpr ⟨lw_p101, List.forall_mem_cons.mpr ⟨lw_p102, List.forall_mem_cons.mpr ⟨lw_p103, List.forall_mem_cons.mpr ⟨lw_p104, List.forall_mem_cons.mpr ⟨lw_p105, List.forall_mem_cons.mpr ⟨lw_p106, fun _ h => absurd h List.not_mem_nil⟩⟩⟩⟩⟩⟩⟩⟩⟩⟩⟩
def lw_privs : List (MethodName × Nat) := lw_privs_1 ++ (lw_privs_2 ++ (lw_privs_3 ++ (lw_privs_4 ++ (lw_privs_5 ++ (lw_privs_6 ++ (lw_privs_7))))))
def lw_tbl : List Cond := k2_sels lw_privs ++ tables_1
theorem lw_privs_ok : ∀ q ∈ lw_privs, lw_okq q := by
  show ∀ q ∈ lw_privs_1 ++ (lw_privs_2 ++ (lw_privs_3 ++ (lw_privs_4 ++ (lw_privs_5 ++ (lw_privs_6 ++ (lw_privs_7)))))), lw_okq q
  exact List.forall_mem_append.mpr ⟨lw_r1, List.forall_mem_append.mpr ⟨lw_r2, List.forall_mem_append.mpr ⟨lw_r3, List.forall_mem_append.mpr ⟨lw_r4, List.forall_mem_append.mpr ⟨lw_r5, List.forall_mem_append.mpr ⟨lw_r6, lw_r7⟩⟩⟩⟩⟩⟩
def lw_all : List Cond := lw_tbl.filter goodWord
/-- a word of the tables by its place: claim/WORDS.tsv -/
theorem lw_w {w : Cond} (i : Nat) (h : lw_tbl[i]? = some w) (g : goodWord w = true) : w ∈ lw_all := List.mem_filter.mpr ⟨List.mem_of_getElem? h, g⟩
theorem lw_all_tbl {w : Cond} (h : w ∈ lw_all) : w ∈ lw_tbl := (List.mem_filter.mp h).1
theorem lw_self : GoodIn lw_all lw_all := fun w h => ⟨h, good_of_word (List.mem_filter.mp h).2⟩
/-- a class's field words, by their places -/
theorem lw_in (ws : List Cond) (ps : List Nat) (hp : ws = ps.filterMap (fun i => lw_tbl[i]?)) (hg : ws.all goodWord = true) : ∀ w ∈ ws, w ∈ lw_all := by
  intro w h
  have h1 := List.all_eq_true.mp hg w h
  rw [hp] at h
  obtain ⟨i, -, hi⟩ := List.mem_filterMap.mp h
  exact lw_w i hi h1
/-- the words of a contract for the method y with code b, L locals, answer r -/
abbrev ws_ (y : MethodName) (b : ByteArray) (L : Nat) (r : Option FieldType) : List Cond := Cond.code y b L r :: lw_all
theorem lw_meth {y : MethodName} {b : ByteArray} {L : Nat} {r : Option FieldType} (h : Cond.code y b L r ∈ lw_all) : GoodIn lw_all (ws_ y b L r) := by
  intro w hw
  rcases List.mem_cons.mp hw with e | e
  · rw [e]
    exact lw_self _ h
  · exact lw_self _ e
theorem lw_app {a c : List Cond} (ha : ∀ w ∈ a, w ∈ lw_all) (hc : GoodIn lw_all c) : GoodIn lw_all (a ++ c) := by
  intro w hw
  rcases List.mem_append.mp hw with e | e
  · exact lw_self w (ha w e)
  · exact hc w e
/-- what a call through an object asks: cwV n hts (lw_V ..) -/
theorem lw_V {own : String} {idx : Nat} {C : String} {y : MethodName} {b : ByteArray} {L : Nat} {r : Option FieldType} (h1 : Cond.methodLink own idx y ∈ lw_all) (h2 : Cond.instanceMethod y ∈ lw_all) (h3 : Cond.selects C y y ∈ lw_all) (h4 : Cond.initialized C ∈ lw_all) (h5 : Cond.code y b L r ∈ lw_all) : GoodIn lw_all (wsV own idx C y (ws_ y b L r)) := by
  refine lw_app ?_ (lw_meth h5)
  intro w hw
  simp only [List.mem_cons, List.not_mem_nil, or_false] at hw
  rcases hw with e | e | e | e
  · rw [e]; exact h1
  · rw [e]; exact h2
  · rw [e]; exact h3
  · rw [e]; exact h4
/-- what a static call asks: va_cwS n hts (lw_S ..) -/
theorem lw_S {own : String} {idx : Nat} {y : MethodName} {b : ByteArray} {L : Nat} {r : Option FieldType} (h1 : Cond.methodLink own idx y ∈ lw_all) (h2 : Cond.static y ∈ lw_all) (h3 : Cond.initialized y.cls ∈ lw_all) (h4 : Cond.code y b L r ∈ lw_all) : GoodIn lw_all (va_wsS own idx y (ws_ y b L r)) := by
  refine lw_app ?_ (lw_meth h4)
  intro w hw
  simp only [List.mem_cons, List.not_mem_nil, or_false] at hw
  rcases hw with e | e | e
  · rw [e]; exact h1
  · rw [e]; exact h2
  · rw [e]; exact h3
/-- the words of a contract for a method WITH HANDLERS (hh: its table) -/
abbrev wsW_ (y : MethodName) (b : ByteArray) (L : Nat) (r : Option FieldType) (hh : List (Nat × Nat × Nat × Nat)) : List Cond := Cond.codeWith y b L r hh :: lw_all
theorem lw_methW {y : MethodName} {b : ByteArray} {L : Nat} {r : Option FieldType} {hh : List (Nat × Nat × Nat × Nat)} (h : Cond.codeWith y b L r hh ∈ lw_all) : GoodIn lw_all (wsW_ y b L r hh) := by
  intro w hw
  rcases List.mem_cons.mp hw with e | e
  · rw [e]
    exact lw_self _ h
  · exact lw_self _ e
/-- any list of words by their places (lw_in), good -/
theorem lw_good {ws : List Cond} (h : ∀ w ∈ ws, w ∈ lw_all) : GoodIn lw_all ws := fun w hw => lw_self w (h w hw)
/-- what a call of a method with handlers asks: vx_cwVW n hts (lw_VW ..), vx_cwSW n hts (lw_SW ..) -/
theorem lw_VW {own : String} {idx : Nat} {C : String} {y : MethodName} {b : ByteArray} {L : Nat} {r : Option FieldType} {hh : List (Nat × Nat × Nat × Nat)} (h1 : Cond.methodLink own idx y ∈ lw_all) (h2 : Cond.instanceMethod y ∈ lw_all) (h3 : Cond.selects C y y ∈ lw_all) (h4 : Cond.initialized C ∈ lw_all) (h5 : Cond.codeWith y b L r hh ∈ lw_all) : GoodIn lw_all (wsV own idx C y (wsW_ y b L r hh)) := by
  refine lw_app ?_ (lw_methW h5)
  intro w hw
  simp only [List.mem_cons, List.not_mem_nil, or_false] at hw
  rcases hw with e | e | e | e
  · rw [e]; exact h1
  · rw [e]; exact h2
  · rw [e]; exact h3
  · rw [e]; exact h4
theorem lw_SW {own : String} {idx : Nat} {y : MethodName} {b : ByteArray} {L : Nat} {r : Option FieldType} {hh : List (Nat × Nat × Nat × Nat)} (h1 : Cond.methodLink own idx y ∈ lw_all) (h2 : Cond.static y ∈ lw_all) (h3 : Cond.initialized y.cls ∈ lw_all) (h4 : Cond.codeWith y b L r hh ∈ lw_all) : GoodIn lw_all (va_wsS own idx y (wsW_ y b L r hh)) := by
  refine lw_app ?_ (lw_methW h4)
  intro w hw
  simp only [List.mem_cons, List.not_mem_nil, or_false] at hw
  rcases hw with e | e | e
  · rw [e]; exact h1
  · rw [e]; exact h2
  · rw [e]; exact h3
/-- a word by its place in its run of the tables -/
theorem lw_at {r : List Cond} (hr : ∀ w ∈ r, w ∈ lw_tbl) {w : Cond} (i : Nat) (h : r[i]? = some w) : w ∈ lw_tbl := hr w (List.mem_of_getElem? h)
theorem lw_g {w : Cond} (h : w ∈ lw_tbl) (g : goodWord w = true) : w ∈ lw_all := List.mem_filter.mpr ⟨h, g⟩
theorem lw_ms : ∀ w ∈ k2_sels lw_privs, w ∈ lw_tbl := fun w h => show w ∈ k2_sels lw_privs ++ tables_1 from List.mem_append_left _ h
theorem lw_m1 : ∀ w ∈ tables_1_1, w ∈ lw_tbl := fun w h => show w ∈ k2_sels lw_privs ++ tables_1 from List.mem_append_right (k2_sels lw_privs) (show w ∈ tables_1 from List.mem_append_left _ h)
theorem lw_m2 : ∀ w ∈ tables_1_2, w ∈ lw_tbl := fun w h => show w ∈ k2_sels lw_privs ++ tables_1 from List.mem_append_right (k2_sels lw_privs) (show w ∈ tables_1 from List.mem_append_right _ (List.mem_append_left _ h))
theorem lw_m3 : ∀ w ∈ tables_1_3, w ∈ lw_tbl := fun w h => show w ∈ k2_sels lw_privs ++ tables_1 from List.mem_append_right (k2_sels lw_privs) (show w ∈ tables_1 from List.mem_append_right _ (List.mem_append_right _ (List.mem_append_left _ h)))
theorem lw_m4 : ∀ w ∈ tables_1_4, w ∈ lw_tbl := fun w h => show w ∈ k2_sels lw_privs ++ tables_1 from List.mem_append_right (k2_sels lw_privs) (show w ∈ tables_1 from List.mem_append_right _ (List.mem_append_right _ (List.mem_append_right _ (List.mem_append_left _ h))))
theorem lw_m5 : ∀ w ∈ tables_1_5, w ∈ lw_tbl := fun w h => show w ∈ k2_sels lw_privs ++ tables_1 from List.mem_append_right (k2_sels lw_privs) (show w ∈ tables_1 from List.mem_append_right _ (List.mem_append_right _ (List.mem_append_right _ (List.mem_append_right _ (List.mem_append_left _ h)))))
theorem lw_m6 : ∀ w ∈ tables_1_6, w ∈ lw_tbl := fun w h => show w ∈ k2_sels lw_privs ++ tables_1 from List.mem_append_right (k2_sels lw_privs) (show w ∈ tables_1 from List.mem_append_right _ (List.mem_append_right _ (List.mem_append_right _ (List.mem_append_right _ (List.mem_append_right _ (List.mem_append_left _ h))))))
theorem lw_m7 : ∀ w ∈ tables_1_7, w ∈ lw_tbl := fun w h => show w ∈ k2_sels lw_privs ++ tables_1 from List.mem_append_right (k2_sels lw_privs) (show w ∈ tables_1 from List.mem_append_right _ (List.mem_append_right _ (List.mem_append_right _ (List.mem_append_right _ (List.mem_append_right _ (List.mem_append_right _ (List.mem_append_left _ h)))))))
theorem lw_m8 : ∀ w ∈ tables_1_8, w ∈ lw_tbl := fun w h => show w ∈ k2_sels lw_privs ++ tables_1 from List.mem_append_right (k2_sels lw_privs) (show w ∈ tables_1 from List.mem_append_right _ (List.mem_append_right _ (List.mem_append_right _ (List.mem_append_right _ (List.mem_append_right _ (List.mem_append_right _ (List.mem_append_right _ h)))))))
theorem qs0 : (Cond.selects "java/lang/Throwable" ⟨"java/lang/Throwable", "fillInStackTrace", "(I)Ljava/lang/Throwable;"⟩ ⟨"java/lang/Throwable", "fillInStackTrace", "(I)Ljava/lang/Throwable;"⟩) ∈ lw_all := lw_g (lw_at lw_ms 0 rfl) rfl
theorem qs1 : (Cond.selects "OwlEars" ⟨"OwlEars", "made", "(II)LOwlEars$Strike;"⟩ ⟨"OwlEars", "made", "(II)LOwlEars$Strike;"⟩) ∈ lw_all := lw_g (lw_at lw_ms 1 rfl) rfl
theorem qs2 : (Cond.selects "OwlEars" ⟨"OwlEars", "finding", "(I)I"⟩ ⟨"OwlEars", "finding", "(I)I"⟩) ∈ lw_all := lw_g (lw_at lw_ms 2 rfl) rfl
theorem qs3 : (Cond.selects "OwlEars" ⟨"OwlEars", "isOfMouse", "(II)Z"⟩ ⟨"OwlEars", "isOfMouse", "(II)Z"⟩) ∈ lw_all := lw_g (lw_at lw_ms 3 rfl) rfl
theorem qs4 : (Cond.selects "OwlEars" ⟨"OwlEars", "isStrike", "(I)Z"⟩ ⟨"OwlEars", "isStrike", "(I)Z"⟩) ∈ lw_all := lw_g (lw_at lw_ms 4 rfl) rfl
theorem qs5 : (Cond.selects "OwlEars" ⟨"OwlEars", "strikeOf", "(I)LOwlEars$Strike;"⟩ ⟨"OwlEars", "strikeOf", "(I)LOwlEars$Strike;"⟩) ∈ lw_all := lw_g (lw_at lw_ms 5 rfl) rfl
theorem qs6 : (Cond.selects "OwlEars" ⟨"OwlEars", "takesOf", "(I)I"⟩ ⟨"OwlEars", "takesOf", "(I)I"⟩) ∈ lw_all := lw_g (lw_at lw_ms 6 rfl) rfl
theorem qs7 : (Cond.selects "OwlEars" ⟨"OwlEars", "hasIt", "(I)Z"⟩ ⟨"OwlEars", "hasIt", "(I)Z"⟩) ∈ lw_all := lw_g (lw_at lw_ms 7 rfl) rfl
theorem qs8 : (Cond.selects "OwlEars" ⟨"OwlEars", "passes", "(I)V"⟩ ⟨"OwlEars", "passes", "(I)V"⟩) ∈ lw_all := lw_g (lw_at lw_ms 8 rfl) rfl
theorem qs9 : (Cond.selects "OwlEars" ⟨"OwlEars", "hits", "(I)Z"⟩ ⟨"OwlEars", "hits", "(I)Z"⟩) ∈ lw_all := lw_g (lw_at lw_ms 9 rfl) rfl
theorem qs10 : (Cond.selects "OwlEars" ⟨"OwlEars", "isMade", "(I)I"⟩ ⟨"OwlEars", "isMade", "(I)I"⟩) ∈ lw_all := lw_g (lw_at lw_ms 10 rfl) rfl
theorem qs11 : (Cond.selects "OwlEars" ⟨"OwlEars", "goesOn", "(I)I"⟩ ⟨"OwlEars", "goesOn", "(I)I"⟩) ∈ lw_all := lw_g (lw_at lw_ms 11 rfl) rfl
theorem qs12 : (Cond.selects "OwlEars$World" ⟨"OwlEars$World", "isAhead", "()Z"⟩ ⟨"OwlEars$World", "isAhead", "()Z"⟩) ∈ lw_all := lw_g (lw_at lw_ms 12 rfl) rfl
theorem qs13 : (Cond.selects "OwlEars" ⟨"OwlEars", "havingIt", "()I"⟩ ⟨"OwlEars", "havingIt", "()I"⟩) ∈ lw_all := lw_g (lw_at lw_ms 13 rfl) rfl
theorem qs14 : (Cond.selects "OwlEars" ⟨"OwlEars", "cellBehind", "(I)I"⟩ ⟨"OwlEars", "cellBehind", "(I)I"⟩) ∈ lw_all := lw_g (lw_at lw_ms 14 rfl) rfl
theorem qs15 : (Cond.selects "OwlEars" ⟨"OwlEars", "heardIn", "(I)I"⟩ ⟨"OwlEars", "heardIn", "(I)I"⟩) ∈ lw_all := lw_g (lw_at lw_ms 15 rfl) rfl
theorem qs16 : (Cond.selects "OwlEars" ⟨"OwlEars", "ticksTill", "(I)I"⟩ ⟨"OwlEars", "ticksTill", "(I)I"⟩) ∈ lw_all := lw_g (lw_at lw_ms 16 rfl) rfl
theorem qs17 : (Cond.selects "OwlEars" ⟨"OwlEars", "orNone", "(I)I"⟩ ⟨"OwlEars", "orNone", "(I)I"⟩) ∈ lw_all := lw_g (lw_at lw_ms 17 rfl) rfl
theorem qs18 : (Cond.selects "OwlEars" ⟨"OwlEars", "cellsIn", "(I)J"⟩ ⟨"OwlEars", "cellsIn", "(I)J"⟩) ∈ lw_all := lw_g (lw_at lw_ms 18 rfl) rfl
theorem qs19 : (Cond.selects "OwlEars" ⟨"OwlEars", "soonestFor", "(I)I"⟩ ⟨"OwlEars", "soonestFor", "(I)I"⟩) ∈ lw_all := lw_g (lw_at lw_ms 19 rfl) rfl
theorem qs20 : (Cond.selects "OwlEars" ⟨"OwlEars", "chancesOf", "(II)I"⟩ ⟨"OwlEars", "chancesOf", "(II)I"⟩) ∈ lw_all := lw_g (lw_at lw_ms 20 rfl) rfl
theorem qs21 : (Cond.selects "OwlEars" ⟨"OwlEars", "allThatHave", "(III)J"⟩ ⟨"OwlEars", "allThatHave", "(III)J"⟩) ∈ lw_all := lw_g (lw_at lw_ms 21 rfl) rfl
theorem qs22 : (Cond.selects "OwlEars" ⟨"OwlEars", "leastOf", "(J)I"⟩ ⟨"OwlEars", "leastOf", "(J)I"⟩) ∈ lw_all := lw_g (lw_at lw_ms 22 rfl) rfl
theorem qs23 : (Cond.selects "OwlEars" ⟨"OwlEars", "bestIn", "(I)I"⟩ ⟨"OwlEars", "bestIn", "(I)I"⟩) ∈ lw_all := lw_g (lw_at lw_ms 23 rfl) rfl
theorem qs24 : (Cond.selects "OwlEars" ⟨"OwlEars", "bestOwl", "(III)I"⟩ ⟨"OwlEars", "bestOwl", "(III)I"⟩) ∈ lw_all := lw_g (lw_at lw_ms 24 rfl) rfl
theorem qs25 : (Cond.selects "OwlEars" ⟨"OwlEars", "areTicks", "(II)Z"⟩ ⟨"OwlEars", "areTicks", "(II)Z"⟩) ∈ lw_all := lw_g (lw_at lw_ms 25 rfl) rfl
theorem qs26 : (Cond.selects "OwlEars" ⟨"OwlEars", "quietest", "(II)I"⟩ ⟨"OwlEars", "quietest", "(II)I"⟩) ∈ lw_all := lw_g (lw_at lw_ms 26 rfl) rfl
theorem qs27 : (Cond.selects "OwlEars" ⟨"OwlEars", "heardBy", "(III)I"⟩ ⟨"OwlEars", "heardBy", "(III)I"⟩) ∈ lw_all := lw_g (lw_at lw_ms 27 rfl) rfl
theorem qs28 : (Cond.selects "OwlEars" ⟨"OwlEars", "runsIn", "(I)I"⟩ ⟨"OwlEars", "runsIn", "(I)I"⟩) ∈ lw_all := lw_g (lw_at lw_ms 28 rfl) rfl
theorem qs29 : (Cond.selects "OwlEars" ⟨"OwlEars", "allThatFit", "(IIII)J"⟩ ⟨"OwlEars", "allThatFit", "(IIII)J"⟩) ∈ lw_all := lw_g (lw_at lw_ms 29 rfl) rfl
theorem qs30 : (Cond.selects "OwlEars" ⟨"OwlEars", "rowAt", "(I)Ljava/lang/Object;"⟩ ⟨"OwlEars", "rowAt", "(I)Ljava/lang/Object;"⟩) ∈ lw_all := lw_g (lw_at lw_ms 30 rfl) rfl
theorem qs31 : (Cond.selects "OwlEars" ⟨"OwlEars", "need", "(ZI)V"⟩ ⟨"OwlEars", "need", "(ZI)V"⟩) ∈ lw_all := lw_g (lw_at lw_ms 31 rfl) rfl
theorem qs32 : (Cond.selects "OwlEars" ⟨"OwlEars", "refused", "(I)LOwlEars$Refusal;"⟩ ⟨"OwlEars", "refused", "(I)LOwlEars$Refusal;"⟩) ∈ lw_all := lw_g (lw_at lw_ms 32 rfl) rfl
theorem qs33 : (Cond.selects "OwlEars" ⟨"OwlEars", "areHeardSo", "(Ljava/lang/Object;I)Z"⟩ ⟨"OwlEars", "areHeardSo", "(Ljava/lang/Object;I)Z"⟩) ∈ lw_all := lw_g (lw_at lw_ms 33 rfl) rfl
theorem qs34 : (Cond.selects "OwlEars" ⟨"OwlEars", "isHeardSo", "(II)Z"⟩ ⟨"OwlEars", "isHeardSo", "(II)Z"⟩) ∈ lw_all := lw_g (lw_at lw_ms 34 rfl) rfl
theorem qs35 : (Cond.selects "OwlEars" ⟨"OwlEars", "rustles", "(I)I"⟩ ⟨"OwlEars", "rustles", "(I)I"⟩) ∈ lw_all := lw_g (lw_at lw_ms 35 rfl) rfl
theorem qs36 : (Cond.selects "OwlEars$Reader" ⟨"OwlEars$Reader", "next", "()V"⟩ ⟨"OwlEars$Reader", "next", "()V"⟩) ∈ lw_all := lw_g (lw_at lw_ms 36 rfl) rfl
theorem qs37 : (Cond.selects "OwlEars$Reader" ⟨"OwlEars$Reader", "byteAt", "(I)I"⟩ ⟨"OwlEars$Reader", "byteAt", "(I)I"⟩) ∈ lw_all := lw_g (lw_at lw_ms 37 rfl) rfl
theorem qs38 : (Cond.selects "OwlEars$Reader" ⟨"OwlEars$Reader", "word", "()V"⟩ ⟨"OwlEars$Reader", "word", "()V"⟩) ∈ lw_all := lw_g (lw_at lw_ms 38 rfl) rfl
theorem qs39 : (Cond.selects "OwlEars$Reader" ⟨"OwlEars$Reader", "isKey", "(II)Z"⟩ ⟨"OwlEars$Reader", "isKey", "(II)Z"⟩) ∈ lw_all := lw_g (lw_at lw_ms 39 rfl) rfl
theorem qs40 : (Cond.selects "OwlEars$Reader" ⟨"OwlEars$Reader", "need", "(Z)V"⟩ ⟨"OwlEars$Reader", "need", "(Z)V"⟩) ∈ lw_all := lw_g (lw_at lw_ms 40 rfl) rfl
theorem qs41 : (Cond.selects "OwlEars$Reader" ⟨"OwlEars$Reader", "digits", "()V"⟩ ⟨"OwlEars$Reader", "digits", "()V"⟩) ∈ lw_all := lw_g (lw_at lw_ms 41 rfl) rfl
theorem qs42 : (Cond.selects "OwlEars$Reader" ⟨"OwlEars$Reader", "item", "()V"⟩ ⟨"OwlEars$Reader", "item", "()V"⟩) ∈ lw_all := lw_g (lw_at lw_ms 42 rfl) rfl
theorem qs43 : (Cond.selects "OwlEars$Reader" ⟨"OwlEars$Reader", "mouse", "()V"⟩ ⟨"OwlEars$Reader", "mouse", "()V"⟩) ∈ lw_all := lw_g (lw_at lw_ms 43 rfl) rfl
theorem qs44 : (Cond.selects "OwlEars$Reader" ⟨"OwlEars$Reader", "behind", "(II)I"⟩ ⟨"OwlEars$Reader", "behind", "(II)I"⟩) ∈ lw_all := lw_g (lw_at lw_ms 44 rfl) rfl
theorem qs45 : (Cond.selects "OwlEars$Reader" ⟨"OwlEars$Reader", "number", "(II)I"⟩ ⟨"OwlEars$Reader", "number", "(II)I"⟩) ∈ lw_all := lw_g (lw_at lw_ms 45 rfl) rfl
theorem qs46 : (Cond.selects "OwlEars$Reader" ⟨"OwlEars$Reader", "heading", "(I)I"⟩ ⟨"OwlEars$Reader", "heading", "(I)I"⟩) ∈ lw_all := lw_g (lw_at lw_ms 46 rfl) rfl
theorem qs47 : (Cond.selects "OwlEars$Reader" ⟨"OwlEars$Reader", "isWord", "(I)Z"⟩ ⟨"OwlEars$Reader", "isWord", "(I)Z"⟩) ∈ lw_all := lw_g (lw_at lw_ms 47 rfl) rfl
theorem qs48 : (Cond.selects "OwlEars$Reader" ⟨"OwlEars$Reader", "owl", "()V"⟩ ⟨"OwlEars$Reader", "owl", "()V"⟩) ∈ lw_all := lw_g (lw_at lw_ms 48 rfl) rfl
theorem qs49 : (Cond.selects "OwlEars$Reader" ⟨"OwlEars$Reader", "row", "([II)V"⟩ ⟨"OwlEars$Reader", "row", "([II)V"⟩) ∈ lw_all := lw_g (lw_at lw_ms 49 rfl) rfl
theorem qs50 : (Cond.selects "OwlEars$Reader" ⟨"OwlEars$Reader", "strike", "(I)V"⟩ ⟨"OwlEars$Reader", "strike", "(I)V"⟩) ∈ lw_all := lw_g (lw_at lw_ms 50 rfl) rfl
theorem qs51 : (Cond.selects "OwlEars" ⟨"OwlEars", "thingAt", "(I)Ljava/lang/Object;"⟩ ⟨"OwlEars", "thingAt", "(I)Ljava/lang/Object;"⟩) ∈ lw_all := lw_g (lw_at lw_ms 51 rfl) rfl
theorem qs52 : (Cond.selects "OwlEars" ⟨"OwlEars", "loads", "(Ljava/lang/Object;)I"⟩ ⟨"OwlEars", "loads", "(Ljava/lang/Object;)I"⟩) ∈ lw_all := lw_g (lw_at lw_ms 52 rfl) rfl
theorem qs53 : (Cond.selects "OwlEars" ⟨"OwlEars", "rightOnes", "(Ljava/lang/Object;)I"⟩ ⟨"OwlEars", "rightOnes", "(Ljava/lang/Object;)I"⟩) ∈ lw_all := lw_g (lw_at lw_ms 53 rfl) rfl
theorem qs54 : (Cond.selects "OwlEars" ⟨"OwlEars", "holding", "()I"⟩ ⟨"OwlEars", "holding", "()I"⟩) ∈ lw_all := lw_g (lw_at lw_ms 54 rfl) rfl
theorem qs55 : (Cond.selects "OwlEarsModel" ⟨"OwlEarsModel", "become", "(II)I"⟩ ⟨"OwlEarsModel", "become", "(II)I"⟩) ∈ lw_all := lw_g (lw_at lw_ms 55 rfl) rfl
theorem qs56 : (Cond.selects "OwlEarsModel" ⟨"OwlEarsModel", "finding", "(I)I"⟩ ⟨"OwlEarsModel", "finding", "(I)I"⟩) ∈ lw_all := lw_g (lw_at lw_ms 56 rfl) rfl
theorem qs57 : (Cond.selects "OwlEarsModel" ⟨"OwlEarsModel", "loudAt", "(I)I"⟩ ⟨"OwlEarsModel", "loudAt", "(I)I"⟩) ∈ lw_all := lw_g (lw_at lw_ms 57 rfl) rfl
theorem qs58 : (Cond.selects "OwlEarsModel" ⟨"OwlEarsModel", "loud", "()I"⟩ ⟨"OwlEarsModel", "loud", "()I"⟩) ∈ lw_all := lw_g (lw_at lw_ms 58 rfl) rfl
theorem qs59 : (Cond.selects "OwlEarsModel" ⟨"OwlEarsModel", "isRunning", "()Z"⟩ ⟨"OwlEarsModel", "isRunning", "()Z"⟩) ∈ lw_all := lw_g (lw_at lw_ms 59 rfl) rfl
theorem qs60 : (Cond.selects "OwlEarsModel" ⟨"OwlEarsModel", "mayBeMouse", "(II)Z"⟩ ⟨"OwlEarsModel", "mayBeMouse", "(II)Z"⟩) ∈ lw_all := lw_g (lw_at lw_ms 60 rfl) rfl
theorem qs61 : (Cond.selects "OwlEarsModel" ⟨"OwlEarsModel", "comes", "(III)I"⟩ ⟨"OwlEarsModel", "comes", "(III)I"⟩) ∈ lw_all := lw_g (lw_at lw_ms 61 rfl) rfl
theorem qs62 : (Cond.selects "OwlEarsModel" ⟨"OwlEarsModel", "isStrike", "(I)Z"⟩ ⟨"OwlEarsModel", "isStrike", "(I)Z"⟩) ∈ lw_all := lw_g (lw_at lw_ms 62 rfl) rfl
theorem qs63 : (Cond.selects "OwlEarsModel" ⟨"OwlEarsModel", "takes", "(I)I"⟩ ⟨"OwlEarsModel", "takes", "(I)I"⟩) ∈ lw_all := lw_g (lw_at lw_ms 63 rfl) rfl
theorem qs64 : (Cond.selects "OwlEarsModel" ⟨"OwlEarsModel", "strikeIs", "(II)I"⟩ ⟨"OwlEarsModel", "strikeIs", "(II)I"⟩) ∈ lw_all := lw_g (lw_at lw_ms 64 rfl) rfl
theorem qs65 : (Cond.selects "OwlEarsModel" ⟨"OwlEarsModel", "deep", "(I)I"⟩ ⟨"OwlEarsModel", "deep", "(I)I"⟩) ∈ lw_all := lw_g (lw_at lw_ms 65 rfl) rfl
theorem qs66 : (Cond.selects "OwlEarsModel" ⟨"OwlEarsModel", "wide", "(I)I"⟩ ⟨"OwlEarsModel", "wide", "(I)I"⟩) ∈ lw_all := lw_g (lw_at lw_ms 66 rfl) rfl
theorem qs67 : (Cond.selects "OwlEarsModel" ⟨"OwlEarsModel", "has", "(I)Z"⟩ ⟨"OwlEarsModel", "has", "(I)Z"⟩) ∈ lw_all := lw_g (lw_at lw_ms 67 rfl) rfl
theorem qs68 : (Cond.selects "OwlEarsModel" ⟨"OwlEarsModel", "ticks", "(I)V"⟩ ⟨"OwlEarsModel", "ticks", "(I)V"⟩) ∈ lw_all := lw_g (lw_at lw_ms 68 rfl) rfl
theorem qs69 : (Cond.selects "OwlEarsModel" ⟨"OwlEarsModel", "tick", "()V"⟩ ⟨"OwlEarsModel", "tick", "()V"⟩) ∈ lw_all := lw_g (lw_at lw_ms 69 rfl) rfl
theorem qs70 : (Cond.selects "OwlEarsModel" ⟨"OwlEarsModel", "reaches", "(I)Z"⟩ ⟨"OwlEarsModel", "reaches", "(I)Z"⟩) ∈ lw_all := lw_g (lw_at lw_ms 70 rfl) rfl
theorem qs71 : (Cond.selects "OwlEarsModel" ⟨"OwlEarsModel", "strikesNow", "(I)I"⟩ ⟨"OwlEarsModel", "strikesNow", "(I)I"⟩) ∈ lw_all := lw_g (lw_at lw_ms 71 rfl) rfl
theorem qs72 : (Cond.selects "OwlEarsModel" ⟨"OwlEarsModel", "hears", "()Z"⟩ ⟨"OwlEarsModel", "hears", "()Z"⟩) ∈ lw_all := lw_g (lw_at lw_ms 72 rfl) rfl
theorem qs73 : (Cond.selects "OwlEarsModel" ⟨"OwlEarsModel", "isAhead", "()Z"⟩ ⟨"OwlEarsModel", "isAhead", "()Z"⟩) ∈ lw_all := lw_g (lw_at lw_ms 73 rfl) rfl
theorem qs74 : (Cond.selects "OwlEarsModel" ⟨"OwlEarsModel", "high", "()I"⟩ ⟨"OwlEarsModel", "high", "()I"⟩) ∈ lw_all := lw_g (lw_at lw_ms 74 rfl) rfl
theorem qs75 : (Cond.selects "OwlEarsModel" ⟨"OwlEarsModel", "side", "()I"⟩ ⟨"OwlEarsModel", "side", "()I"⟩) ∈ lw_all := lw_g (lw_at lw_ms 75 rfl) rfl
theorem qs76 : (Cond.selects "OwlEarsModel" ⟨"OwlEarsModel", "having", "()I"⟩ ⟨"OwlEarsModel", "having", "()I"⟩) ∈ lw_all := lw_g (lw_at lw_ms 76 rfl) rfl
theorem qs77 : (Cond.selects "OwlEarsModel" ⟨"OwlEarsModel", "hadAll", "()I"⟩ ⟨"OwlEarsModel", "hadAll", "()I"⟩) ∈ lw_all := lw_g (lw_at lw_ms 77 rfl) rfl
theorem qs78 : (Cond.selects "OwlEarsModel" ⟨"OwlEarsModel", "snowAll", "()I"⟩ ⟨"OwlEarsModel", "snowAll", "()I"⟩) ∈ lw_all := lw_g (lw_at lw_ms 78 rfl) rfl
theorem qs79 : (Cond.selects "OwlEarsModel" ⟨"OwlEarsModel", "putBack", "(I)I"⟩ ⟨"OwlEarsModel", "putBack", "(I)I"⟩) ∈ lw_all := lw_g (lw_at lw_ms 79 rfl) rfl
theorem qs80 : (Cond.selects "OwlEarsModel" ⟨"OwlEarsModel", "heardIn", "(I)I"⟩ ⟨"OwlEarsModel", "heardIn", "(I)I"⟩) ∈ lw_all := lw_g (lw_at lw_ms 80 rfl) rfl
theorem qs81 : (Cond.selects "OwlEarsModel" ⟨"OwlEarsModel", "orNone", "(I)I"⟩ ⟨"OwlEarsModel", "orNone", "(I)I"⟩) ∈ lw_all := lw_g (lw_at lw_ms 81 rfl) rfl
theorem qs82 : (Cond.selects "OwlEarsModel" ⟨"OwlEarsModel", "chancesIn", "(II)I"⟩ ⟨"OwlEarsModel", "chancesIn", "(II)I"⟩) ∈ lw_all := lw_g (lw_at lw_ms 82 rfl) rfl
theorem qs83 : (Cond.selects "OwlEarsModel" ⟨"OwlEarsModel", "aimsOf", "(I)J"⟩ ⟨"OwlEarsModel", "aimsOf", "(I)J"⟩) ∈ lw_all := lw_g (lw_at lw_ms 83 rfl) rfl
theorem qs84 : (Cond.selects "OwlEarsModel" ⟨"OwlEarsModel", "good", "(III)I"⟩ ⟨"OwlEarsModel", "good", "(III)I"⟩) ∈ lw_all := lw_g (lw_at lw_ms 84 rfl) rfl
theorem qs85 : (Cond.selects "OwlEarsModel" ⟨"OwlEarsModel", "mostHeard", "(III)I"⟩ ⟨"OwlEarsModel", "mostHeard", "(III)I"⟩) ∈ lw_all := lw_g (lw_at lw_ms 85 rfl) rfl
theorem qs86 : (Cond.selects "OwlEarsModel" ⟨"OwlEarsModel", "quietest", "(II)I"⟩ ⟨"OwlEarsModel", "quietest", "(II)I"⟩) ∈ lw_all := lw_g (lw_at lw_ms 86 rfl) rfl
theorem qs87 : (Cond.selects "OwlEarsModel" ⟨"OwlEarsModel", "lacksFor", "(II)I"⟩ ⟨"OwlEarsModel", "lacksFor", "(II)I"⟩) ∈ lw_all := lw_g (lw_at lw_ms 87 rfl) rfl
theorem qs88 : (Cond.selects "OwlEarsModel" ⟨"OwlEarsModel", "lacks", "(I)I"⟩ ⟨"OwlEarsModel", "lacks", "(I)I"⟩) ∈ lw_all := lw_g (lw_at lw_ms 88 rfl) rfl
theorem qs89 : (Cond.selects "OwlEarsModel" ⟨"OwlEarsModel", "fitting", "(IIII)J"⟩ ⟨"OwlEarsModel", "fitting", "(IIII)J"⟩) ∈ lw_all := lw_g (lw_at lw_ms 89 rfl) rfl
theorem qs90 : (Cond.selects "OwlEarsModel" ⟨"OwlEarsModel", "wasHeard", "(II)Z"⟩ ⟨"OwlEarsModel", "wasHeard", "(II)Z"⟩) ∈ lw_all := lw_g (lw_at lw_ms 90 rfl) rfl
theorem qs91 : (Cond.selects "OwlEarsModel" ⟨"OwlEarsModel", "isHeardSo", "(II)Z"⟩ ⟨"OwlEarsModel", "isHeardSo", "(II)Z"⟩) ∈ lw_all := lw_g (lw_at lw_ms 91 rfl) rfl
theorem qs92 : (Cond.selects "OwlEarsModel" ⟨"OwlEarsModel", "drawn", "()I"⟩ ⟨"OwlEarsModel", "drawn", "()I"⟩) ∈ lw_all := lw_g (lw_at lw_ms 92 rfl) rfl
theorem qs93 : (Cond.selects "OwlEarsModel" ⟨"OwlEarsModel", "next", "()V"⟩ ⟨"OwlEarsModel", "next", "()V"⟩) ∈ lw_all := lw_g (lw_at lw_ms 93 rfl) rfl
theorem qs94 : (Cond.selects "OwlEarsModel" ⟨"OwlEarsModel", "byteAt", "(I)I"⟩ ⟨"OwlEarsModel", "byteAt", "(I)I"⟩) ∈ lw_all := lw_g (lw_at lw_ms 94 rfl) rfl
theorem qs95 : (Cond.selects "OwlEarsModel" ⟨"OwlEarsModel", "readItem", "()V"⟩ ⟨"OwlEarsModel", "readItem", "()V"⟩) ∈ lw_all := lw_g (lw_at lw_ms 95 rfl) rfl
theorem qs96 : (Cond.selects "OwlEarsModel" ⟨"OwlEarsModel", "wordOf", "([Ljava/lang/String;)I"⟩ ⟨"OwlEarsModel", "wordOf", "([Ljava/lang/String;)I"⟩) ∈ lw_all := lw_g (lw_at lw_ms 96 rfl) rfl
theorem qs97 : (Cond.selects "OwlEarsModel" ⟨"OwlEarsModel", "isWord", "(Ljava/lang/String;)Z"⟩ ⟨"OwlEarsModel", "isWord", "(Ljava/lang/String;)Z"⟩) ∈ lw_all := lw_g (lw_at lw_ms 97 rfl) rfl
theorem qs98 : (Cond.selects "OwlEarsModel" ⟨"OwlEarsModel", "must", "(Z)V"⟩ ⟨"OwlEarsModel", "must", "(Z)V"⟩) ∈ lw_all := lw_g (lw_at lw_ms 98 rfl) rfl
theorem qs99 : (Cond.selects "OwlEarsModel" ⟨"OwlEarsModel", "number", "(II)I"⟩ ⟨"OwlEarsModel", "number", "(II)I"⟩) ∈ lw_all := lw_g (lw_at lw_ms 99 rfl) rfl
theorem qs100 : (Cond.selects "OwlEarsModel" ⟨"OwlEarsModel", "afterWord", "(Ljava/lang/String;II)I"⟩ ⟨"OwlEarsModel", "afterWord", "(Ljava/lang/String;II)I"⟩) ∈ lw_all := lw_g (lw_at lw_ms 100 rfl) rfl
theorem qs101 : (Cond.selects "OwlEarsModel" ⟨"OwlEarsModel", "addItem", "(IIIII)V"⟩ ⟨"OwlEarsModel", "addItem", "(IIIII)V"⟩) ∈ lw_all := lw_g (lw_at lw_ms 101 rfl) rfl
theorem qs102 : (Cond.selects "OwlEarsModel" ⟨"OwlEarsModel", "readMouse", "()V"⟩ ⟨"OwlEarsModel", "readMouse", "()V"⟩) ∈ lw_all := lw_g (lw_at lw_ms 102 rfl) rfl
theorem qs103 : (Cond.selects "OwlEarsModel" ⟨"OwlEarsModel", "headingTold", "()I"⟩ ⟨"OwlEarsModel", "headingTold", "()I"⟩) ∈ lw_all := lw_g (lw_at lw_ms 103 rfl) rfl
theorem qs104 : (Cond.selects "OwlEarsModel" ⟨"OwlEarsModel", "readLying", "(II)V"⟩ ⟨"OwlEarsModel", "readLying", "(II)V"⟩) ∈ lw_all := lw_g (lw_at lw_ms 104 rfl) rfl
theorem qs105 : (Cond.selects "OwlEarsModel" ⟨"OwlEarsModel", "isToldSo", "(I)I"⟩ ⟨"OwlEarsModel", "isToldSo", "(I)I"⟩) ∈ lw_all := lw_g (lw_at lw_ms 105 rfl) rfl
theorem qs106 : (Cond.selects "OwlEarsModel" ⟨"OwlEarsModel", "tellsTo", "(II)V"⟩ ⟨"OwlEarsModel", "tellsTo", "(II)V"⟩) ∈ lw_all := lw_g (lw_at lw_ms 106 rfl) rfl
