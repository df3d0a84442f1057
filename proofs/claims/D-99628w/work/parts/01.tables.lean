-- ===== PART A: goes FIRST, ahead of the names: the tables' words, and 'selects' of the private methods out of them =====
/-- a private method of a class that the tables say can be made, by its rows of tables_1 -/
def lw_okq (q : MethodName × Nat) : Prop := (q.1.cls ≠ "java/lang/invoke/MethodHandle" ∧ q.1.cls ≠ "java/lang/invoke/VarHandle") ∧ Cond.instantiable q.1.cls q.2 ∈ tables_1 ∧ Cond.privateMethod q.1 ∈ tables_1 ∧ Cond.instanceMethod q.1 ∈ tables_1
set_option maxRecDepth 100000
theorem lw_t1 {w : Cond} (h : w ∈ tables_1_1) : w ∈ tables_1 := List.mem_append_left _ h
theorem lw_t2 {w : Cond} (h : w ∈ tables_1_2) : w ∈ tables_1 := List.mem_append_right _ (List.mem_append_left _ h)
theorem lw_t3 {w : Cond} (h : w ∈ tables_1_3) : w ∈ tables_1 := List.mem_append_right _ (List.mem_append_right _ (List.mem_append_left _ h))
theorem lw_t4 {w : Cond} (h : w ∈ tables_1_4) : w ∈ tables_1 := List.mem_append_right _ (List.mem_append_right _ (List.mem_append_right _ (List.mem_append_left _ h)))
theorem lw_t5 {w : Cond} (h : w ∈ tables_1_5) : w ∈ tables_1 := List.mem_append_right _ (List.mem_append_right _ (List.mem_append_right _ (List.mem_append_right _ (List.mem_append_left _ h))))
theorem lw_t6 {w : Cond} (h : w ∈ tables_1_6) : w ∈ tables_1 := List.mem_append_right _ (List.mem_append_right _ (List.mem_append_right _ (List.mem_append_right _ (List.mem_append_right _ (List.mem_append_left _ h)))))
theorem lw_t7 {w : Cond} (h : w ∈ tables_1_7) : w ∈ tables_1 := List.mem_append_right _ (List.mem_append_right _ (List.mem_append_right _ (List.mem_append_right _ (List.mem_append_right _ (List.mem_append_right _ (List.mem_append_left _ h))))))
theorem lw_t8 {w : Cond} (h : w ∈ tables_1_8) : w ∈ tables_1 := List.mem_append_right _ (List.mem_append_right _ (List.mem_append_right _ (List.mem_append_right _ (List.mem_append_right _ (List.mem_append_right _ (List.mem_append_right _ h))))))
theorem lw_p0 : lw_okq (⟨"BonnetValley", "words", "(I)LBonnetValley$Words;"⟩, 31) := ⟨⟨by decide +kernel, by decide +kernel⟩, lw_t1 (List.mem_of_getElem? (i := 28) rfl), lw_t1 (List.mem_of_getElem? (i := 239) rfl), lw_t2 (List.mem_of_getElem? (i := 0) rfl)⟩
theorem lw_p1 : lw_okq (⟨"java/lang/Throwable", "fillInStackTrace", "(I)Ljava/lang/Throwable;"⟩, 6) := ⟨⟨by decide +kernel, by decide +kernel⟩, lw_t2 (List.mem_of_getElem? (i := 91) rfl), lw_t2 (List.mem_of_getElem? (i := 89) rfl), lw_t2 (List.mem_of_getElem? (i := 90) rfl)⟩
theorem lw_p2 : lw_okq (⟨"BonnetValley", "comes", "()V"⟩, 31) := ⟨⟨by decide +kernel, by decide +kernel⟩, lw_t1 (List.mem_of_getElem? (i := 28) rfl), lw_t2 (List.mem_of_getElem? (i := 133) rfl), lw_t2 (List.mem_of_getElem? (i := 134) rfl)⟩
theorem lw_p3 : lw_okq (⟨"BonnetValley", "field", "(LBonnetValley$Words;)I"⟩, 31) := ⟨⟨by decide +kernel, by decide +kernel⟩, lw_t1 (List.mem_of_getElem? (i := 28) rfl), lw_t2 (List.mem_of_getElem? (i := 141) rfl), lw_t2 (List.mem_of_getElem? (i := 142) rfl)⟩
theorem lw_p4 : lw_okq (⟨"BonnetValley", "isRock", "(I)Z"⟩, 31) := ⟨⟨by decide +kernel, by decide +kernel⟩, lw_t1 (List.mem_of_getElem? (i := 28) rfl), lw_t2 (List.mem_of_getElem? (i := 145) rfl), lw_t2 (List.mem_of_getElem? (i := 146) rfl)⟩
theorem lw_p5 : lw_okq (⟨"BonnetValley$Rule", "held", "(I)I"⟩, 8) := ⟨⟨by decide +kernel, by decide +kernel⟩, lw_t2 (List.mem_of_getElem? (i := 177) rfl), lw_t2 (List.mem_of_getElem? (i := 204) rfl), lw_t2 (List.mem_of_getElem? (i := 205) rfl)⟩
theorem lw_p6 : lw_okq (⟨"BonnetValley$Rule", "sum", "(I)I"⟩, 8) := ⟨⟨by decide +kernel, by decide +kernel⟩, lw_t2 (List.mem_of_getElem? (i := 177) rfl), lw_t2 (List.mem_of_getElem? (i := 208) rfl), lw_t2 (List.mem_of_getElem? (i := 209) rfl)⟩
theorem lw_p7 : lw_okq (⟨"BonnetValley$Rule", "product", "(I)I"⟩, 8) := ⟨⟨by decide +kernel, by decide +kernel⟩, lw_t2 (List.mem_of_getElem? (i := 177) rfl), lw_t2 (List.mem_of_getElem? (i := 212) rfl), lw_t2 (List.mem_of_getElem? (i := 213) rfl)⟩
theorem lw_p8 : lw_okq (⟨"BonnetValley$Rule", "thing", "(I)I"⟩, 8) := ⟨⟨by decide +kernel, by decide +kernel⟩, lw_t2 (List.mem_of_getElem? (i := 177) rfl), lw_t2 (List.mem_of_getElem? (i := 216) rfl), lw_t2 (List.mem_of_getElem? (i := 217) rfl)⟩
theorem lw_p9 : lw_okq (⟨"BonnetValley$Rule", "value", "(I)I"⟩, 8) := ⟨⟨by decide +kernel, by decide +kernel⟩, lw_t2 (List.mem_of_getElem? (i := 177) rfl), lw_t3 (List.mem_of_getElem? (i := 87) rfl), lw_t3 (List.mem_of_getElem? (i := 88) rfl)⟩
theorem lw_p10 : lw_okq (⟨"BonnetValley", "lightOf", "(I)I"⟩, 31) := ⟨⟨by decide +kernel, by decide +kernel⟩, lw_t1 (List.mem_of_getElem? (i := 28) rfl), lw_t3 (List.mem_of_getElem? (i := 91) rfl), lw_t3 (List.mem_of_getElem? (i := 92) rfl)⟩
theorem lw_p11 : lw_okq (⟨"BonnetValley", "peopleOn", "(LBonnetValley$Upland;J)I"⟩, 31) := ⟨⟨by decide +kernel, by decide +kernel⟩, lw_t1 (List.mem_of_getElem? (i := 28) rfl), lw_t3 (List.mem_of_getElem? (i := 101) rfl), lw_t3 (List.mem_of_getElem? (i := 102) rfl)⟩
theorem lw_p12 : lw_okq (⟨"BonnetValley", "brims", "(LBonnetValley$Upland;)I"⟩, 31) := ⟨⟨by decide +kernel, by decide +kernel⟩, lw_t1 (List.mem_of_getElem? (i := 28) rfl), lw_t3 (List.mem_of_getElem? (i := 151) rfl), lw_t3 (List.mem_of_getElem? (i := 152) rfl)⟩
theorem lw_p13 : lw_okq (⟨"BonnetValley", "remember", "(LBonnetValley$Upland;)V"⟩, 31) := ⟨⟨by decide +kernel, by decide +kernel⟩, lw_t1 (List.mem_of_getElem? (i := 28) rfl), lw_t3 (List.mem_of_getElem? (i := 161) rfl), lw_t3 (List.mem_of_getElem? (i := 162) rfl)⟩
theorem lw_p14 : lw_okq (⟨"BonnetValley", "known", "(LBonnetValley$Upland;)I"⟩, 31) := ⟨⟨by decide +kernel, by decide +kernel⟩, lw_t1 (List.mem_of_getElem? (i := 28) rfl), lw_t3 (List.mem_of_getElem? (i := 173) rfl), lw_t3 (List.mem_of_getElem? (i := 174) rfl)⟩
theorem lw_p15 : lw_okq (⟨"BonnetValley", "goHours", "(LBonnetValley$Upland;I)V"⟩, 31) := ⟨⟨by decide +kernel, by decide +kernel⟩, lw_t1 (List.mem_of_getElem? (i := 28) rfl), lw_t3 (List.mem_of_getElem? (i := 178) rfl), lw_t3 (List.mem_of_getElem? (i := 179) rfl)⟩
def lw_privs_1 : List (MethodName × Nat) := [(⟨"BonnetValley", "words", "(I)LBonnetValley$Words;"⟩, 31), (⟨"java/lang/Throwable", "fillInStackTrace", "(I)Ljava/lang/Throwable;"⟩, 6), (⟨"BonnetValley", "comes", "()V"⟩, 31), (⟨"BonnetValley", "field", "(LBonnetValley$Words;)I"⟩, 31), (⟨"BonnetValley", "isRock", "(I)Z"⟩, 31), (⟨"BonnetValley$Rule", "held", "(I)I"⟩, 8), (⟨"BonnetValley$Rule", "sum", "(I)I"⟩, 8), (⟨"BonnetValley$Rule", "product", "(I)I"⟩, 8), (⟨"BonnetValley$Rule", "thing", "(I)I"⟩, 8), (⟨"BonnetValley$Rule", "value", "(I)I"⟩, 8), (⟨"BonnetValley", "lightOf", "(I)I"⟩, 31), (⟨"BonnetValley", "peopleOn", "(LBonnetValley$Upland;J)I"⟩, 31), (⟨"BonnetValley", "brims", "(LBonnetValley$Upland;)I"⟩, 31), (⟨"BonnetValley", "remember", "(LBonnetValley$Upland;)V"⟩, 31), (⟨"BonnetValley", "known", "(LBonnetValley$Upland;)I"⟩, 31), (⟨"BonnetValley", "goHours", "(LBonnetValley$Upland;I)V"⟩, 31)]
theorem lw_r1 : ∀ q ∈ lw_privs_1, lw_okq q := List.forall_mem_cons.mpr ⟨lw_p0, List.forall_mem_cons.mpr ⟨lw_p1, List.forall_mem_cons.mpr ⟨lw_p2, List.forall_mem_cons.mpr ⟨lw_p3, List.forall_mem_cons.mpr ⟨lw_p4, List.forall_mem_cons.mpr ⟨lw_p5, List.forall_mem_cons.mpr ⟨lw_p6, List.forall_mem_cons.mpr ⟨lw_p7, List.forall_mem_cons.mpr ⟨lw_p8, List.forall_mem_cons.mpr ⟨lw_p9, List.forall_mem_cons.mpr ⟨lw_p10, List.forall_mem_cons.mpr ⟨lw_p11, List.forall_mem_cons.mpr ⟨lw_p12, List.forall_mem_cons.mpr ⟨lw_p13, List.forall_mem_cons.mpr ⟨lw_p14, List.forall_mem_cons.mpr ⟨lw_p15, fun _ h => absurd h List.not_mem_nil⟩⟩⟩⟩⟩⟩⟩⟩⟩⟩⟩⟩⟩⟩⟩⟩
theorem lw_p16 : lw_okq (⟨"BonnetValley", "goHour", "(LBonnetValley$Upland;)V"⟩, 31) := ⟨⟨by decide +kernel, by decide +kernel⟩, lw_t1 (List.mem_of_getElem? (i := 28) rfl), lw_t3 (List.mem_of_getElem? (i := 182) rfl), lw_t3 (List.mem_of_getElem? (i := 183) rfl)⟩
theorem lw_p17 : lw_okq (⟨"BonnetValley", "reachBy", "(LBonnetValley$Upland;II)I"⟩, 31) := ⟨⟨by decide +kernel, by decide +kernel⟩, lw_t1 (List.mem_of_getElem? (i := 28) rfl), lw_t3 (List.mem_of_getElem? (i := 211) rfl), lw_t3 (List.mem_of_getElem? (i := 212) rfl)⟩
theorem lw_p18 : lw_okq (⟨"BonnetValley", "isClear", "(II)Z"⟩, 31) := ⟨⟨by decide +kernel, by decide +kernel⟩, lw_t1 (List.mem_of_getElem? (i := 28) rfl), lw_t4 (List.mem_of_getElem? (i := 9) rfl), lw_t4 (List.mem_of_getElem? (i := 10) rfl)⟩
theorem lw_p19 : lw_okq (⟨"BonnetValley", "tell", "(LBonnetValley$Upland;II)Z"⟩, 31) := ⟨⟨by decide +kernel, by decide +kernel⟩, lw_t1 (List.mem_of_getElem? (i := 28) rfl), lw_t4 (List.mem_of_getElem? (i := 16) rfl), lw_t4 (List.mem_of_getElem? (i := 17) rfl)⟩
theorem lw_p20 : lw_okq (⟨"BonnetValley", "areNear", "(II)Z"⟩, 31) := ⟨⟨by decide +kernel, by decide +kernel⟩, lw_t1 (List.mem_of_getElem? (i := 28) rfl), lw_t4 (List.mem_of_getElem? (i := 20) rfl), lw_t4 (List.mem_of_getElem? (i := 21) rfl)⟩
theorem lw_p21 : lw_okq (⟨"BonnetValley", "meet", "(LBonnetValley$Upland;II)Z"⟩, 31) := ⟨⟨by decide +kernel, by decide +kernel⟩, lw_t1 (List.mem_of_getElem? (i := 28) rfl), lw_t4 (List.mem_of_getElem? (i := 24) rfl), lw_t4 (List.mem_of_getElem? (i := 25) rfl)⟩
theorem lw_p22 : lw_okq (⟨"BonnetValley", "tell", "(J)V"⟩, 31) := ⟨⟨by decide +kernel, by decide +kernel⟩, lw_t1 (List.mem_of_getElem? (i := 28) rfl), lw_t4 (List.mem_of_getElem? (i := 29) rfl), lw_t4 (List.mem_of_getElem? (i := 30) rfl)⟩
theorem lw_p23 : lw_okq (⟨"BonnetValley", "canFace", "(II)Z"⟩, 31) := ⟨⟨by decide +kernel, by decide +kernel⟩, lw_t1 (List.mem_of_getElem? (i := 28) rfl), lw_t4 (List.mem_of_getElem? (i := 37) rfl), lw_t4 (List.mem_of_getElem? (i := 38) rfl)⟩
theorem lw_p24 : lw_okq (⟨"BonnetValley", "isMan", "(I)Z"⟩, 31) := ⟨⟨by decide +kernel, by decide +kernel⟩, lw_t1 (List.mem_of_getElem? (i := 28) rfl), lw_t4 (List.mem_of_getElem? (i := 41) rfl), lw_t4 (List.mem_of_getElem? (i := 42) rfl)⟩
theorem lw_p25 : lw_okq (⟨"BonnetValley", "refusesStep", "(LBonnetValley$Upland;II)I"⟩, 31) := ⟨⟨by decide +kernel, by decide +kernel⟩, lw_t1 (List.mem_of_getElem? (i := 28) rfl), lw_t4 (List.mem_of_getElem? (i := 51) rfl), lw_t4 (List.mem_of_getElem? (i := 52) rfl)⟩
theorem lw_p26 : lw_okq (⟨"BonnetValley", "stepOf", "(II)I"⟩, 31) := ⟨⟨by decide +kernel, by decide +kernel⟩, lw_t1 (List.mem_of_getElem? (i := 28) rfl), lw_t4 (List.mem_of_getElem? (i := 55) rfl), lw_t4 (List.mem_of_getElem? (i := 56) rfl)⟩
theorem lw_p27 : lw_okq (⟨"BonnetValley", "canTrim", "(II)Z"⟩, 31) := ⟨⟨by decide +kernel, by decide +kernel⟩, lw_t1 (List.mem_of_getElem? (i := 28) rfl), lw_t4 (List.mem_of_getElem? (i := 67) rfl), lw_t4 (List.mem_of_getElem? (i := 68) rfl)⟩
theorem lw_p28 : lw_okq (⟨"BonnetValley", "refusesPut", "(II)I"⟩, 31) := ⟨⟨by decide +kernel, by decide +kernel⟩, lw_t1 (List.mem_of_getElem? (i := 28) rfl), lw_t4 (List.mem_of_getElem? (i := 76) rfl), lw_t4 (List.mem_of_getElem? (i := 77) rfl)⟩
theorem lw_p29 : lw_okq (⟨"BonnetValley", "isThing", "(I)Z"⟩, 31) := ⟨⟨by decide +kernel, by decide +kernel⟩, lw_t1 (List.mem_of_getElem? (i := 28) rfl), lw_t4 (List.mem_of_getElem? (i := 80) rfl), lw_t4 (List.mem_of_getElem? (i := 81) rfl)⟩
theorem lw_p30 : lw_okq (⟨"BonnetValley", "isField", "(I)Z"⟩, 31) := ⟨⟨by decide +kernel, by decide +kernel⟩, lw_t1 (List.mem_of_getElem? (i := 28) rfl), lw_t4 (List.mem_of_getElem? (i := 84) rfl), lw_t4 (List.mem_of_getElem? (i := 85) rfl)⟩
theorem lw_p31 : lw_okq (⟨"BonnetValley", "fields", "()I"⟩, 31) := ⟨⟨by decide +kernel, by decide +kernel⟩, lw_t1 (List.mem_of_getElem? (i := 28) rfl), lw_t4 (List.mem_of_getElem? (i := 88) rfl), lw_t4 (List.mem_of_getElem? (i := 89) rfl)⟩
def lw_privs_2 : List (MethodName × Nat) := [(⟨"BonnetValley", "goHour", "(LBonnetValley$Upland;)V"⟩, 31), (⟨"BonnetValley", "reachBy", "(LBonnetValley$Upland;II)I"⟩, 31), (⟨"BonnetValley", "isClear", "(II)Z"⟩, 31), (⟨"BonnetValley", "tell", "(LBonnetValley$Upland;II)Z"⟩, 31), (⟨"BonnetValley", "areNear", "(II)Z"⟩, 31), (⟨"BonnetValley", "meet", "(LBonnetValley$Upland;II)Z"⟩, 31), (⟨"BonnetValley", "tell", "(J)V"⟩, 31), (⟨"BonnetValley", "canFace", "(II)Z"⟩, 31), (⟨"BonnetValley", "isMan", "(I)Z"⟩, 31), (⟨"BonnetValley", "refusesStep", "(LBonnetValley$Upland;II)I"⟩, 31), (⟨"BonnetValley", "stepOf", "(II)I"⟩, 31), (⟨"BonnetValley", "canTrim", "(II)Z"⟩, 31), (⟨"BonnetValley", "refusesPut", "(II)I"⟩, 31), (⟨"BonnetValley", "isThing", "(I)Z"⟩, 31), (⟨"BonnetValley", "isField", "(I)Z"⟩, 31), (⟨"BonnetValley", "fields", "()I"⟩, 31)]
theorem lw_r2 : ∀ q ∈ lw_privs_2, lw_okq q := List.forall_mem_cons.mpr ⟨lw_p16, List.forall_mem_cons.mpr ⟨lw_p17, List.forall_mem_cons.mpr ⟨lw_p18, List.forall_mem_cons.mpr ⟨lw_p19, List.forall_mem_cons.mpr ⟨lw_p20, List.forall_mem_cons.mpr ⟨lw_p21, List.forall_mem_cons.mpr ⟨lw_p22, List.forall_mem_cons.mpr ⟨lw_p23, List.forall_mem_cons.mpr ⟨lw_p24, List.forall_mem_cons.mpr ⟨lw_p25, List.forall_mem_cons.mpr ⟨lw_p26, List.forall_mem_cons.mpr ⟨lw_p27, List.forall_mem_cons.mpr ⟨lw_p28, List.forall_mem_cons.mpr ⟨lw_p29, List.forall_mem_cons.mpr ⟨lw_p30, List.forall_mem_cons.mpr ⟨lw_p31, fun _ h => absurd h List.not_mem_nil⟩⟩⟩⟩⟩⟩⟩⟩⟩⟩⟩⟩⟩⟩⟩⟩
theorem lw_p32 : lw_okq (⟨"BonnetValley$Order", "act", "()V"⟩, 9) := ⟨⟨by decide +kernel, by decide +kernel⟩, lw_t4 (List.mem_of_getElem? (i := 96) rfl), lw_t4 (List.mem_of_getElem? (i := 131) rfl), lw_t4 (List.mem_of_getElem? (i := 132) rfl)⟩
theorem lw_p33 : lw_okq (⟨"BonnetValley", "act", "(CII)Z"⟩, 31) := ⟨⟨by decide +kernel, by decide +kernel⟩, lw_t1 (List.mem_of_getElem? (i := 28) rfl), lw_t4 (List.mem_of_getElem? (i := 150) rfl), lw_t4 (List.mem_of_getElem? (i := 151) rfl)⟩
theorem lw_p34 : lw_okq (⟨"BonnetValley$Look", "all", "()I"⟩, 1) := ⟨⟨by decide +kernel, by decide +kernel⟩, lw_t1 (List.mem_of_getElem? (i := 36) rfl), lw_t4 (List.mem_of_getElem? (i := 170) rfl), lw_t4 (List.mem_of_getElem? (i := 171) rfl)⟩
theorem lw_p35 : lw_okq (⟨"BonnetValley", "seersOf", "(LBonnetValley$Upland;I)I"⟩, 31) := ⟨⟨by decide +kernel, by decide +kernel⟩, lw_t1 (List.mem_of_getElem? (i := 28) rfl), lw_t4 (List.mem_of_getElem? (i := 185) rfl), lw_t4 (List.mem_of_getElem? (i := 186) rfl)⟩
theorem lw_p36 : lw_okq (⟨"BonnetValley", "thingsOn", "(J)I"⟩, 31) := ⟨⟨by decide +kernel, by decide +kernel⟩, lw_t1 (List.mem_of_getElem? (i := 28) rfl), lw_t4 (List.mem_of_getElem? (i := 189) rfl), lw_t4 (List.mem_of_getElem? (i := 190) rfl)⟩
theorem lw_p37 : lw_okq (⟨"BonnetValley", "open", "()J"⟩, 31) := ⟨⟨by decide +kernel, by decide +kernel⟩, lw_t1 (List.mem_of_getElem? (i := 28) rfl), lw_t4 (List.mem_of_getElem? (i := 197) rfl), lw_t4 (List.mem_of_getElem? (i := 198) rfl)⟩
theorem lw_p38 : lw_okq (⟨"BonnetValley", "seen", "(LBonnetValley$Upland;)J"⟩, 31) := ⟨⟨by decide +kernel, by decide +kernel⟩, lw_t1 (List.mem_of_getElem? (i := 28) rfl), lw_t4 (List.mem_of_getElem? (i := 201) rfl), lw_t4 (List.mem_of_getElem? (i := 202) rfl)⟩
theorem lw_p39 : lw_okq (⟨"BonnetValley", "wide", "(I)I"⟩, 31) := ⟨⟨by decide +kernel, by decide +kernel⟩, lw_t1 (List.mem_of_getElem? (i := 28) rfl), lw_t4 (List.mem_of_getElem? (i := 217) rfl), lw_t4 (List.mem_of_getElem? (i := 218) rfl)⟩
theorem lw_p40 : lw_okq (⟨"BonnetValley", "allMen", "()I"⟩, 31) := ⟨⟨by decide +kernel, by decide +kernel⟩, lw_t1 (List.mem_of_getElem? (i := 28) rfl), lw_t4 (List.mem_of_getElem? (i := 225) rfl), lw_t4 (List.mem_of_getElem? (i := 226) rfl)⟩
theorem lw_p41 : lw_okq (⟨"BonnetValley", "knowersOf", "(LBonnetValley$Upland;I)I"⟩, 31) := ⟨⟨by decide +kernel, by decide +kernel⟩, lw_t1 (List.mem_of_getElem? (i := 28) rfl), lw_t4 (List.mem_of_getElem? (i := 233) rfl), lw_t4 (List.mem_of_getElem? (i := 234) rfl)⟩
theorem lw_p42 : lw_okq (⟨"BonnetValley", "lacking", "(LBonnetValley$Upland;)I"⟩, 31) := ⟨⟨by decide +kernel, by decide +kernel⟩, lw_t1 (List.mem_of_getElem? (i := 28) rfl), lw_t5 (List.mem_of_getElem? (i := 1) rfl), lw_t5 (List.mem_of_getElem? (i := 2) rfl)⟩
theorem lw_p43 : lw_okq (⟨"BonnetValley", "allThings", "()I"⟩, 31) := ⟨⟨by decide +kernel, by decide +kernel⟩, lw_t1 (List.mem_of_getElem? (i := 28) rfl), lw_t5 (List.mem_of_getElem? (i := 5) rfl), lw_t5 (List.mem_of_getElem? (i := 6) rfl)⟩
theorem lw_p44 : lw_okq (⟨"BonnetValley", "cost", "(II)I"⟩, 31) := ⟨⟨by decide +kernel, by decide +kernel⟩, lw_t1 (List.mem_of_getElem? (i := 28) rfl), lw_t5 (List.mem_of_getElem? (i := 39) rfl), lw_t5 (List.mem_of_getElem? (i := 40) rfl)⟩
theorem lw_p45 : lw_okq (⟨"BonnetValley", "lay", "(IIJ)V"⟩, 31) := ⟨⟨by decide +kernel, by decide +kernel⟩, lw_t1 (List.mem_of_getElem? (i := 28) rfl), lw_t5 (List.mem_of_getElem? (i := 63) rfl), lw_t5 (List.mem_of_getElem? (i := 64) rfl)⟩
theorem lw_p46 : lw_okq (⟨"BonnetValley", "tellWay", "(II)V"⟩, 31) := ⟨⟨by decide +kernel, by decide +kernel⟩, lw_t1 (List.mem_of_getElem? (i := 28) rfl), lw_t5 (List.mem_of_getElem? (i := 70) rfl), lw_t5 (List.mem_of_getElem? (i := 71) rfl)⟩
theorem lw_p47 : lw_okq (⟨"BonnetValley", "lostAt", "()J"⟩, 31) := ⟨⟨by decide +kernel, by decide +kernel⟩, lw_t1 (List.mem_of_getElem? (i := 28) rfl), lw_t5 (List.mem_of_getElem? (i := 90) rfl), lw_t5 (List.mem_of_getElem? (i := 91) rfl)⟩
def lw_privs_3 : List (MethodName × Nat) := [(⟨"BonnetValley$Order", "act", "()V"⟩, 9), (⟨"BonnetValley", "act", "(CII)Z"⟩, 31), (⟨"BonnetValley$Look", "all", "()I"⟩, 1), (⟨"BonnetValley", "seersOf", "(LBonnetValley$Upland;I)I"⟩, 31), (⟨"BonnetValley", "thingsOn", "(J)I"⟩, 31), (⟨"BonnetValley", "open", "()J"⟩, 31), (⟨"BonnetValley", "seen", "(LBonnetValley$Upland;)J"⟩, 31), (⟨"BonnetValley", "wide", "(I)I"⟩, 31), (⟨"BonnetValley", "allMen", "()I"⟩, 31), (⟨"BonnetValley", "knowersOf", "(LBonnetValley$Upland;I)I"⟩, 31), (⟨"BonnetValley", "lacking", "(LBonnetValley$Upland;)I"⟩, 31), (⟨"BonnetValley", "allThings", "()I"⟩, 31), (⟨"BonnetValley", "cost", "(II)I"⟩, 31), (⟨"BonnetValley", "lay", "(IIJ)V"⟩, 31), (⟨"BonnetValley", "tellWay", "(II)V"⟩, 31), (⟨"BonnetValley", "lostAt", "()J"⟩, 31)]
theorem lw_r3 : ∀ q ∈ lw_privs_3, lw_okq q := List.forall_mem_cons.mpr ⟨lw_p32, List.forall_mem_cons.mpr ⟨lw_p33, List.forall_mem_cons.mpr ⟨lw_p34, List.forall_mem_cons.mpr ⟨lw_p35, List.forall_mem_cons.mpr ⟨lw_p36, List.forall_mem_cons.mpr ⟨lw_p37, List.forall_mem_cons.mpr ⟨lw_p38, List.forall_mem_cons.mpr ⟨lw_p39, List.forall_mem_cons.mpr ⟨lw_p40, List.forall_mem_cons.mpr ⟨lw_p41, List.forall_mem_cons.mpr ⟨lw_p42, List.forall_mem_cons.mpr ⟨lw_p43, List.forall_mem_cons.mpr ⟨lw_p44, List.forall_mem_cons.mpr ⟨lw_p45, List.forall_mem_cons.mpr ⟨lw_p46, List.forall_mem_cons.mpr ⟨lw_p47, fun _ h => absurd h List.not_mem_nil⟩⟩⟩⟩⟩⟩⟩⟩⟩⟩⟩⟩⟩⟩⟩⟩
theorem lw_p48 : lw_okq (⟨"BonnetValley", "draw", "(I)I"⟩, 31) := ⟨⟨by decide +kernel, by decide +kernel⟩, lw_t1 (List.mem_of_getElem? (i := 28) rfl), lw_t5 (List.mem_of_getElem? (i := 132) rfl), lw_t5 (List.mem_of_getElem? (i := 133) rfl)⟩
theorem lw_p49 : lw_okq (⟨"BonnetValleyModel", "begins", "(I)I"⟩, 49) := ⟨⟨by decide +kernel, by decide +kernel⟩, lw_t5 (List.mem_of_getElem? (i := 214) rfl), lw_t6 (List.mem_of_getElem? (i := 144) rfl), lw_t6 (List.mem_of_getElem? (i := 145) rfl)⟩
theorem lw_p50 : lw_okq (⟨"BonnetValleyModel", "digitIn", "(II)I"⟩, 49) := ⟨⟨by decide +kernel, by decide +kernel⟩, lw_t5 (List.mem_of_getElem? (i := 214) rfl), lw_t6 (List.mem_of_getElem? (i := 149) rfl), lw_t6 (List.mem_of_getElem? (i := 150) rfl)⟩
theorem lw_p51 : lw_okq (⟨"BonnetValleyModel", "takesOf", "(Ljava/lang/String;)I"⟩, 49) := ⟨⟨by decide +kernel, by decide +kernel⟩, lw_t5 (List.mem_of_getElem? (i := 214) rfl), lw_t6 (List.mem_of_getElem? (i := 154) rfl), lw_t6 (List.mem_of_getElem? (i := 155) rfl)⟩
theorem lw_p52 : lw_okq (⟨"BonnetValleyModel", "fields", "()I"⟩, 49) := ⟨⟨by decide +kernel, by decide +kernel⟩, lw_t5 (List.mem_of_getElem? (i := 214) rfl), lw_t6 (List.mem_of_getElem? (i := 179) rfl), lw_t6 (List.mem_of_getElem? (i := 180) rfl)⟩
theorem lw_p53 : lw_okq (⟨"BonnetValleyModel", "readsLines", "(ZI)I"⟩, 49) := ⟨⟨by decide +kernel, by decide +kernel⟩, lw_t5 (List.mem_of_getElem? (i := 214) rfl), lw_t6 (List.mem_of_getElem? (i := 187) rfl), lw_t6 (List.mem_of_getElem? (i := 188) rfl)⟩
theorem lw_p54 : lw_okq (⟨"BonnetValleyModel", "readsPerson", "()Z"⟩, 49) := ⟨⟨by decide +kernel, by decide +kernel⟩, lw_t5 (List.mem_of_getElem? (i := 214) rfl), lw_t6 (List.mem_of_getElem? (i := 191) rfl), lw_t6 (List.mem_of_getElem? (i := 192) rfl)⟩
theorem lw_p55 : lw_okq (⟨"BonnetValleyModel", "readsField", "()I"⟩, 49) := ⟨⟨by decide +kernel, by decide +kernel⟩, lw_t5 (List.mem_of_getElem? (i := 214) rfl), lw_t6 (List.mem_of_getElem? (i := 195) rfl), lw_t6 (List.mem_of_getElem? (i := 196) rfl)⟩
theorem lw_p56 : lw_okq (⟨"BonnetValleyModel", "readsThing", "()Z"⟩, 49) := ⟨⟨by decide +kernel, by decide +kernel⟩, lw_t5 (List.mem_of_getElem? (i := 214) rfl), lw_t6 (List.mem_of_getElem? (i := 199) rfl), lw_t6 (List.mem_of_getElem? (i := 200) rfl)⟩
theorem lw_p57 : lw_okq (⟨"BonnetValleyModel", "takes", "(I)Z"⟩, 49) := ⟨⟨by decide +kernel, by decide +kernel⟩, lw_t5 (List.mem_of_getElem? (i := 214) rfl), lw_t6 (List.mem_of_getElem? (i := 203) rfl), lw_t6 (List.mem_of_getElem? (i := 204) rfl)⟩
theorem lw_p58 : lw_okq (⟨"BonnetValleyModel", "faultOf", "(IIZ)I"⟩, 49) := ⟨⟨by decide +kernel, by decide +kernel⟩, lw_t5 (List.mem_of_getElem? (i := 214) rfl), lw_t6 (List.mem_of_getElem? (i := 210) rfl), lw_t6 (List.mem_of_getElem? (i := 211) rfl)⟩
theorem lw_p59 : lw_okq (⟨"BonnetValleyModel", "isNew", "()I"⟩, 49) := ⟨⟨by decide +kernel, by decide +kernel⟩, lw_t5 (List.mem_of_getElem? (i := 214) rfl), lw_t6 (List.mem_of_getElem? (i := 214) rfl), lw_t6 (List.mem_of_getElem? (i := 215) rfl)⟩
theorem lw_p60 : lw_okq (⟨"BonnetValleyModel", "isDigit", "()Z"⟩, 49) := ⟨⟨by decide +kernel, by decide +kernel⟩, lw_t5 (List.mem_of_getElem? (i := 214) rfl), lw_t6 (List.mem_of_getElem? (i := 226) rfl), lw_t6 (List.mem_of_getElem? (i := 227) rfl)⟩
theorem lw_p61 : lw_okq (⟨"BonnetValleyModel", "number", "(I)I"⟩, 49) := ⟨⟨by decide +kernel, by decide +kernel⟩, lw_t5 (List.mem_of_getElem? (i := 214) rfl), lw_t6 (List.mem_of_getElem? (i := 232) rfl), lw_t6 (List.mem_of_getElem? (i := 233) rfl)⟩
theorem lw_p62 : lw_okq (⟨"BonnetValleyModel", "readsRule", "()I"⟩, 49) := ⟨⟨by decide +kernel, by decide +kernel⟩, lw_t5 (List.mem_of_getElem? (i := 214) rfl), lw_t7 (List.mem_of_getElem? (i := 0) rfl), lw_t7 (List.mem_of_getElem? (i := 1) rfl)⟩
theorem lw_p63 : lw_okq (⟨"BonnetValleyModel", "readsRank", "(I)Z"⟩, 49) := ⟨⟨by decide +kernel, by decide +kernel⟩, lw_t5 (List.mem_of_getElem? (i := 214) rfl), lw_t7 (List.mem_of_getElem? (i := 4) rfl), lw_t7 (List.mem_of_getElem? (i := 5) rfl)⟩
def lw_privs_4 : List (MethodName × Nat) := [(⟨"BonnetValley", "draw", "(I)I"⟩, 31), (⟨"BonnetValleyModel", "begins", "(I)I"⟩, 49), (⟨"BonnetValleyModel", "digitIn", "(II)I"⟩, 49), (⟨"BonnetValleyModel", "takesOf", "(Ljava/lang/String;)I"⟩, 49), (⟨"BonnetValleyModel", "fields", "()I"⟩, 49), (⟨"BonnetValleyModel", "readsLines", "(ZI)I"⟩, 49), (⟨"BonnetValleyModel", "readsPerson", "()Z"⟩, 49), (⟨"BonnetValleyModel", "readsField", "()I"⟩, 49), (⟨"BonnetValleyModel", "readsThing", "()Z"⟩, 49), (⟨"BonnetValleyModel", "takes", "(I)Z"⟩, 49), (⟨"BonnetValleyModel", "faultOf", "(IIZ)I"⟩, 49), (⟨"BonnetValleyModel", "isNew", "()I"⟩, 49), (⟨"BonnetValleyModel", "isDigit", "()Z"⟩, 49), (⟨"BonnetValleyModel", "number", "(I)I"⟩, 49), (⟨"BonnetValleyModel", "readsRule", "()I"⟩, 49), (⟨"BonnetValleyModel", "readsRank", "(I)Z"⟩, 49)]
theorem lw_r4 : ∀ q ∈ lw_privs_4, lw_okq q := List.forall_mem_cons.mpr ⟨lw_p48, List.forall_mem_cons.mpr ⟨lw_p49, List.forall_mem_cons.mpr ⟨lw_p50, List.forall_mem_cons.mpr ⟨lw_p51, List.forall_mem_cons.mpr ⟨lw_p52, List.forall_mem_cons.mpr ⟨lw_p53, List.forall_mem_cons.mpr ⟨lw_p54, List.forall_mem_cons.mpr ⟨lw_p55, List.forall_mem_cons.mpr ⟨lw_p56, List.forall_mem_cons.mpr ⟨lw_p57, List.forall_mem_cons.mpr ⟨lw_p58, List.forall_mem_cons.mpr ⟨lw_p59, List.forall_mem_cons.mpr ⟨lw_p60, List.forall_mem_cons.mpr ⟨lw_p61, List.forall_mem_cons.mpr ⟨lw_p62, List.forall_mem_cons.mpr ⟨lw_p63, fun _ h => absurd h List.not_mem_nil⟩⟩⟩⟩⟩⟩⟩⟩⟩⟩⟩⟩⟩⟩⟩⟩
theorem lw_p64 : lw_okq (⟨"BonnetValleyModel", "readsAsked", "()Z"⟩, 49) := ⟨⟨by decide +kernel, by decide +kernel⟩, lw_t5 (List.mem_of_getElem? (i := 214) rfl), lw_t7 (List.mem_of_getElem? (i := 8) rfl), lw_t7 (List.mem_of_getElem? (i := 9) rfl)⟩
theorem lw_p65 : lw_okq (⟨"BonnetValleyModel", "codes", "(I)V"⟩, 49) := ⟨⟨by decide +kernel, by decide +kernel⟩, lw_t5 (List.mem_of_getElem? (i := 214) rfl), lw_t7 (List.mem_of_getElem? (i := 12) rfl), lw_t7 (List.mem_of_getElem? (i := 13) rfl)⟩
theorem lw_p66 : lw_okq (⟨"BonnetValleyModel", "laysCode", "([II)V"⟩, 49) := ⟨⟨by decide +kernel, by decide +kernel⟩, lw_t5 (List.mem_of_getElem? (i := 214) rfl), lw_t7 (List.mem_of_getElem? (i := 20) rfl), lw_t7 (List.mem_of_getElem? (i := 21) rfl)⟩
theorem lw_p67 : lw_okq (⟨"BonnetValleyModel", "isPerson", "(I)Z"⟩, 49) := ⟨⟨by decide +kernel, by decide +kernel⟩, lw_t5 (List.mem_of_getElem? (i := 214) rfl), lw_t7 (List.mem_of_getElem? (i := 28) rfl), lw_t7 (List.mem_of_getElem? (i := 29) rfl)⟩
theorem lw_p68 : lw_okq (⟨"BonnetValleyModel", "refuse", "()I"⟩, 49) := ⟨⟨by decide +kernel, by decide +kernel⟩, lw_t5 (List.mem_of_getElem? (i := 214) rfl), lw_t7 (List.mem_of_getElem? (i := 33) rfl), lw_t7 (List.mem_of_getElem? (i := 34) rfl)⟩
theorem lw_p69 : lw_okq (⟨"BonnetValleyModel", "reachBy", "([III)I"⟩, 49) := ⟨⟨by decide +kernel, by decide +kernel⟩, lw_t5 (List.mem_of_getElem? (i := 214) rfl), lw_t7 (List.mem_of_getElem? (i := 37) rfl), lw_t7 (List.mem_of_getElem? (i := 38) rfl)⟩
theorem lw_p70 : lw_okq (⟨"BonnetValleyModel", "lightOn", "(I)I"⟩, 49) := ⟨⟨by decide +kernel, by decide +kernel⟩, lw_t5 (List.mem_of_getElem? (i := 214) rfl), lw_t7 (List.mem_of_getElem? (i := 41) rfl), lw_t7 (List.mem_of_getElem? (i := 42) rfl)⟩
theorem lw_p71 : lw_okq (⟨"BonnetValleyModel", "ruled", "()I"⟩, 49) := ⟨⟨by decide +kernel, by decide +kernel⟩, lw_t5 (List.mem_of_getElem? (i := 214) rfl), lw_t7 (List.mem_of_getElem? (i := 46) rfl), lw_t7 (List.mem_of_getElem? (i := 47) rfl)⟩
theorem lw_p72 : lw_okq (⟨"BonnetValleyModel", "fieldsSeen", "([II)J"⟩, 49) := ⟨⟨by decide +kernel, by decide +kernel⟩, lw_t5 (List.mem_of_getElem? (i := 214) rfl), lw_t7 (List.mem_of_getElem? (i := 54) rfl), lw_t7 (List.mem_of_getElem? (i := 55) rfl)⟩
theorem lw_p73 : lw_okq (⟨"BonnetValleyModel", "seesBy", "(IIIII)Z"⟩, 49) := ⟨⟨by decide +kernel, by decide +kernel⟩, lw_t5 (List.mem_of_getElem? (i := 214) rfl), lw_t7 (List.mem_of_getElem? (i := 58) rfl), lw_t7 (List.mem_of_getElem? (i := 59) rfl)⟩
theorem lw_p74 : lw_okq (⟨"BonnetValleyModel", "isClear", "(II)Z"⟩, 49) := ⟨⟨by decide +kernel, by decide +kernel⟩, lw_t5 (List.mem_of_getElem? (i := 214) rfl), lw_t7 (List.mem_of_getElem? (i := 69) rfl), lw_t7 (List.mem_of_getElem? (i := 70) rfl)⟩
theorem lw_p75 : lw_okq (⟨"BonnetValleyModel", "thingsOn", "([IJ)I"⟩, 49) := ⟨⟨by decide +kernel, by decide +kernel⟩, lw_t5 (List.mem_of_getElem? (i := 214) rfl), lw_t7 (List.mem_of_getElem? (i := 74) rfl), lw_t7 (List.mem_of_getElem? (i := 75) rfl)⟩
theorem lw_p76 : lw_okq (⟨"BonnetValleyModel", "isThing", "(I)Z"⟩, 49) := ⟨⟨by decide +kernel, by decide +kernel⟩, lw_t5 (List.mem_of_getElem? (i := 214) rfl), lw_t7 (List.mem_of_getElem? (i := 85) rfl), lw_t7 (List.mem_of_getElem? (i := 86) rfl)⟩
theorem lw_p77 : lw_okq (⟨"BonnetValleyModel", "knowing", "([II)I"⟩, 49) := ⟨⟨by decide +kernel, by decide +kernel⟩, lw_t5 (List.mem_of_getElem? (i := 214) rfl), lw_t7 (List.mem_of_getElem? (i := 90) rfl), lw_t7 (List.mem_of_getElem? (i := 91) rfl)⟩
theorem lw_p78 : lw_okq (⟨"BonnetValleyModel", "whoSees", "([II)I"⟩, 49) := ⟨⟨by decide +kernel, by decide +kernel⟩, lw_t5 (List.mem_of_getElem? (i := 214) rfl), lw_t7 (List.mem_of_getElem? (i := 94) rfl), lw_t7 (List.mem_of_getElem? (i := 95) rfl)⟩
theorem lw_p79 : lw_okq (⟨"BonnetValleyModel", "doesSee", "([III)Z"⟩, 49) := ⟨⟨by decide +kernel, by decide +kernel⟩, lw_t5 (List.mem_of_getElem? (i := 214) rfl), lw_t7 (List.mem_of_getElem? (i := 98) rfl), lw_t7 (List.mem_of_getElem? (i := 99) rfl)⟩
def lw_privs_5 : List (MethodName × Nat) := [(⟨"BonnetValleyModel", "readsAsked", "()Z"⟩, 49), (⟨"BonnetValleyModel", "codes", "(I)V"⟩, 49), (⟨"BonnetValleyModel", "laysCode", "([II)V"⟩, 49), (⟨"BonnetValleyModel", "isPerson", "(I)Z"⟩, 49), (⟨"BonnetValleyModel", "refuse", "()I"⟩, 49), (⟨"BonnetValleyModel", "reachBy", "([III)I"⟩, 49), (⟨"BonnetValleyModel", "lightOn", "(I)I"⟩, 49), (⟨"BonnetValleyModel", "ruled", "()I"⟩, 49), (⟨"BonnetValleyModel", "fieldsSeen", "([II)J"⟩, 49), (⟨"BonnetValleyModel", "seesBy", "(IIIII)Z"⟩, 49), (⟨"BonnetValleyModel", "isClear", "(II)Z"⟩, 49), (⟨"BonnetValleyModel", "thingsOn", "([IJ)I"⟩, 49), (⟨"BonnetValleyModel", "isThing", "(I)Z"⟩, 49), (⟨"BonnetValleyModel", "knowing", "([II)I"⟩, 49), (⟨"BonnetValleyModel", "whoSees", "([II)I"⟩, 49), (⟨"BonnetValleyModel", "doesSee", "([III)Z"⟩, 49)]
theorem lw_r5 : ∀ q ∈ lw_privs_5, lw_okq q := List.forall_mem_cons.mpr ⟨lw_p64, List.forall_mem_cons.mpr ⟨lw_p65, List.forall_mem_cons.mpr ⟨lw_p66, List.forall_mem_cons.mpr ⟨lw_p67, List.forall_mem_cons.mpr ⟨lw_p68, List.forall_mem_cons.mpr ⟨lw_p69, List.forall_mem_cons.mpr ⟨lw_p70, List.forall_mem_cons.mpr ⟨lw_p71, List.forall_mem_cons.mpr ⟨lw_p72, List.forall_mem_cons.mpr ⟨lw_p73, List.forall_mem_cons.mpr ⟨lw_p74, List.forall_mem_cons.mpr ⟨lw_p75, List.forall_mem_cons.mpr ⟨lw_p76, List.forall_mem_cons.mpr ⟨lw_p77, List.forall_mem_cons.mpr ⟨lw_p78, List.forall_mem_cons.mpr ⟨lw_p79, fun _ h => absurd h List.not_mem_nil⟩⟩⟩⟩⟩⟩⟩⟩⟩⟩⟩⟩⟩⟩⟩⟩
theorem lw_p80 : lw_okq (⟨"BonnetValleyModel", "putsBy", "()V"⟩, 49) := ⟨⟨by decide +kernel, by decide +kernel⟩, lw_t5 (List.mem_of_getElem? (i := 214) rfl), lw_t7 (List.mem_of_getElem? (i := 116) rfl), lw_t7 (List.mem_of_getElem? (i := 117) rfl)⟩
theorem lw_p81 : lw_okq (⟨"BonnetValleyModel", "known", "([I)I"⟩, 49) := ⟨⟨by decide +kernel, by decide +kernel⟩, lw_t5 (List.mem_of_getElem? (i := 214) rfl), lw_t7 (List.mem_of_getElem? (i := 120) rfl), lw_t7 (List.mem_of_getElem? (i := 121) rfl)⟩
theorem lw_p82 : lw_okq (⟨"BonnetValleyModel", "goesOn", "([II)V"⟩, 49) := ⟨⟨by decide +kernel, by decide +kernel⟩, lw_t5 (List.mem_of_getElem? (i := 214) rfl), lw_t7 (List.mem_of_getElem? (i := 124) rfl), lw_t7 (List.mem_of_getElem? (i := 125) rfl)⟩
theorem lw_p83 : lw_okq (⟨"BonnetValleyModel", "hourGoes", "([I)V"⟩, 49) := ⟨⟨by decide +kernel, by decide +kernel⟩, lw_t5 (List.mem_of_getElem? (i := 214) rfl), lw_t7 (List.mem_of_getElem? (i := 128) rfl), lw_t7 (List.mem_of_getElem? (i := 129) rfl)⟩
theorem lw_p84 : lw_okq (⟨"BonnetValleyModel", "tellEachOther", "([III)Z"⟩, 49) := ⟨⟨by decide +kernel, by decide +kernel⟩, lw_t5 (List.mem_of_getElem? (i := 214) rfl), lw_t7 (List.mem_of_getElem? (i := 132) rfl), lw_t7 (List.mem_of_getElem? (i := 133) rfl)⟩
theorem lw_p85 : lw_okq (⟨"BonnetValleyModel", "seeEachOther", "([III)Z"⟩, 49) := ⟨⟨by decide +kernel, by decide +kernel⟩, lw_t5 (List.mem_of_getElem? (i := 214) rfl), lw_t7 (List.mem_of_getElem? (i := 136) rfl), lw_t7 (List.mem_of_getElem? (i := 137) rfl)⟩
theorem lw_p86 : lw_okq (⟨"BonnetValleyModel", "enters", "(J)V"⟩, 49) := ⟨⟨by decide +kernel, by decide +kernel⟩, lw_t5 (List.mem_of_getElem? (i := 214) rfl), lw_t7 (List.mem_of_getElem? (i := 140) rfl), lw_t7 (List.mem_of_getElem? (i := 141) rfl)⟩
theorem lw_p87 : lw_okq (⟨"BonnetValleyModel", "adds", "(I)I"⟩, 49) := ⟨⟨by decide +kernel, by decide +kernel⟩, lw_t5 (List.mem_of_getElem? (i := 214) rfl), lw_t7 (List.mem_of_getElem? (i := 144) rfl), lw_t7 (List.mem_of_getElem? (i := 145) rfl)⟩
theorem lw_p88 : lw_okq (⟨"BonnetValleyModel", "facesOne", "([III)I"⟩, 49) := ⟨⟨by decide +kernel, by decide +kernel⟩, lw_t5 (List.mem_of_getElem? (i := 214) rfl), lw_t7 (List.mem_of_getElem? (i := 152) rfl), lw_t7 (List.mem_of_getElem? (i := 153) rfl)⟩
theorem lw_p89 : lw_okq (⟨"BonnetValleyModel", "counted", "(I)I"⟩, 49) := ⟨⟨by decide +kernel, by decide +kernel⟩, lw_t5 (List.mem_of_getElem? (i := 214) rfl), lw_t7 (List.mem_of_getElem? (i := 157) rfl), lw_t7 (List.mem_of_getElem? (i := 158) rfl)⟩
theorem lw_p90 : lw_okq (⟨"BonnetValleyModel", "stepsOne", "([III)I"⟩, 49) := ⟨⟨by decide +kernel, by decide +kernel⟩, lw_t5 (List.mem_of_getElem? (i := 214) rfl), lw_t7 (List.mem_of_getElem? (i := 165) rfl), lw_t7 (List.mem_of_getElem? (i := 166) rfl)⟩
theorem lw_p91 : lw_okq (⟨"BonnetValleyModel", "beside", "(II)I"⟩, 49) := ⟨⟨by decide +kernel, by decide +kernel⟩, lw_t5 (List.mem_of_getElem? (i := 214) rfl), lw_t7 (List.mem_of_getElem? (i := 169) rfl), lw_t7 (List.mem_of_getElem? (i := 170) rfl)⟩
theorem lw_p92 : lw_okq (⟨"BonnetValleyModel", "trimsOne", "(II)I"⟩, 49) := ⟨⟨by decide +kernel, by decide +kernel⟩, lw_t5 (List.mem_of_getElem? (i := 214) rfl), lw_t7 (List.mem_of_getElem? (i := 177) rfl), lw_t7 (List.mem_of_getElem? (i := 178) rfl)⟩
theorem lw_p93 : lw_okq (⟨"BonnetValleyModel", "putsOne", "(II)I"⟩, 49) := ⟨⟨by decide +kernel, by decide +kernel⟩, lw_t5 (List.mem_of_getElem? (i := 214) rfl), lw_t7 (List.mem_of_getElem? (i := 186) rfl), lw_t7 (List.mem_of_getElem? (i := 187) rfl)⟩
theorem lw_p94 : lw_okq (⟨"BonnetValleyModel", "isField", "(I)Z"⟩, 49) := ⟨⟨by decide +kernel, by decide +kernel⟩, lw_t5 (List.mem_of_getElem? (i := 214) rfl), lw_t7 (List.mem_of_getElem? (i := 190) rfl), lw_t7 (List.mem_of_getElem? (i := 191) rfl)⟩
theorem lw_p95 : lw_okq (⟨"BonnetValleyModel", "readsAct", "()Z"⟩, 49) := ⟨⟨by decide +kernel, by decide +kernel⟩, lw_t5 (List.mem_of_getElem? (i := 214) rfl), lw_t7 (List.mem_of_getElem? (i := 198) rfl), lw_t7 (List.mem_of_getElem? (i := 199) rfl)⟩
def lw_privs_6 : List (MethodName × Nat) := [(⟨"BonnetValleyModel", "putsBy", "()V"⟩, 49), (⟨"BonnetValleyModel", "known", "([I)I"⟩, 49), (⟨"BonnetValleyModel", "goesOn", "([II)V"⟩, 49), (⟨"BonnetValleyModel", "hourGoes", "([I)V"⟩, 49), (⟨"BonnetValleyModel", "tellEachOther", "([III)Z"⟩, 49), (⟨"BonnetValleyModel", "seeEachOther", "([III)Z"⟩, 49), (⟨"BonnetValleyModel", "enters", "(J)V"⟩, 49), (⟨"BonnetValleyModel", "adds", "(I)I"⟩, 49), (⟨"BonnetValleyModel", "facesOne", "([III)I"⟩, 49), (⟨"BonnetValleyModel", "counted", "(I)I"⟩, 49), (⟨"BonnetValleyModel", "stepsOne", "([III)I"⟩, 49), (⟨"BonnetValleyModel", "beside", "(II)I"⟩, 49), (⟨"BonnetValleyModel", "trimsOne", "(II)I"⟩, 49), (⟨"BonnetValleyModel", "putsOne", "(II)I"⟩, 49), (⟨"BonnetValleyModel", "isField", "(I)Z"⟩, 49), (⟨"BonnetValleyModel", "readsAct", "()Z"⟩, 49)]
theorem lw_r6 : ∀ q ∈ lw_privs_6, lw_okq q := List.forall_mem_cons.mpr ⟨lw_p80, List.forall_mem_cons.mpr ⟨lw_p81, List.forall_mem_cons.mpr ⟨lw_p82, List.forall_mem_cons.mpr ⟨lw_p83, List.forall_mem_cons.mpr ⟨lw_p84, List.forall_mem_cons.mpr ⟨lw_p85, List.forall_mem_cons.mpr ⟨lw_p86, List.forall_mem_cons.mpr ⟨lw_p87, List.forall_mem_cons.mpr ⟨lw_p88, List.forall_mem_cons.mpr ⟨lw_p89, List.forall_mem_cons.mpr ⟨lw_p90, List.forall_mem_cons.mpr ⟨lw_p91, List.forall_mem_cons.mpr ⟨lw_p92, List.forall_mem_cons.mpr ⟨lw_p93, List.forall_mem_cons.mpr ⟨lw_p94, List.forall_mem_cons.mpr ⟨lw_p95, fun _ h => absurd h List.not_mem_nil⟩⟩⟩⟩⟩⟩⟩⟩⟩⟩⟩⟩⟩⟩⟩⟩
theorem lw_p96 : lw_okq (⟨"BonnetValleyModel", "does", "(I)Z"⟩, 49) := ⟨⟨by decide +kernel, by decide +kernel⟩, lw_t5 (List.mem_of_getElem? (i := 214) rfl), lw_t7 (List.mem_of_getElem? (i := 203) rfl), lw_t7 (List.mem_of_getElem? (i := 204) rfl)⟩
theorem lw_p97 : lw_okq (⟨"BonnetValleyModel", "peopleOn", "([IJ)I"⟩, 49) := ⟨⟨by decide +kernel, by decide +kernel⟩, lw_t5 (List.mem_of_getElem? (i := 214) rfl), lw_t7 (List.mem_of_getElem? (i := 213) rfl), lw_t7 (List.mem_of_getElem? (i := 214) rfl)⟩
theorem lw_p98 : lw_okq (⟨"BonnetValleyModel", "free", "()J"⟩, 49) := ⟨⟨by decide +kernel, by decide +kernel⟩, lw_t5 (List.mem_of_getElem? (i := 214) rfl), lw_t7 (List.mem_of_getElem? (i := 225) rfl), lw_t7 (List.mem_of_getElem? (i := 226) rfl)⟩
theorem lw_p99 : lw_okq (⟨"BonnetValleyModel", "allSeen", "([I)J"⟩, 49) := ⟨⟨by decide +kernel, by decide +kernel⟩, lw_t5 (List.mem_of_getElem? (i := 214) rfl), lw_t7 (List.mem_of_getElem? (i := 229) rfl), lw_t7 (List.mem_of_getElem? (i := 230) rfl)⟩
theorem lw_p100 : lw_okq (⟨"BonnetValleyModel", "copies", "()V"⟩, 49) := ⟨⟨by decide +kernel, by decide +kernel⟩, lw_t5 (List.mem_of_getElem? (i := 214) rfl), lw_t8 (List.mem_of_getElem? (i := 16) rfl), lw_t8 (List.mem_of_getElem? (i := 17) rfl)⟩
theorem lw_p101 : lw_okq (⟨"BonnetValleyModel", "firstWithout", "([I)I"⟩, 49) := ⟨⟨by decide +kernel, by decide +kernel⟩, lw_t5 (List.mem_of_getElem? (i := 214) rfl), lw_t8 (List.mem_of_getElem? (i := 24) rfl), lw_t8 (List.mem_of_getElem? (i := 25) rfl)⟩
theorem lw_p102 : lw_okq (⟨"BonnetValleyModel", "wouldSee", "(III)Z"⟩, 49) := ⟨⟨by decide +kernel, by decide +kernel⟩, lw_t5 (List.mem_of_getElem? (i := 214) rfl), lw_t8 (List.mem_of_getElem? (i := 42) rfl), lw_t8 (List.mem_of_getElem? (i := 43) rfl)⟩
theorem lw_p103 : lw_okq (⟨"BonnetValleyModel", "wouldSeeThings", "(II)I"⟩, 49) := ⟨⟨by decide +kernel, by decide +kernel⟩, lw_t5 (List.mem_of_getElem? (i := 214) rfl), lw_t8 (List.mem_of_getElem? (i := 50) rfl), lw_t8 (List.mem_of_getElem? (i := 51) rfl)⟩
theorem lw_p104 : lw_okq (⟨"BonnetValleyModel", "fewWith", "(III)I"⟩, 49) := ⟨⟨by decide +kernel, by decide +kernel⟩, lw_t5 (List.mem_of_getElem? (i := 214) rfl), lw_t8 (List.mem_of_getElem? (i := 57) rfl), lw_t8 (List.mem_of_getElem? (i := 58) rfl)⟩
theorem lw_p105 : lw_okq (⟨"BonnetValleyModel", "laysWay", "(IIJ)I"⟩, 49) := ⟨⟨by decide +kernel, by decide +kernel⟩, lw_t5 (List.mem_of_getElem? (i := 214) rfl), lw_t8 (List.mem_of_getElem? (i := 73) rfl), lw_t8 (List.mem_of_getElem? (i := 74) rfl)⟩
theorem lw_p106 : lw_okq (⟨"BonnetValleyModel", "laysSteps", "(IIJ)V"⟩, 49) := ⟨⟨by decide +kernel, by decide +kernel⟩, lw_t5 (List.mem_of_getElem? (i := 214) rfl), lw_t8 (List.mem_of_getElem? (i := 77) rfl), lw_t8 (List.mem_of_getElem? (i := 78) rfl)⟩
theorem lw_p107 : lw_okq (⟨"BonnetValleyModel", "fitting", "()J"⟩, 49) := ⟨⟨by decide +kernel, by decide +kernel⟩, lw_t5 (List.mem_of_getElem? (i := 214) rfl), lw_t8 (List.mem_of_getElem? (i := 97) rfl), lw_t8 (List.mem_of_getElem? (i := 98) rfl)⟩
theorem lw_p108 : lw_okq (⟨"BonnetValleyModel", "draws", "(I)I"⟩, 49) := ⟨⟨by decide +kernel, by decide +kernel⟩, lw_t5 (List.mem_of_getElem? (i := 214) rfl), lw_t8 (List.mem_of_getElem? (i := 138) rfl), lw_t8 (List.mem_of_getElem? (i := 139) rfl)⟩
def lw_privs_7 : List (MethodName × Nat) := [(⟨"BonnetValleyModel", "does", "(I)Z"⟩, 49), (⟨"BonnetValleyModel", "peopleOn", "([IJ)I"⟩, 49), (⟨"BonnetValleyModel", "free", "()J"⟩, 49), (⟨"BonnetValleyModel", "allSeen", "([I)J"⟩, 49), (⟨"BonnetValleyModel", "copies", "()V"⟩, 49), (⟨"BonnetValleyModel", "firstWithout", "([I)I"⟩, 49), (⟨"BonnetValleyModel", "wouldSee", "(III)Z"⟩, 49), (⟨"BonnetValleyModel", "wouldSeeThings", "(II)I"⟩, 49), (⟨"BonnetValleyModel", "fewWith", "(III)I"⟩, 49), (⟨"BonnetValleyModel", "laysWay", "(IIJ)I"⟩, 49), (⟨"BonnetValleyModel", "laysSteps", "(IIJ)V"⟩, 49), (⟨"BonnetValleyModel", "fitting", "()J"⟩, 49), (⟨"BonnetValleyModel", "draws", "(I)I"⟩, 49)]
theorem lw_r7 : ∀ q ∈ lw_privs_7, lw_okq q := List.forall_mem_cons.mpr ⟨lw_p96, List.forall_mem_cons.mpr ⟨lw_p97, List.forall_mem_cons.mpr ⟨lw_p98, List.forall_mem_cons.mpr ⟨lw_p99, List.forall_mem_cons.mpr ⟨lw_p100, List.forall_mem_cons.mpr ⟨lw_p101, List.forall_mem_cons.mpr ⟨lw_p102, List.forall_mem_cons.mpr ⟨lw_p103, List.forall_mem_cons.mpr ⟨lw_p104, List.forall_mem_cons.mpr ⟨lw_p105, List.forall_mem_cons.mpr ⟨lw_p106, List.forall_mem_cons.mpr ⟨lw_p107, List.forall_mem_cons.mpr ⟨lw_p108, fun _ h => absurd h List.not_mem_nil⟩⟩⟩⟩⟩⟩⟩⟩⟩⟩⟩⟩⟩
def lw_privs : List (MethodName × Nat) := lw_privs_1 ++ (lw_privs_2 ++ (lw_privs_3 ++ (lw_privs_4 ++ (lw_privs_5 ++ (lw_privs_6 ++ (lw_privs_7))))))
def lw_tbl : List Cond := k2_sels lw_privs ++ tables_1
theorem lw_privs_ok : ∀ q ∈ lw_privs, lw_okq q := by
  show ∀ q ∈ lw_privs_1 ++ (lw_privs_2 ++ (lw_privs_3 ++ (lw_privs_4 ++ (lw_privs_5 ++ (lw_privs_6 ++ (lw_privs_7)))))), lw_okq q
  exact List.forall_mem_append.mpr ⟨lw_r1, List.forall_mem_append.mpr ⟨lw_r2, List.forall_mem_append.mpr ⟨lw_r3, List.forall_mem_append.mpr ⟨lw_r4, List.forall_mem_append.mpr ⟨lw_r5, List.forall_mem_append.mpr ⟨lw_r6, lw_r7⟩⟩⟩⟩⟩⟩
-- ===== ONE list of words for every method: the tables' words that hold all through a run =====
def lw_all : List Cond := lw_tbl.filter goodWord
/-- a word of the tables by its place: claim/WORDS.tsv -/
theorem lw_w {w : Cond} (i : Nat) (h : lw_tbl[i]? = some w) (g : goodWord w = true) : w ∈ lw_all := List.mem_filter.mpr ⟨List.mem_of_getElem? h, g⟩
theorem lw_all_tbl {w : Cond} (h : w ∈ lw_all) : w ∈ lw_tbl := (List.mem_filter.mp h).1
theorem lw_self : GoodIn lw_all lw_all := fun w h => ⟨h, good_of_word (List.mem_filter.mp h).2⟩
/-- a class's field words, by their places -/
theorem lw_in (ws : List Cond) (ps : List Nat) (hp : ws = ps.filterMap (fun i => lw_tbl[i]?)) (hg : ws.all goodWord = true) : ∀ w ∈ ws, w ∈ lw_all := by
  intro w h
  have h1 := List.all_eq_true.mp hg w h
  rw [hp] at h
  obtain ⟨i, -, hi⟩ := List.mem_filterMap.mp h
  exact lw_w i hi h1
/-- the words of a contract for the method y with code b, L locals, answer r -/
abbrev ws_ (y : MethodName) (b : ByteArray) (L : Nat) (r : Option FieldType) : List Cond := Cond.code y b L r :: lw_all
theorem lw_meth {y : MethodName} {b : ByteArray} {L : Nat} {r : Option FieldType} (h : Cond.code y b L r ∈ lw_all) : GoodIn lw_all (ws_ y b L r) := by
  intro w hw
  rcases List.mem_cons.mp hw with e | e
  · rw [e]
    exact lw_self _ h
  · exact lw_self _ e
theorem lw_app {a c : List Cond} (ha : ∀ w ∈ a, w ∈ lw_all) (hc : GoodIn lw_all c) : GoodIn lw_all (a ++ c) := by
  intro w hw
  rcases List.mem_append.mp hw with e | e
  · exact lw_self w (ha w e)
  · exact hc w e
/-- what a call through an object asks: cwV n hts (lw_V ..) -/
theorem lw_V {own : String} {idx : Nat} {C : String} {y : MethodName} {b : ByteArray} {L : Nat} {r : Option FieldType} (h1 : Cond.methodLink own idx y ∈ lw_all) (h2 : Cond.instanceMethod y ∈ lw_all) (h3 : Cond.selects C y y ∈ lw_all) (h4 : Cond.initialized C ∈ lw_all) (h5 : Cond.code y b L r ∈ lw_all) : GoodIn lw_all (wsV own idx C y (ws_ y b L r)) := by
  refine lw_app ?_ (lw_meth h5)
  intro w hw
  simp only [List.mem_cons, List.not_mem_nil, or_false] at hw
  rcases hw with e | e | e | e
  · rw [e]; exact h1
  · rw [e]; exact h2
  · rw [e]; exact h3
  · rw [e]; exact h4
/-- what a static call asks: va_cwS n hts (lw_S ..) -/
theorem lw_S {own : String} {idx : Nat} {y : MethodName} {b : ByteArray} {L : Nat} {r : Option FieldType} (h1 : Cond.methodLink own idx y ∈ lw_all) (h2 : Cond.static y ∈ lw_all) (h3 : Cond.initialized y.cls ∈ lw_all) (h4 : Cond.code y b L r ∈ lw_all) : GoodIn lw_all (va_wsS own idx y (ws_ y b L r)) := by
  refine lw_app ?_ (lw_meth h4)
  intro w hw
  simp only [List.mem_cons, List.not_mem_nil, or_false] at hw
  rcases hw with e | e | e
  · rw [e]; exact h1
  · rw [e]; exact h2
  · rw [e]; exact h3
/-- the words of a contract for a method WITH HANDLERS (hh: its table) -/
abbrev wsW_ (y : MethodName) (b : ByteArray) (L : Nat) (r : Option FieldType) (hh : List (Nat × Nat × Nat × Nat)) : List Cond := Cond.codeWith y b L r hh :: lw_all
theorem lw_methW {y : MethodName} {b : ByteArray} {L : Nat} {r : Option FieldType} {hh : List (Nat × Nat × Nat × Nat)} (h : Cond.codeWith y b L r hh ∈ lw_all) : GoodIn lw_all (wsW_ y b L r hh) := by
  intro w hw
  rcases List.mem_cons.mp hw with e | e
  · rw [e]
    exact lw_self _ h
  · exact lw_self _ e
/-- any list of words by their places (lw_in), good -/
theorem lw_good {ws : List Cond} (h : ∀ w ∈ ws, w ∈ lw_all) : GoodIn lw_all ws := fun w hw => lw_self w (h w hw)
/-- what a call of a method with handlers asks: vx_cwVW n hts (lw_VW ..), vx_cwSW n hts (lw_SW ..) -/
theorem lw_VW {own : String} {idx : Nat} {C : String} {y : MethodName} {b : ByteArray} {L : Nat} {r : Option FieldType} {hh : List (Nat × Nat × Nat × Nat)} (h1 : Cond.methodLink own idx y ∈ lw_all) (h2 : Cond.instanceMethod y ∈ lw_all) (h3 : Cond.selects C y y ∈ lw_all) (h4 : Cond.initialized C ∈ lw_all) (h5 : Cond.codeWith y b L r hh ∈ lw_all) : GoodIn lw_all (wsV own idx C y (wsW_ y b L r hh)) := by
  refine lw_app ?_ (lw_methW h5)
  intro w hw
  simp only [List.mem_cons, List.not_mem_nil, or_false] at hw
  rcases hw with e | e | e | e
  · rw [e]; exact h1
  · rw [e]; exact h2
  · rw [e]; exact h3
  · rw [e]; exact h4
theorem lw_SW {own : String} {idx : Nat} {y : MethodName} {b : ByteArray} {L : Nat} {r : Option FieldType} {hh : List (Nat × Nat × Nat × Nat)} (h1 : Cond.methodLink own idx y ∈ lw_all) (h2 : Cond.static y ∈ lw_all) (h3 : Cond.initialized y.cls ∈ lw_all) (h4 : Cond.codeWith y b L r hh ∈ lw_all) : GoodIn lw_all (va_wsS own idx y (wsW_ y b L r hh)) := by
  refine lw_app ?_ (lw_methW h4)
  intro w hw
  simp only [List.mem_cons, List.not_mem_nil, or_false] at hw
  rcases hw with e | e | e
  · rw [e]; exact h1
  · rw [e]; exact h2
  · rw [e]; exact h3
/-- a word by its place in its run of the tables -/
theorem lw_at {r : List Cond} (hr : ∀ w ∈ r, w ∈ lw_tbl) {w : Cond} (i : Nat) (h : r[i]? = some w) : w ∈ lw_tbl := hr w (List.mem_of_getElem? h)
theorem lw_g {w : Cond} (h : w ∈ lw_tbl) (g : goodWord w = true) : w ∈ lw_all := List.mem_filter.mpr ⟨h, g⟩
theorem lw_ms : ∀ w ∈ k2_sels lw_privs, w ∈ lw_tbl := fun w h => show w ∈ k2_sels lw_privs ++ tables_1 from List.mem_append_left _ h
theorem lw_m1 : ∀ w ∈ tables_1_1, w ∈ lw_tbl := fun w h => show w ∈ k2_sels lw_privs ++ tables_1 from List.mem_append_right (k2_sels lw_privs) (show w ∈ tables_1 from List.mem_append_left _ h)
theorem lw_m2 : ∀ w ∈ tables_1_2, w ∈ lw_tbl := fun w h => show w ∈ k2_sels lw_privs ++ tables_1 from List.mem_append_right (k2_sels lw_privs) (show w ∈ tables_1 from List.mem_append_right _ (List.mem_append_left _ h))
theorem lw_m3 : ∀ w ∈ tables_1_3, w ∈ lw_tbl := fun w h => show w ∈ k2_sels lw_privs ++ tables_1 from List.mem_append_right (k2_sels lw_privs) (show w ∈ tables_1 from List.mem_append_right _ (List.mem_append_right _ (List.mem_append_left _ h)))
theorem lw_m4 : ∀ w ∈ tables_1_4, w ∈ lw_tbl := fun w h => show w ∈ k2_sels lw_privs ++ tables_1 from List.mem_append_right (k2_sels lw_privs) (show w ∈ tables_1 from List.mem_append_right _ (List.mem_append_right _ (List.mem_append_right _ (List.mem_append_left _ h))))
theorem lw_m5 : ∀ w ∈ tables_1_5, w ∈ lw_tbl := fun w h => show w ∈ k2_sels lw_privs ++ tables_1 from List.mem_append_right (k2_sels lw_privs) (show w ∈ tables_1 from List.mem_append_right _ (List.mem_append_right _ (List.mem_append_right _ (List.mem_append_right _ (List.mem_append_left _ h)))))
theorem lw_m6 : ∀ w ∈ tables_1_6, w ∈ lw_tbl := fun w h => show w ∈ k2_sels lw_privs ++ tables_1 from List.mem_append_right (k2_sels lw_privs) (show w ∈ tables_1 from List.mem_append_right _ (List.mem_append_right _ (List.mem_append_right _ (List.mem_append_right _ (List.mem_append_right _ (List.mem_append_left _ h))))))
theorem lw_m7 : ∀ w ∈ tables_1_7, w ∈ lw_tbl := fun w h => show w ∈ k2_sels lw_privs ++ tables_1 from List.mem_append_right (k2_sels lw_privs) (show w ∈ tables_1 from List.mem_append_right _ (List.mem_append_right _ (List.mem_append_right _ (List.mem_append_right _ (List.mem_append_right _ (List.mem_append_right _ (List.mem_append_left _ h)))))))
theorem lw_m8 : ∀ w ∈ tables_1_8, w ∈ lw_tbl := fun w h => show w ∈ k2_sels lw_privs ++ tables_1 from List.mem_append_right (k2_sels lw_privs) (show w ∈ tables_1 from List.mem_append_right _ (List.mem_append_right _ (List.mem_append_right _ (List.mem_append_right _ (List.mem_append_right _ (List.mem_append_right _ (List.mem_append_right _ h)))))))
theorem qs0 : (Cond.selects "BonnetValley" ⟨"BonnetValley", "words", "(I)LBonnetValley$Words;"⟩ ⟨"BonnetValley", "words", "(I)LBonnetValley$Words;"⟩) ∈ lw_all := lw_g (lw_at lw_ms 0 rfl) rfl
theorem qs1 : (Cond.selects "java/lang/Throwable" ⟨"java/lang/Throwable", "fillInStackTrace", "(I)Ljava/lang/Throwable;"⟩ ⟨"java/lang/Throwable", "fillInStackTrace", "(I)Ljava/lang/Throwable;"⟩) ∈ lw_all := lw_g (lw_at lw_ms 1 rfl) rfl
theorem qs2 : (Cond.selects "BonnetValley" ⟨"BonnetValley", "comes", "()V"⟩ ⟨"BonnetValley", "comes", "()V"⟩) ∈ lw_all := lw_g (lw_at lw_ms 2 rfl) rfl
theorem qs3 : (Cond.selects "BonnetValley" ⟨"BonnetValley", "field", "(LBonnetValley$Words;)I"⟩ ⟨"BonnetValley", "field", "(LBonnetValley$Words;)I"⟩) ∈ lw_all := lw_g (lw_at lw_ms 3 rfl) rfl
theorem qs4 : (Cond.selects "BonnetValley" ⟨"BonnetValley", "isRock", "(I)Z"⟩ ⟨"BonnetValley", "isRock", "(I)Z"⟩) ∈ lw_all := lw_g (lw_at lw_ms 4 rfl) rfl
theorem qs5 : (Cond.selects "BonnetValley$Rule" ⟨"BonnetValley$Rule", "held", "(I)I"⟩ ⟨"BonnetValley$Rule", "held", "(I)I"⟩) ∈ lw_all := lw_g (lw_at lw_ms 5 rfl) rfl
theorem qs6 : (Cond.selects "BonnetValley$Rule" ⟨"BonnetValley$Rule", "sum", "(I)I"⟩ ⟨"BonnetValley$Rule", "sum", "(I)I"⟩) ∈ lw_all := lw_g (lw_at lw_ms 6 rfl) rfl
theorem qs7 : (Cond.selects "BonnetValley$Rule" ⟨"BonnetValley$Rule", "product", "(I)I"⟩ ⟨"BonnetValley$Rule", "product", "(I)I"⟩) ∈ lw_all := lw_g (lw_at lw_ms 7 rfl) rfl
theorem qs8 : (Cond.selects "BonnetValley$Rule" ⟨"BonnetValley$Rule", "thing", "(I)I"⟩ ⟨"BonnetValley$Rule", "thing", "(I)I"⟩) ∈ lw_all := lw_g (lw_at lw_ms 8 rfl) rfl
theorem qs9 : (Cond.selects "BonnetValley$Rule" ⟨"BonnetValley$Rule", "value", "(I)I"⟩ ⟨"BonnetValley$Rule", "value", "(I)I"⟩) ∈ lw_all := lw_g (lw_at lw_ms 9 rfl) rfl
theorem qs10 : (Cond.selects "BonnetValley" ⟨"BonnetValley", "lightOf", "(I)I"⟩ ⟨"BonnetValley", "lightOf", "(I)I"⟩) ∈ lw_all := lw_g (lw_at lw_ms 10 rfl) rfl
theorem qs11 : (Cond.selects "BonnetValley" ⟨"BonnetValley", "peopleOn", "(LBonnetValley$Upland;J)I"⟩ ⟨"BonnetValley", "peopleOn", "(LBonnetValley$Upland;J)I"⟩) ∈ lw_all := lw_g (lw_at lw_ms 11 rfl) rfl
theorem qs12 : (Cond.selects "BonnetValley" ⟨"BonnetValley", "brims", "(LBonnetValley$Upland;)I"⟩ ⟨"BonnetValley", "brims", "(LBonnetValley$Upland;)I"⟩) ∈ lw_all := lw_g (lw_at lw_ms 12 rfl) rfl
theorem qs13 : (Cond.selects "BonnetValley" ⟨"BonnetValley", "remember", "(LBonnetValley$Upland;)V"⟩ ⟨"BonnetValley", "remember", "(LBonnetValley$Upland;)V"⟩) ∈ lw_all := lw_g (lw_at lw_ms 13 rfl) rfl
theorem qs14 : (Cond.selects "BonnetValley" ⟨"BonnetValley", "known", "(LBonnetValley$Upland;)I"⟩ ⟨"BonnetValley", "known", "(LBonnetValley$Upland;)I"⟩) ∈ lw_all := lw_g (lw_at lw_ms 14 rfl) rfl
theorem qs15 : (Cond.selects "BonnetValley" ⟨"BonnetValley", "goHours", "(LBonnetValley$Upland;I)V"⟩ ⟨"BonnetValley", "goHours", "(LBonnetValley$Upland;I)V"⟩) ∈ lw_all := lw_g (lw_at lw_ms 15 rfl) rfl
theorem qs16 : (Cond.selects "BonnetValley" ⟨"BonnetValley", "goHour", "(LBonnetValley$Upland;)V"⟩ ⟨"BonnetValley", "goHour", "(LBonnetValley$Upland;)V"⟩) ∈ lw_all := lw_g (lw_at lw_ms 16 rfl) rfl
theorem qs17 : (Cond.selects "BonnetValley" ⟨"BonnetValley", "reachBy", "(LBonnetValley$Upland;II)I"⟩ ⟨"BonnetValley", "reachBy", "(LBonnetValley$Upland;II)I"⟩) ∈ lw_all := lw_g (lw_at lw_ms 17 rfl) rfl
theorem qs18 : (Cond.selects "BonnetValley" ⟨"BonnetValley", "isClear", "(II)Z"⟩ ⟨"BonnetValley", "isClear", "(II)Z"⟩) ∈ lw_all := lw_g (lw_at lw_ms 18 rfl) rfl
theorem qs19 : (Cond.selects "BonnetValley" ⟨"BonnetValley", "tell", "(LBonnetValley$Upland;II)Z"⟩ ⟨"BonnetValley", "tell", "(LBonnetValley$Upland;II)Z"⟩) ∈ lw_all := lw_g (lw_at lw_ms 19 rfl) rfl
theorem qs20 : (Cond.selects "BonnetValley" ⟨"BonnetValley", "areNear", "(II)Z"⟩ ⟨"BonnetValley", "areNear", "(II)Z"⟩) ∈ lw_all := lw_g (lw_at lw_ms 20 rfl) rfl
theorem qs21 : (Cond.selects "BonnetValley" ⟨"BonnetValley", "meet", "(LBonnetValley$Upland;II)Z"⟩ ⟨"BonnetValley", "meet", "(LBonnetValley$Upland;II)Z"⟩) ∈ lw_all := lw_g (lw_at lw_ms 21 rfl) rfl
theorem qs22 : (Cond.selects "BonnetValley" ⟨"BonnetValley", "tell", "(J)V"⟩ ⟨"BonnetValley", "tell", "(J)V"⟩) ∈ lw_all := lw_g (lw_at lw_ms 22 rfl) rfl
theorem qs23 : (Cond.selects "BonnetValley" ⟨"BonnetValley", "canFace", "(II)Z"⟩ ⟨"BonnetValley", "canFace", "(II)Z"⟩) ∈ lw_all := lw_g (lw_at lw_ms 23 rfl) rfl
theorem qs24 : (Cond.selects "BonnetValley" ⟨"BonnetValley", "isMan", "(I)Z"⟩ ⟨"BonnetValley", "isMan", "(I)Z"⟩) ∈ lw_all := lw_g (lw_at lw_ms 24 rfl) rfl
theorem qs25 : (Cond.selects "BonnetValley" ⟨"BonnetValley", "refusesStep", "(LBonnetValley$Upland;II)I"⟩ ⟨"BonnetValley", "refusesStep", "(LBonnetValley$Upland;II)I"⟩) ∈ lw_all := lw_g (lw_at lw_ms 25 rfl) rfl
theorem qs26 : (Cond.selects "BonnetValley" ⟨"BonnetValley", "stepOf", "(II)I"⟩ ⟨"BonnetValley", "stepOf", "(II)I"⟩) ∈ lw_all := lw_g (lw_at lw_ms 26 rfl) rfl
theorem qs27 : (Cond.selects "BonnetValley" ⟨"BonnetValley", "canTrim", "(II)Z"⟩ ⟨"BonnetValley", "canTrim", "(II)Z"⟩) ∈ lw_all := lw_g (lw_at lw_ms 27 rfl) rfl
theorem qs28 : (Cond.selects "BonnetValley" ⟨"BonnetValley", "refusesPut", "(II)I"⟩ ⟨"BonnetValley", "refusesPut", "(II)I"⟩) ∈ lw_all := lw_g (lw_at lw_ms 28 rfl) rfl
theorem qs29 : (Cond.selects "BonnetValley" ⟨"BonnetValley", "isThing", "(I)Z"⟩ ⟨"BonnetValley", "isThing", "(I)Z"⟩) ∈ lw_all := lw_g (lw_at lw_ms 29 rfl) rfl
theorem qs30 : (Cond.selects "BonnetValley" ⟨"BonnetValley", "isField", "(I)Z"⟩ ⟨"BonnetValley", "isField", "(I)Z"⟩) ∈ lw_all := lw_g (lw_at lw_ms 30 rfl) rfl
theorem qs31 : (Cond.selects "BonnetValley" ⟨"BonnetValley", "fields", "()I"⟩ ⟨"BonnetValley", "fields", "()I"⟩) ∈ lw_all := lw_g (lw_at lw_ms 31 rfl) rfl
theorem qs32 : (Cond.selects "BonnetValley$Order" ⟨"BonnetValley$Order", "act", "()V"⟩ ⟨"BonnetValley$Order", "act", "()V"⟩) ∈ lw_all := lw_g (lw_at lw_ms 32 rfl) rfl
theorem qs33 : (Cond.selects "BonnetValley" ⟨"BonnetValley", "act", "(CII)Z"⟩ ⟨"BonnetValley", "act", "(CII)Z"⟩) ∈ lw_all := lw_g (lw_at lw_ms 33 rfl) rfl
theorem qs34 : (Cond.selects "BonnetValley$Look" ⟨"BonnetValley$Look", "all", "()I"⟩ ⟨"BonnetValley$Look", "all", "()I"⟩) ∈ lw_all := lw_g (lw_at lw_ms 34 rfl) rfl
theorem qs35 : (Cond.selects "BonnetValley" ⟨"BonnetValley", "seersOf", "(LBonnetValley$Upland;I)I"⟩ ⟨"BonnetValley", "seersOf", "(LBonnetValley$Upland;I)I"⟩) ∈ lw_all := lw_g (lw_at lw_ms 35 rfl) rfl
theorem qs36 : (Cond.selects "BonnetValley" ⟨"BonnetValley", "thingsOn", "(J)I"⟩ ⟨"BonnetValley", "thingsOn", "(J)I"⟩) ∈ lw_all := lw_g (lw_at lw_ms 36 rfl) rfl
theorem qs37 : (Cond.selects "BonnetValley" ⟨"BonnetValley", "open", "()J"⟩ ⟨"BonnetValley", "open", "()J"⟩) ∈ lw_all := lw_g (lw_at lw_ms 37 rfl) rfl
theorem qs38 : (Cond.selects "BonnetValley" ⟨"BonnetValley", "seen", "(LBonnetValley$Upland;)J"⟩ ⟨"BonnetValley", "seen", "(LBonnetValley$Upland;)J"⟩) ∈ lw_all := lw_g (lw_at lw_ms 38 rfl) rfl
theorem qs39 : (Cond.selects "BonnetValley" ⟨"BonnetValley", "wide", "(I)I"⟩ ⟨"BonnetValley", "wide", "(I)I"⟩) ∈ lw_all := lw_g (lw_at lw_ms 39 rfl) rfl
theorem qs40 : (Cond.selects "BonnetValley" ⟨"BonnetValley", "allMen", "()I"⟩ ⟨"BonnetValley", "allMen", "()I"⟩) ∈ lw_all := lw_g (lw_at lw_ms 40 rfl) rfl
theorem qs41 : (Cond.selects "BonnetValley" ⟨"BonnetValley", "knowersOf", "(LBonnetValley$Upland;I)I"⟩ ⟨"BonnetValley", "knowersOf", "(LBonnetValley$Upland;I)I"⟩) ∈ lw_all := lw_g (lw_at lw_ms 41 rfl) rfl
theorem qs42 : (Cond.selects "BonnetValley" ⟨"BonnetValley", "lacking", "(LBonnetValley$Upland;)I"⟩ ⟨"BonnetValley", "lacking", "(LBonnetValley$Upland;)I"⟩) ∈ lw_all := lw_g (lw_at lw_ms 42 rfl) rfl
theorem qs43 : (Cond.selects "BonnetValley" ⟨"BonnetValley", "allThings", "()I"⟩ ⟨"BonnetValley", "allThings", "()I"⟩) ∈ lw_all := lw_g (lw_at lw_ms 43 rfl) rfl
theorem qs44 : (Cond.selects "BonnetValley" ⟨"BonnetValley", "cost", "(II)I"⟩ ⟨"BonnetValley", "cost", "(II)I"⟩) ∈ lw_all := lw_g (lw_at lw_ms 44 rfl) rfl
theorem qs45 : (Cond.selects "BonnetValley" ⟨"BonnetValley", "lay", "(IIJ)V"⟩ ⟨"BonnetValley", "lay", "(IIJ)V"⟩) ∈ lw_all := lw_g (lw_at lw_ms 45 rfl) rfl
theorem qs46 : (Cond.selects "BonnetValley" ⟨"BonnetValley", "tellWay", "(II)V"⟩ ⟨"BonnetValley", "tellWay", "(II)V"⟩) ∈ lw_all := lw_g (lw_at lw_ms 46 rfl) rfl
theorem qs47 : (Cond.selects "BonnetValley" ⟨"BonnetValley", "lostAt", "()J"⟩ ⟨"BonnetValley", "lostAt", "()J"⟩) ∈ lw_all := lw_g (lw_at lw_ms 47 rfl) rfl
theorem qs48 : (Cond.selects "BonnetValley" ⟨"BonnetValley", "draw", "(I)I"⟩ ⟨"BonnetValley", "draw", "(I)I"⟩) ∈ lw_all := lw_g (lw_at lw_ms 48 rfl) rfl
theorem qs49 : (Cond.selects "BonnetValleyModel" ⟨"BonnetValleyModel", "begins", "(I)I"⟩ ⟨"BonnetValleyModel", "begins", "(I)I"⟩) ∈ lw_all := lw_g (lw_at lw_ms 49 rfl) rfl
theorem qs50 : (Cond.selects "BonnetValleyModel" ⟨"BonnetValleyModel", "digitIn", "(II)I"⟩ ⟨"BonnetValleyModel", "digitIn", "(II)I"⟩) ∈ lw_all := lw_g (lw_at lw_ms 50 rfl) rfl
theorem qs51 : (Cond.selects "BonnetValleyModel" ⟨"BonnetValleyModel", "takesOf", "(Ljava/lang/String;)I"⟩ ⟨"BonnetValleyModel", "takesOf", "(Ljava/lang/String;)I"⟩) ∈ lw_all := lw_g (lw_at lw_ms 51 rfl) rfl
theorem qs52 : (Cond.selects "BonnetValleyModel" ⟨"BonnetValleyModel", "fields", "()I"⟩ ⟨"BonnetValleyModel", "fields", "()I"⟩) ∈ lw_all := lw_g (lw_at lw_ms 52 rfl) rfl
theorem qs53 : (Cond.selects "BonnetValleyModel" ⟨"BonnetValleyModel", "readsLines", "(ZI)I"⟩ ⟨"BonnetValleyModel", "readsLines", "(ZI)I"⟩) ∈ lw_all := lw_g (lw_at lw_ms 53 rfl) rfl
theorem qs54 : (Cond.selects "BonnetValleyModel" ⟨"BonnetValleyModel", "readsPerson", "()Z"⟩ ⟨"BonnetValleyModel", "readsPerson", "()Z"⟩) ∈ lw_all := lw_g (lw_at lw_ms 54 rfl) rfl
theorem qs55 : (Cond.selects "BonnetValleyModel" ⟨"BonnetValleyModel", "readsField", "()I"⟩ ⟨"BonnetValleyModel", "readsField", "()I"⟩) ∈ lw_all := lw_g (lw_at lw_ms 55 rfl) rfl
theorem qs56 : (Cond.selects "BonnetValleyModel" ⟨"BonnetValleyModel", "readsThing", "()Z"⟩ ⟨"BonnetValleyModel", "readsThing", "()Z"⟩) ∈ lw_all := lw_g (lw_at lw_ms 56 rfl) rfl
theorem qs57 : (Cond.selects "BonnetValleyModel" ⟨"BonnetValleyModel", "takes", "(I)Z"⟩ ⟨"BonnetValleyModel", "takes", "(I)Z"⟩) ∈ lw_all := lw_g (lw_at lw_ms 57 rfl) rfl
theorem qs58 : (Cond.selects "BonnetValleyModel" ⟨"BonnetValleyModel", "faultOf", "(IIZ)I"⟩ ⟨"BonnetValleyModel", "faultOf", "(IIZ)I"⟩) ∈ lw_all := lw_g (lw_at lw_ms 58 rfl) rfl
theorem qs59 : (Cond.selects "BonnetValleyModel" ⟨"BonnetValleyModel", "isNew", "()I"⟩ ⟨"BonnetValleyModel", "isNew", "()I"⟩) ∈ lw_all := lw_g (lw_at lw_ms 59 rfl) rfl
theorem qs60 : (Cond.selects "BonnetValleyModel" ⟨"BonnetValleyModel", "isDigit", "()Z"⟩ ⟨"BonnetValleyModel", "isDigit", "()Z"⟩) ∈ lw_all := lw_g (lw_at lw_ms 60 rfl) rfl
theorem qs61 : (Cond.selects "BonnetValleyModel" ⟨"BonnetValleyModel", "number", "(I)I"⟩ ⟨"BonnetValleyModel", "number", "(I)I"⟩) ∈ lw_all := lw_g (lw_at lw_ms 61 rfl) rfl
theorem qs62 : (Cond.selects "BonnetValleyModel" ⟨"BonnetValleyModel", "readsRule", "()I"⟩ ⟨"BonnetValleyModel", "readsRule", "()I"⟩) ∈ lw_all := lw_g (lw_at lw_ms 62 rfl) rfl
theorem qs63 : (Cond.selects "BonnetValleyModel" ⟨"BonnetValleyModel", "readsRank", "(I)Z"⟩ ⟨"BonnetValleyModel", "readsRank", "(I)Z"⟩) ∈ lw_all := lw_g (lw_at lw_ms 63 rfl) rfl
theorem qs64 : (Cond.selects "BonnetValleyModel" ⟨"BonnetValleyModel", "readsAsked", "()Z"⟩ ⟨"BonnetValleyModel", "readsAsked", "()Z"⟩) ∈ lw_all := lw_g (lw_at lw_ms 64 rfl) rfl
theorem qs65 : (Cond.selects "BonnetValleyModel" ⟨"BonnetValleyModel", "codes", "(I)V"⟩ ⟨"BonnetValleyModel", "codes", "(I)V"⟩) ∈ lw_all := lw_g (lw_at lw_ms 65 rfl) rfl
theorem qs66 : (Cond.selects "BonnetValleyModel" ⟨"BonnetValleyModel", "laysCode", "([II)V"⟩ ⟨"BonnetValleyModel", "laysCode", "([II)V"⟩) ∈ lw_all := lw_g (lw_at lw_ms 66 rfl) rfl
theorem qs67 : (Cond.selects "BonnetValleyModel" ⟨"BonnetValleyModel", "isPerson", "(I)Z"⟩ ⟨"BonnetValleyModel", "isPerson", "(I)Z"⟩) ∈ lw_all := lw_g (lw_at lw_ms 67 rfl) rfl
theorem qs68 : (Cond.selects "BonnetValleyModel" ⟨"BonnetValleyModel", "refuse", "()I"⟩ ⟨"BonnetValleyModel", "refuse", "()I"⟩) ∈ lw_all := lw_g (lw_at lw_ms 68 rfl) rfl
theorem qs69 : (Cond.selects "BonnetValleyModel" ⟨"BonnetValleyModel", "reachBy", "([III)I"⟩ ⟨"BonnetValleyModel", "reachBy", "([III)I"⟩) ∈ lw_all := lw_g (lw_at lw_ms 69 rfl) rfl
theorem qs70 : (Cond.selects "BonnetValleyModel" ⟨"BonnetValleyModel", "lightOn", "(I)I"⟩ ⟨"BonnetValleyModel", "lightOn", "(I)I"⟩) ∈ lw_all := lw_g (lw_at lw_ms 70 rfl) rfl
theorem qs71 : (Cond.selects "BonnetValleyModel" ⟨"BonnetValleyModel", "ruled", "()I"⟩ ⟨"BonnetValleyModel", "ruled", "()I"⟩) ∈ lw_all := lw_g (lw_at lw_ms 71 rfl) rfl
theorem qs72 : (Cond.selects "BonnetValleyModel" ⟨"BonnetValleyModel", "fieldsSeen", "([II)J"⟩ ⟨"BonnetValleyModel", "fieldsSeen", "([II)J"⟩) ∈ lw_all := lw_g (lw_at lw_ms 72 rfl) rfl
theorem qs73 : (Cond.selects "BonnetValleyModel" ⟨"BonnetValleyModel", "seesBy", "(IIIII)Z"⟩ ⟨"BonnetValleyModel", "seesBy", "(IIIII)Z"⟩) ∈ lw_all := lw_g (lw_at lw_ms 73 rfl) rfl
theorem qs74 : (Cond.selects "BonnetValleyModel" ⟨"BonnetValleyModel", "isClear", "(II)Z"⟩ ⟨"BonnetValleyModel", "isClear", "(II)Z"⟩) ∈ lw_all := lw_g (lw_at lw_ms 74 rfl) rfl
theorem qs75 : (Cond.selects "BonnetValleyModel" ⟨"BonnetValleyModel", "thingsOn", "([IJ)I"⟩ ⟨"BonnetValleyModel", "thingsOn", "([IJ)I"⟩) ∈ lw_all := lw_g (lw_at lw_ms 75 rfl) rfl
theorem qs76 : (Cond.selects "BonnetValleyModel" ⟨"BonnetValleyModel", "isThing", "(I)Z"⟩ ⟨"BonnetValleyModel", "isThing", "(I)Z"⟩) ∈ lw_all := lw_g (lw_at lw_ms 76 rfl) rfl
theorem qs77 : (Cond.selects "BonnetValleyModel" ⟨"BonnetValleyModel", "knowing", "([II)I"⟩ ⟨"BonnetValleyModel", "knowing", "([II)I"⟩) ∈ lw_all := lw_g (lw_at lw_ms 77 rfl) rfl
theorem qs78 : (Cond.selects "BonnetValleyModel" ⟨"BonnetValleyModel", "whoSees", "([II)I"⟩ ⟨"BonnetValleyModel", "whoSees", "([II)I"⟩) ∈ lw_all := lw_g (lw_at lw_ms 78 rfl) rfl
theorem qs79 : (Cond.selects "BonnetValleyModel" ⟨"BonnetValleyModel", "doesSee", "([III)Z"⟩ ⟨"BonnetValleyModel", "doesSee", "([III)Z"⟩) ∈ lw_all := lw_g (lw_at lw_ms 79 rfl) rfl
theorem qs80 : (Cond.selects "BonnetValleyModel" ⟨"BonnetValleyModel", "putsBy", "()V"⟩ ⟨"BonnetValleyModel", "putsBy", "()V"⟩) ∈ lw_all := lw_g (lw_at lw_ms 80 rfl) rfl
theorem qs81 : (Cond.selects "BonnetValleyModel" ⟨"BonnetValleyModel", "known", "([I)I"⟩ ⟨"BonnetValleyModel", "known", "([I)I"⟩) ∈ lw_all := lw_g (lw_at lw_ms 81 rfl) rfl
theorem qs82 : (Cond.selects "BonnetValleyModel" ⟨"BonnetValleyModel", "goesOn", "([II)V"⟩ ⟨"BonnetValleyModel", "goesOn", "([II)V"⟩) ∈ lw_all := lw_g (lw_at lw_ms 82 rfl) rfl
theorem qs83 : (Cond.selects "BonnetValleyModel" ⟨"BonnetValleyModel", "hourGoes", "([I)V"⟩ ⟨"BonnetValleyModel", "hourGoes", "([I)V"⟩) ∈ lw_all := lw_g (lw_at lw_ms 83 rfl) rfl
theorem qs84 : (Cond.selects "BonnetValleyModel" ⟨"BonnetValleyModel", "tellEachOther", "([III)Z"⟩ ⟨"BonnetValleyModel", "tellEachOther", "([III)Z"⟩) ∈ lw_all := lw_g (lw_at lw_ms 84 rfl) rfl
theorem qs85 : (Cond.selects "BonnetValleyModel" ⟨"BonnetValleyModel", "seeEachOther", "([III)Z"⟩ ⟨"BonnetValleyModel", "seeEachOther", "([III)Z"⟩) ∈ lw_all := lw_g (lw_at lw_ms 85 rfl) rfl
theorem qs86 : (Cond.selects "BonnetValleyModel" ⟨"BonnetValleyModel", "enters", "(J)V"⟩ ⟨"BonnetValleyModel", "enters", "(J)V"⟩) ∈ lw_all := lw_g (lw_at lw_ms 86 rfl) rfl
theorem qs87 : (Cond.selects "BonnetValleyModel" ⟨"BonnetValleyModel", "adds", "(I)I"⟩ ⟨"BonnetValleyModel", "adds", "(I)I"⟩) ∈ lw_all := lw_g (lw_at lw_ms 87 rfl) rfl
theorem qs88 : (Cond.selects "BonnetValleyModel" ⟨"BonnetValleyModel", "facesOne", "([III)I"⟩ ⟨"BonnetValleyModel", "facesOne", "([III)I"⟩) ∈ lw_all := lw_g (lw_at lw_ms 88 rfl) rfl
theorem qs89 : (Cond.selects "BonnetValleyModel" ⟨"BonnetValleyModel", "counted", "(I)I"⟩ ⟨"BonnetValleyModel", "counted", "(I)I"⟩) ∈ lw_all := lw_g (lw_at lw_ms 89 rfl) rfl
theorem qs90 : (Cond.selects "BonnetValleyModel" ⟨"BonnetValleyModel", "stepsOne", "([III)I"⟩ ⟨"BonnetValleyModel", "stepsOne", "([III)I"⟩) ∈ lw_all := lw_g (lw_at lw_ms 90 rfl) rfl
theorem qs91 : (Cond.selects "BonnetValleyModel" ⟨"BonnetValleyModel", "beside", "(II)I"⟩ ⟨"BonnetValleyModel", "beside", "(II)I"⟩) ∈ lw_all := lw_g (lw_at lw_ms 91 rfl) rfl
theorem qs92 : (Cond.selects "BonnetValleyModel" ⟨"BonnetValleyModel", "trimsOne", "(II)I"⟩ ⟨"BonnetValleyModel", "trimsOne", "(II)I"⟩) ∈ lw_all := lw_g (lw_at lw_ms 92 rfl) rfl
theorem qs93 : (Cond.selects "BonnetValleyModel" ⟨"BonnetValleyModel", "putsOne", "(II)I"⟩ ⟨"BonnetValleyModel", "putsOne", "(II)I"⟩) ∈ lw_all := lw_g (lw_at lw_ms 93 rfl) rfl
theorem qs94 : (Cond.selects "BonnetValleyModel" ⟨"BonnetValleyModel", "isField", "(I)Z"⟩ ⟨"BonnetValleyModel", "isField", "(I)Z"⟩) ∈ lw_all := lw_g (lw_at lw_ms 94 rfl) rfl
theorem qs95 : (Cond.selects "BonnetValleyModel" ⟨"BonnetValleyModel", "readsAct", "()Z"⟩ ⟨"BonnetValleyModel", "readsAct", "()Z"⟩) ∈ lw_all := lw_g (lw_at lw_ms 95 rfl) rfl
theorem qs96 : (Cond.selects "BonnetValleyModel" ⟨"BonnetValleyModel", "does", "(I)Z"⟩ ⟨"BonnetValleyModel", "does", "(I)Z"⟩) ∈ lw_all := lw_g (lw_at lw_ms 96 rfl) rfl
theorem qs97 : (Cond.selects "BonnetValleyModel" ⟨"BonnetValleyModel", "peopleOn", "([IJ)I"⟩ ⟨"BonnetValleyModel", "peopleOn", "([IJ)I"⟩) ∈ lw_all := lw_g (lw_at lw_ms 97 rfl) rfl
theorem qs98 : (Cond.selects "BonnetValleyModel" ⟨"BonnetValleyModel", "free", "()J"⟩ ⟨"BonnetValleyModel", "free", "()J"⟩) ∈ lw_all := lw_g (lw_at lw_ms 98 rfl) rfl
theorem qs99 : (Cond.selects "BonnetValleyModel" ⟨"BonnetValleyModel", "allSeen", "([I)J"⟩ ⟨"BonnetValleyModel", "allSeen", "([I)J"⟩) ∈ lw_all := lw_g (lw_at lw_ms 99 rfl) rfl
theorem qs100 : (Cond.selects "BonnetValleyModel" ⟨"BonnetValleyModel", "copies", "()V"⟩ ⟨"BonnetValleyModel", "copies", "()V"⟩) ∈ lw_all := lw_g (lw_at lw_ms 100 rfl) rfl
theorem qs101 : (Cond.selects "BonnetValleyModel" ⟨"BonnetValleyModel", "firstWithout", "([I)I"⟩ ⟨"BonnetValleyModel", "firstWithout", "([I)I"⟩) ∈ lw_all := lw_g (lw_at lw_ms 101 rfl) rfl
theorem qs102 : (Cond.selects "BonnetValleyModel" ⟨"BonnetValleyModel", "wouldSee", "(III)Z"⟩ ⟨"BonnetValleyModel", "wouldSee", "(III)Z"⟩) ∈ lw_all := lw_g (lw_at lw_ms 102 rfl) rfl
theorem qs103 : (Cond.selects "BonnetValleyModel" ⟨"BonnetValleyModel", "wouldSeeThings", "(II)I"⟩ ⟨"BonnetValleyModel", "wouldSeeThings", "(II)I"⟩) ∈ lw_all := lw_g (lw_at lw_ms 103 rfl) rfl
theorem qs104 : (Cond.selects "BonnetValleyModel" ⟨"BonnetValleyModel", "fewWith", "(III)I"⟩ ⟨"BonnetValleyModel", "fewWith", "(III)I"⟩) ∈ lw_all := lw_g (lw_at lw_ms 104 rfl) rfl
theorem qs105 : (Cond.selects "BonnetValleyModel" ⟨"BonnetValleyModel", "laysWay", "(IIJ)I"⟩ ⟨"BonnetValleyModel", "laysWay", "(IIJ)I"⟩) ∈ lw_all := lw_g (lw_at lw_ms 105 rfl) rfl
theorem qs106 : (Cond.selects "BonnetValleyModel" ⟨"BonnetValleyModel", "laysSteps", "(IIJ)V"⟩ ⟨"BonnetValleyModel", "laysSteps", "(IIJ)V"⟩) ∈ lw_all := lw_g (lw_at lw_ms 106 rfl) rfl
theorem qs107 : (Cond.selects "BonnetValleyModel" ⟨"BonnetValleyModel", "fitting", "()J"⟩ ⟨"BonnetValleyModel", "fitting", "()J"⟩) ∈ lw_all := lw_g (lw_at lw_ms 107 rfl) rfl
theorem qs108 : (Cond.selects "BonnetValleyModel" ⟨"BonnetValleyModel", "draws", "(I)I"⟩ ⟨"BonnetValleyModel", "draws", "(I)I"⟩) ∈ lw_all := lw_g (lw_at lw_ms 108 rfl) rfl
