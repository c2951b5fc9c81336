-- ===== PART A: goes FIRST, ahead of the names: the tables' words, and 'selects' of the private methods out of them =====
/-- a private method of a class that the tables say can be made, by its rows of tables_1 -/
def lw_okq (q : MethodName × Nat) : Prop := (q.1.cls ≠ "java/lang/invoke/MethodHandle" ∧ q.1.cls ≠ "java/lang/invoke/VarHandle") ∧ Cond.instantiable q.1.cls q.2 ∈ tables_1 ∧ Cond.privateMethod q.1 ∈ tables_1 ∧ Cond.instanceMethod q.1 ∈ tables_1
set_option maxRecDepth 100000
theorem lw_t1 {w : Cond} (h : w ∈ tables_1_1) : w ∈ tables_1 := List.mem_append_left _ h
theorem lw_t2 {w : Cond} (h : w ∈ tables_1_2) : w ∈ tables_1 := List.mem_append_right _ (List.mem_append_left _ h)
theorem lw_t3 {w : Cond} (h : w ∈ tables_1_3) : w ∈ tables_1 := List.mem_append_right _ (List.mem_append_right _ (List.mem_append_left _ h))
theorem lw_t4 {w : Cond} (h : w ∈ tables_1_4) : w ∈ tables_1 := List.mem_append_right _ (List.mem_append_right _ (List.mem_append_right _ (List.mem_append_left _ h)))
theorem lw_t5 {w : Cond} (h : w ∈ tables_1_5) : w ∈ tables_1 := List.mem_append_right _ (List.mem_append_right _ (List.mem_append_right _ (List.mem_append_right _ (List.mem_append_left _ h))))
theorem lw_t6 {w : Cond} (h : w ∈ tables_1_6) : w ∈ tables_1 := List.mem_append_right _ (List.mem_append_right _ (List.mem_append_right _ (List.mem_append_right _ (List.mem_append_right _ h))))
theorem lw_p0 : lw_okq (⟨"GoodHalfEmpty", "act", "(III)I"⟩, 24) := ⟨⟨by decide +kernel, by decide +kernel⟩, lw_t1 (List.mem_of_getElem? (i := 34) rfl), lw_t2 (List.mem_of_getElem? (i := 59) rfl), lw_t2 (List.mem_of_getElem? (i := 60) rfl)⟩
theorem lw_p1 : lw_okq (⟨"GoodHalfEmpty", "doIt", "(III)I"⟩, 24) := ⟨⟨by decide +kernel, by decide +kernel⟩, lw_t1 (List.mem_of_getElem? (i := 34) rfl), lw_t2 (List.mem_of_getElem? (i := 64) rfl), lw_t2 (List.mem_of_getElem? (i := 65) rfl)⟩
theorem lw_p2 : lw_okq (⟨"GoodHalfEmpty", "ofTown", "(III)I"⟩, 24) := ⟨⟨by decide +kernel, by decide +kernel⟩, lw_t1 (List.mem_of_getElem? (i := 34) rfl), lw_t2 (List.mem_of_getElem? (i := 68) rfl), lw_t2 (List.mem_of_getElem? (i := 69) rfl)⟩
theorem lw_p3 : lw_okq (⟨"GoodHalfEmpty", "letterIt", "(I)I"⟩, 24) := ⟨⟨by decide +kernel, by decide +kernel⟩, lw_t1 (List.mem_of_getElem? (i := 34) rfl), lw_t2 (List.mem_of_getElem? (i := 72) rfl), lw_t2 (List.mem_of_getElem? (i := 73) rfl)⟩
theorem lw_p4 : lw_okq (⟨"java/lang/Throwable", "fillInStackTrace", "(I)Ljava/lang/Throwable;"⟩, 6) := ⟨⟨by decide +kernel, by decide +kernel⟩, lw_t2 (List.mem_of_getElem? (i := 121) rfl), lw_t2 (List.mem_of_getElem? (i := 119) rfl), lw_t2 (List.mem_of_getElem? (i := 120) rfl)⟩
theorem lw_p5 : lw_okq (⟨"GoodHalfEmpty", "readTown", "()I"⟩, 24) := ⟨⟨by decide +kernel, by decide +kernel⟩, lw_t1 (List.mem_of_getElem? (i := 34) rfl), lw_t2 (List.mem_of_getElem? (i := 152) rfl), lw_t2 (List.mem_of_getElem? (i := 153) rfl)⟩
theorem lw_p6 : lw_okq (⟨"GoodHalfEmpty$Reader", "here", "()I"⟩, 3) := ⟨⟨by decide +kernel, by decide +kernel⟩, lw_t2 (List.mem_of_getElem? (i := 156) rfl), lw_t2 (List.mem_of_getElem? (i := 180) rfl), lw_t2 (List.mem_of_getElem? (i := 181) rfl)⟩
theorem lw_p7 : lw_okq (⟨"GoodHalfEmpty$Reader", "mustStand", "(Z)V"⟩, 3) := ⟨⟨by decide +kernel, by decide +kernel⟩, lw_t2 (List.mem_of_getElem? (i := 156) rfl), lw_t2 (List.mem_of_getElem? (i := 184) rfl), lw_t2 (List.mem_of_getElem? (i := 185) rfl)⟩
theorem lw_p8 : lw_okq (⟨"GoodHalfEmpty$Reader", "number", "()I"⟩, 3) := ⟨⟨by decide +kernel, by decide +kernel⟩, lw_t2 (List.mem_of_getElem? (i := 156) rfl), lw_t2 (List.mem_of_getElem? (i := 208) rfl), lw_t2 (List.mem_of_getElem? (i := 209) rfl)⟩
theorem lw_p9 : lw_okq (⟨"GoodHalfEmpty$Reader", "digit", "()I"⟩, 3) := ⟨⟨by decide +kernel, by decide +kernel⟩, lw_t2 (List.mem_of_getElem? (i := 156) rfl), lw_t2 (List.mem_of_getElem? (i := 212) rfl), lw_t2 (List.mem_of_getElem? (i := 213) rfl)⟩
theorem lw_p10 : lw_okq (⟨"GoodHalfEmpty$Reader", "sort", "(I)LGoodHalfEmpty$Told;"⟩, 3) := ⟨⟨by decide +kernel, by decide +kernel⟩, lw_t2 (List.mem_of_getElem? (i := 156) rfl), lw_t3 (List.mem_of_getElem? (i := 7) rfl), lw_t3 (List.mem_of_getElem? (i := 8) rfl)⟩
theorem lw_p11 : lw_okq (⟨"GoodHalfEmpty$Reader", "goerOf", "(I)I"⟩, 3) := ⟨⟨by decide +kernel, by decide +kernel⟩, lw_t2 (List.mem_of_getElem? (i := 156) rfl), lw_t3 (List.mem_of_getElem? (i := 11) rfl), lw_t3 (List.mem_of_getElem? (i := 12) rfl)⟩
theorem lw_p12 : lw_okq (⟨"GoodHalfEmpty$Reader", "take", "(I)V"⟩, 3) := ⟨⟨by decide +kernel, by decide +kernel⟩, lw_t2 (List.mem_of_getElem? (i := 156) rfl), lw_t3 (List.mem_of_getElem? (i := 15) rfl), lw_t3 (List.mem_of_getElem? (i := 16) rfl)⟩
theorem lw_p13 : lw_okq (⟨"GoodHalfEmpty$Reader", "rule", "(I)LGoodHalfEmpty$Told;"⟩, 3) := ⟨⟨by decide +kernel, by decide +kernel⟩, lw_t2 (List.mem_of_getElem? (i := 156) rfl), lw_t3 (List.mem_of_getElem? (i := 72) rfl), lw_t3 (List.mem_of_getElem? (i := 73) rfl)⟩
theorem lw_p14 : lw_okq (⟨"GoodHalfEmpty$Reader", "ruleOf", "(I)I"⟩, 3) := ⟨⟨by decide +kernel, by decide +kernel⟩, lw_t2 (List.mem_of_getElem? (i := 156) rfl), lw_t3 (List.mem_of_getElem? (i := 76) rfl), lw_t3 (List.mem_of_getElem? (i := 77) rfl)⟩
theorem lw_p15 : lw_okq (⟨"GoodHalfEmpty", "sortTold", "(II)I"⟩, 24) := ⟨⟨by decide +kernel, by decide +kernel⟩, lw_t1 (List.mem_of_getElem? (i := 34) rfl), lw_t3 (List.mem_of_getElem? (i := 145) rfl), lw_t3 (List.mem_of_getElem? (i := 146) rfl)⟩
def lw_privs_1 : List (MethodName × Nat) := [(⟨"GoodHalfEmpty", "act", "(III)I"⟩, 24), (⟨"GoodHalfEmpty", "doIt", "(III)I"⟩, 24), (⟨"GoodHalfEmpty", "ofTown", "(III)I"⟩, 24), (⟨"GoodHalfEmpty", "letterIt", "(I)I"⟩, 24), (⟨"java/lang/Throwable", "fillInStackTrace", "(I)Ljava/lang/Throwable;"⟩, 6), (⟨"GoodHalfEmpty", "readTown", "()I"⟩, 24), (⟨"GoodHalfEmpty$Reader", "here", "()I"⟩, 3), (⟨"GoodHalfEmpty$Reader", "mustStand", "(Z)V"⟩, 3), (⟨"GoodHalfEmpty$Reader", "number", "()I"⟩, 3), (⟨"GoodHalfEmpty$Reader", "digit", "()I"⟩, 3), (⟨"GoodHalfEmpty$Reader", "sort", "(I)LGoodHalfEmpty$Told;"⟩, 3), (⟨"GoodHalfEmpty$Reader", "goerOf", "(I)I"⟩, 3), (⟨"GoodHalfEmpty$Reader", "take", "(I)V"⟩, 3), (⟨"GoodHalfEmpty$Reader", "rule", "(I)LGoodHalfEmpty$Told;"⟩, 3), (⟨"GoodHalfEmpty$Reader", "ruleOf", "(I)I"⟩, 3), (⟨"GoodHalfEmpty", "sortTold", "(II)I"⟩, 24)]
theorem lw_r1 : ∀ q ∈ lw_privs_1, lw_okq q := List.forall_mem_cons.mpr ⟨lw_p0, List.forall_mem_cons.mpr ⟨lw_p1, List.forall_mem_cons.mpr ⟨lw_p2, List.forall_mem_cons.mpr ⟨lw_p3, List.forall_mem_cons.mpr ⟨lw_p4, List.forall_mem_cons.mpr ⟨lw_p5, List.forall_mem_cons.mpr ⟨lw_p6, List.forall_mem_cons.mpr ⟨lw_p7, List.forall_mem_cons.mpr ⟨lw_p8, List.forall_mem_cons.mpr ⟨lw_p9, List.forall_mem_cons.mpr ⟨lw_p10, List.forall_mem_cons.mpr ⟨lw_p11, List.forall_mem_cons.mpr ⟨lw_p12, List.forall_mem_cons.mpr ⟨lw_p13, List.forall_mem_cons.mpr ⟨lw_p14, List.forall_mem_cons.mpr ⟨lw_p15, fun _ h => absurd h List.not_mem_nil⟩⟩⟩⟩⟩⟩⟩⟩⟩⟩⟩⟩⟩⟩⟩⟩
theorem lw_p16 : lw_okq (⟨"GoodHalfEmpty", "mustBeSort", "(I)V"⟩, 24) := ⟨⟨by decide +kernel, by decide +kernel⟩, lw_t1 (List.mem_of_getElem? (i := 34) rfl), lw_t3 (List.mem_of_getElem? (i := 149) rfl), lw_t3 (List.mem_of_getElem? (i := 150) rfl)⟩
theorem lw_p17 : lw_okq (⟨"GoodHalfEmpty", "ruleTold", "(II)I"⟩, 24) := ⟨⟨by decide +kernel, by decide +kernel⟩, lw_t1 (List.mem_of_getElem? (i := 34) rfl), lw_t3 (List.mem_of_getElem? (i := 179) rfl), lw_t3 (List.mem_of_getElem? (i := 180) rfl)⟩
theorem lw_p18 : lw_okq (⟨"GoodHalfEmpty$Town", "ask", "(Z)V"⟩, 14) := ⟨⟨by decide +kernel, by decide +kernel⟩, lw_t1 (List.mem_of_getElem? (i := 136) rfl), lw_t4 (List.mem_of_getElem? (i := 26) rfl), lw_t4 (List.mem_of_getElem? (i := 27) rfl)⟩
theorem lw_p19 : lw_okq (⟨"GoodHalfEmpty", "goesNext", "(I)I"⟩, 24) := ⟨⟨by decide +kernel, by decide +kernel⟩, lw_t1 (List.mem_of_getElem? (i := 34) rfl), lw_t4 (List.mem_of_getElem? (i := 73) rfl), lw_t4 (List.mem_of_getElem? (i := 74) rfl)⟩
theorem lw_p20 : lw_okq (⟨"GoodHalfEmpty", "worthNext", "(I)I"⟩, 24) := ⟨⟨by decide +kernel, by decide +kernel⟩, lw_t1 (List.mem_of_getElem? (i := 34) rfl), lw_t4 (List.mem_of_getElem? (i := 77) rfl), lw_t4 (List.mem_of_getElem? (i := 78) rfl)⟩
theorem lw_p21 : lw_okq (⟨"GoodHalfEmpty", "ofWeeks", "(III)I"⟩, 24) := ⟨⟨by decide +kernel, by decide +kernel⟩, lw_t1 (List.mem_of_getElem? (i := 34) rfl), lw_t4 (List.mem_of_getElem? (i := 89) rfl), lw_t4 (List.mem_of_getElem? (i := 90) rfl)⟩
theorem lw_p22 : lw_okq (⟨"GoodHalfEmpty", "afterWeeks", "(I)I"⟩, 24) := ⟨⟨by decide +kernel, by decide +kernel⟩, lw_t1 (List.mem_of_getElem? (i := 34) rfl), lw_t4 (List.mem_of_getElem? (i := 97) rfl), lw_t4 (List.mem_of_getElem? (i := 98) rfl)⟩
theorem lw_p23 : lw_okq (⟨"GoodHalfEmpty", "openMind", "()LGoodHalfEmpty$Town;"⟩, 24) := ⟨⟨by decide +kernel, by decide +kernel⟩, lw_t1 (List.mem_of_getElem? (i := 34) rfl), lw_t4 (List.mem_of_getElem? (i := 101) rfl), lw_t4 (List.mem_of_getElem? (i := 102) rfl)⟩
theorem lw_p24 : lw_okq (⟨"GoodHalfEmpty", "againBehind", "()I"⟩, 24) := ⟨⟨by decide +kernel, by decide +kernel⟩, lw_t1 (List.mem_of_getElem? (i := 34) rfl), lw_t4 (List.mem_of_getElem? (i := 105) rfl), lw_t4 (List.mem_of_getElem? (i := 106) rfl)⟩
theorem lw_p25 : lw_okq (⟨"GoodHalfEmpty", "gainsOf", "(LGoodHalfEmpty$Town;II)I"⟩, 24) := ⟨⟨by decide +kernel, by decide +kernel⟩, lw_t1 (List.mem_of_getElem? (i := 34) rfl), lw_t4 (List.mem_of_getElem? (i := 109) rfl), lw_t4 (List.mem_of_getElem? (i := 110) rfl)⟩
theorem lw_p26 : lw_okq (⟨"GoodHalfEmpty", "lookTold", "(II)I"⟩, 24) := ⟨⟨by decide +kernel, by decide +kernel⟩, lw_t1 (List.mem_of_getElem? (i := 34) rfl), lw_t4 (List.mem_of_getElem? (i := 113) rfl), lw_t4 (List.mem_of_getElem? (i := 114) rfl)⟩
theorem lw_p27 : lw_okq (⟨"GoodHalfEmpty", "look", "(LGoodHalfEmpty$Town;I)V"⟩, 24) := ⟨⟨by decide +kernel, by decide +kernel⟩, lw_t1 (List.mem_of_getElem? (i := 34) rfl), lw_t4 (List.mem_of_getElem? (i := 117) rfl), lw_t4 (List.mem_of_getElem? (i := 118) rfl)⟩
theorem lw_p28 : lw_okq (⟨"GoodHalfEmpty", "ofRest", "(III)I"⟩, 24) := ⟨⟨by decide +kernel, by decide +kernel⟩, lw_t1 (List.mem_of_getElem? (i := 34) rfl), lw_t4 (List.mem_of_getElem? (i := 123) rfl), lw_t4 (List.mem_of_getElem? (i := 124) rfl)⟩
theorem lw_p29 : lw_okq (⟨"GoodHalfEmpty", "mostRight", "(I)I"⟩, 24) := ⟨⟨by decide +kernel, by decide +kernel⟩, lw_t1 (List.mem_of_getElem? (i := 34) rfl), lw_t4 (List.mem_of_getElem? (i := 127) rfl), lw_t4 (List.mem_of_getElem? (i := 128) rfl)⟩
theorem lw_p30 : lw_okq (⟨"GoodHalfEmpty", "swingOfLonger", "(I)I"⟩, 24) := ⟨⟨by decide +kernel, by decide +kernel⟩, lw_t1 (List.mem_of_getElem? (i := 34) rfl), lw_t4 (List.mem_of_getElem? (i := 132) rfl), lw_t4 (List.mem_of_getElem? (i := 133) rfl)⟩
theorem lw_p31 : lw_okq (⟨"GoodHalfEmpty", "bySeeds", "(II)I"⟩, 24) := ⟨⟨by decide +kernel, by decide +kernel⟩, lw_t1 (List.mem_of_getElem? (i := 34) rfl), lw_t4 (List.mem_of_getElem? (i := 137) rfl), lw_t4 (List.mem_of_getElem? (i := 138) rfl)⟩
def lw_privs_2 : List (MethodName × Nat) := [(⟨"GoodHalfEmpty", "mustBeSort", "(I)V"⟩, 24), (⟨"GoodHalfEmpty", "ruleTold", "(II)I"⟩, 24), (⟨"GoodHalfEmpty$Town", "ask", "(Z)V"⟩, 14), (⟨"GoodHalfEmpty", "goesNext", "(I)I"⟩, 24), (⟨"GoodHalfEmpty", "worthNext", "(I)I"⟩, 24), (⟨"GoodHalfEmpty", "ofWeeks", "(III)I"⟩, 24), (⟨"GoodHalfEmpty", "afterWeeks", "(I)I"⟩, 24), (⟨"GoodHalfEmpty", "openMind", "()LGoodHalfEmpty$Town;"⟩, 24), (⟨"GoodHalfEmpty", "againBehind", "()I"⟩, 24), (⟨"GoodHalfEmpty", "gainsOf", "(LGoodHalfEmpty$Town;II)I"⟩, 24), (⟨"GoodHalfEmpty", "lookTold", "(II)I"⟩, 24), (⟨"GoodHalfEmpty", "look", "(LGoodHalfEmpty$Town;I)V"⟩, 24), (⟨"GoodHalfEmpty", "ofRest", "(III)I"⟩, 24), (⟨"GoodHalfEmpty", "mostRight", "(I)I"⟩, 24), (⟨"GoodHalfEmpty", "swingOfLonger", "(I)I"⟩, 24), (⟨"GoodHalfEmpty", "bySeeds", "(II)I"⟩, 24)]
theorem lw_r2 : ∀ q ∈ lw_privs_2, lw_okq q := List.forall_mem_cons.mpr ⟨lw_p16, List.forall_mem_cons.mpr ⟨lw_p17, List.forall_mem_cons.mpr ⟨lw_p18, List.forall_mem_cons.mpr ⟨lw_p19, List.forall_mem_cons.mpr ⟨lw_p20, List.forall_mem_cons.mpr ⟨lw_p21, List.forall_mem_cons.mpr ⟨lw_p22, List.forall_mem_cons.mpr ⟨lw_p23, List.forall_mem_cons.mpr ⟨lw_p24, List.forall_mem_cons.mpr ⟨lw_p25, List.forall_mem_cons.mpr ⟨lw_p26, List.forall_mem_cons.mpr ⟨lw_p27, List.forall_mem_cons.mpr ⟨lw_p28, List.forall_mem_cons.mpr ⟨lw_p29, List.forall_mem_cons.mpr ⟨lw_p30, List.forall_mem_cons.mpr ⟨lw_p31, fun _ h => absurd h List.not_mem_nil⟩⟩⟩⟩⟩⟩⟩⟩⟩⟩⟩⟩⟩⟩⟩⟩
theorem lw_p32 : lw_okq (⟨"GoodHalfEmpty", "judgeRow", "()I"⟩, 24) := ⟨⟨by decide +kernel, by decide +kernel⟩, lw_t1 (List.mem_of_getElem? (i := 34) rfl), lw_t4 (List.mem_of_getElem? (i := 146) rfl), lw_t4 (List.mem_of_getElem? (i := 147) rfl)⟩
theorem lw_p33 : lw_okq (⟨"GoodHalfEmpty", "ofPlans", "(II)I"⟩, 24) := ⟨⟨by decide +kernel, by decide +kernel⟩, lw_t1 (List.mem_of_getElem? (i := 34) rfl), lw_t4 (List.mem_of_getElem? (i := 150) rfl), lw_t4 (List.mem_of_getElem? (i := 151) rfl)⟩
theorem lw_p34 : lw_okq (⟨"GoodHalfEmpty", "findPlans", "(LGoodHalfEmpty$Town;)V"⟩, 24) := ⟨⟨by decide +kernel, by decide +kernel⟩, lw_t1 (List.mem_of_getElem? (i := 34) rfl), lw_t4 (List.mem_of_getElem? (i := 154) rfl), lw_t4 (List.mem_of_getElem? (i := 155) rfl)⟩
theorem lw_p35 : lw_okq (⟨"GoodHalfEmpty", "presentOf", "()I"⟩, 24) := ⟨⟨by decide +kernel, by decide +kernel⟩, lw_t1 (List.mem_of_getElem? (i := 34) rfl), lw_t4 (List.mem_of_getElem? (i := 158) rfl), lw_t4 (List.mem_of_getElem? (i := 159) rfl)⟩
theorem lw_p36 : lw_okq (⟨"GoodHalfEmpty", "worthOfPlan", "(LGoodHalfEmpty$Town;I)I"⟩, 24) := ⟨⟨by decide +kernel, by decide +kernel⟩, lw_t1 (List.mem_of_getElem? (i := 34) rfl), lw_t4 (List.mem_of_getElem? (i := 162) rfl), lw_t4 (List.mem_of_getElem? (i := 163) rfl)⟩
theorem lw_p37 : lw_okq (⟨"GoodHalfEmpty", "doesRest", "(LGoodHalfEmpty$Town;I)Z"⟩, 24) := ⟨⟨by decide +kernel, by decide +kernel⟩, lw_t1 (List.mem_of_getElem? (i := 34) rfl), lw_t4 (List.mem_of_getElem? (i := 167) rfl), lw_t4 (List.mem_of_getElem? (i := 168) rfl)⟩
theorem lw_p38 : lw_okq (⟨"GoodHalfEmpty", "keepRest", "(II)V"⟩, 24) := ⟨⟨by decide +kernel, by decide +kernel⟩, lw_t1 (List.mem_of_getElem? (i := 34) rfl), lw_t4 (List.mem_of_getElem? (i := 171) rfl), lw_t4 (List.mem_of_getElem? (i := 172) rfl)⟩
theorem lw_p39 : lw_okq (⟨"GoodHalfEmpty", "nextPlan", "()Z"⟩, 24) := ⟨⟨by decide +kernel, by decide +kernel⟩, lw_t1 (List.mem_of_getElem? (i := 34) rfl), lw_t4 (List.mem_of_getElem? (i := 176) rfl), lw_t4 (List.mem_of_getElem? (i := 177) rfl)⟩
theorem lw_p40 : lw_okq (⟨"GoodHalfEmpty", "restTold", "(I)I"⟩, 24) := ⟨⟨by decide +kernel, by decide +kernel⟩, lw_t1 (List.mem_of_getElem? (i := 34) rfl), lw_t4 (List.mem_of_getElem? (i := 180) rfl), lw_t4 (List.mem_of_getElem? (i := 181) rfl)⟩
theorem lw_p41 : lw_okq (⟨"GoodHalfEmpty", "bestTold", "(I)I"⟩, 24) := ⟨⟨by decide +kernel, by decide +kernel⟩, lw_t1 (List.mem_of_getElem? (i := 34) rfl), lw_t4 (List.mem_of_getElem? (i := 184) rfl), lw_t4 (List.mem_of_getElem? (i := 185) rfl)⟩
theorem lw_p42 : lw_okq (⟨"GoodHalfEmpty", "bestPenny", "()I"⟩, 24) := ⟨⟨by decide +kernel, by decide +kernel⟩, lw_t1 (List.mem_of_getElem? (i := 34) rfl), lw_t4 (List.mem_of_getElem? (i := 188) rfl), lw_t4 (List.mem_of_getElem? (i := 189) rfl)⟩
theorem lw_p43 : lw_okq (⟨"GoodHalfEmpty", "bestChairs", "()I"⟩, 24) := ⟨⟨by decide +kernel, by decide +kernel⟩, lw_t1 (List.mem_of_getElem? (i := 34) rfl), lw_t4 (List.mem_of_getElem? (i := 192) rfl), lw_t4 (List.mem_of_getElem? (i := 193) rfl)⟩
theorem lw_p44 : lw_okq (⟨"GoodHalfEmpty", "refuse", "(I)I"⟩, 24) := ⟨⟨by decide +kernel, by decide +kernel⟩, lw_t1 (List.mem_of_getElem? (i := 34) rfl), lw_t4 (List.mem_of_getElem? (i := 205) rfl), lw_t4 (List.mem_of_getElem? (i := 206) rfl)⟩
theorem lw_p45 : lw_okq (⟨"GoodHalfEmpty", "actFar", "(III)I"⟩, 24) := ⟨⟨by decide +kernel, by decide +kernel⟩, lw_t1 (List.mem_of_getElem? (i := 34) rfl), lw_t5 (List.mem_of_getElem? (i := 5) rfl), lw_t5 (List.mem_of_getElem? (i := 6) rfl)⟩
theorem lw_p46 : lw_okq (⟨"GoodHalfEmpty", "seesTold", "(IIII)I"⟩, 24) := ⟨⟨by decide +kernel, by decide +kernel⟩, lw_t1 (List.mem_of_getElem? (i := 34) rfl), lw_t5 (List.mem_of_getElem? (i := 62) rfl), lw_t5 (List.mem_of_getElem? (i := 63) rfl)⟩
theorem lw_p47 : lw_okq (⟨"GoodHalfEmpty", "gainsOfSeer", "(IIII)I"⟩, 24) := ⟨⟨by decide +kernel, by decide +kernel⟩, lw_t1 (List.mem_of_getElem? (i := 34) rfl), lw_t5 (List.mem_of_getElem? (i := 66) rfl), lw_t5 (List.mem_of_getElem? (i := 67) rfl)⟩
def lw_privs_3 : List (MethodName × Nat) := [(⟨"GoodHalfEmpty", "judgeRow", "()I"⟩, 24), (⟨"GoodHalfEmpty", "ofPlans", "(II)I"⟩, 24), (⟨"GoodHalfEmpty", "findPlans", "(LGoodHalfEmpty$Town;)V"⟩, 24), (⟨"GoodHalfEmpty", "presentOf", "()I"⟩, 24), (⟨"GoodHalfEmpty", "worthOfPlan", "(LGoodHalfEmpty$Town;I)I"⟩, 24), (⟨"GoodHalfEmpty", "doesRest", "(LGoodHalfEmpty$Town;I)Z"⟩, 24), (⟨"GoodHalfEmpty", "keepRest", "(II)V"⟩, 24), (⟨"GoodHalfEmpty", "nextPlan", "()Z"⟩, 24), (⟨"GoodHalfEmpty", "restTold", "(I)I"⟩, 24), (⟨"GoodHalfEmpty", "bestTold", "(I)I"⟩, 24), (⟨"GoodHalfEmpty", "bestPenny", "()I"⟩, 24), (⟨"GoodHalfEmpty", "bestChairs", "()I"⟩, 24), (⟨"GoodHalfEmpty", "refuse", "(I)I"⟩, 24), (⟨"GoodHalfEmpty", "actFar", "(III)I"⟩, 24), (⟨"GoodHalfEmpty", "seesTold", "(IIII)I"⟩, 24), (⟨"GoodHalfEmpty", "gainsOfSeer", "(IIII)I"⟩, 24)]
theorem lw_r3 : ∀ q ∈ lw_privs_3, lw_okq q := List.forall_mem_cons.mpr ⟨lw_p32, List.forall_mem_cons.mpr ⟨lw_p33, List.forall_mem_cons.mpr ⟨lw_p34, List.forall_mem_cons.mpr ⟨lw_p35, List.forall_mem_cons.mpr ⟨lw_p36, List.forall_mem_cons.mpr ⟨lw_p37, List.forall_mem_cons.mpr ⟨lw_p38, List.forall_mem_cons.mpr ⟨lw_p39, List.forall_mem_cons.mpr ⟨lw_p40, List.forall_mem_cons.mpr ⟨lw_p41, List.forall_mem_cons.mpr ⟨lw_p42, List.forall_mem_cons.mpr ⟨lw_p43, List.forall_mem_cons.mpr ⟨lw_p44, List.forall_mem_cons.mpr ⟨lw_p45, List.forall_mem_cons.mpr ⟨lw_p46, List.forall_mem_cons.mpr ⟨lw_p47, fun _ h => absurd h List.not_mem_nil⟩⟩⟩⟩⟩⟩⟩⟩⟩⟩⟩⟩⟩⟩⟩⟩
theorem lw_p48 : lw_okq (⟨"GoodHalfEmptyModel", "no", "(I)I"⟩, 27) := ⟨⟨by decide +kernel, by decide +kernel⟩, lw_t5 (List.mem_of_getElem? (i := 119) rfl), lw_t5 (List.mem_of_getElem? (i := 117) rfl), lw_t5 (List.mem_of_getElem? (i := 118) rfl)⟩
theorem lw_p49 : lw_okq (⟨"GoodHalfEmptyModel", "read", "()I"⟩, 27) := ⟨⟨by decide +kernel, by decide +kernel⟩, lw_t5 (List.mem_of_getElem? (i := 119) rfl), lw_t5 (List.mem_of_getElem? (i := 217) rfl), lw_t5 (List.mem_of_getElem? (i := 218) rfl)⟩
theorem lw_p50 : lw_okq (⟨"GoodHalfEmptyModel", "statement", "()V"⟩, 27) := ⟨⟨by decide +kernel, by decide +kernel⟩, lw_t5 (List.mem_of_getElem? (i := 119) rfl), lw_t5 (List.mem_of_getElem? (i := 221) rfl), lw_t5 (List.mem_of_getElem? (i := 222) rfl)⟩
theorem lw_p51 : lw_okq (⟨"GoodHalfEmptyModel", "oneOf", "([C)I"⟩, 27) := ⟨⟨by decide +kernel, by decide +kernel⟩, lw_t5 (List.mem_of_getElem? (i := 119) rfl), lw_t5 (List.mem_of_getElem? (i := 225) rfl), lw_t5 (List.mem_of_getElem? (i := 226) rfl)⟩
theorem lw_p52 : lw_okq (⟨"GoodHalfEmptyModel", "figures", "(I)I"⟩, 27) := ⟨⟨by decide +kernel, by decide +kernel⟩, lw_t5 (List.mem_of_getElem? (i := 119) rfl), lw_t5 (List.mem_of_getElem? (i := 229) rfl), lw_t5 (List.mem_of_getElem? (i := 230) rfl)⟩
theorem lw_p53 : lw_okq (⟨"GoodHalfEmptyModel", "expect", "(C)V"⟩, 27) := ⟨⟨by decide +kernel, by decide +kernel⟩, lw_t5 (List.mem_of_getElem? (i := 119) rfl), lw_t5 (List.mem_of_getElem? (i := 233) rfl), lw_t5 (List.mem_of_getElem? (i := 234) rfl)⟩
theorem lw_p54 : lw_okq (⟨"GoodHalfEmptyModel", "isAsItMustBe", "(II)Z"⟩, 27) := ⟨⟨by decide +kernel, by decide +kernel⟩, lw_t5 (List.mem_of_getElem? (i := 119) rfl), lw_t5 (List.mem_of_getElem? (i := 237) rfl), lw_t5 (List.mem_of_getElem? (i := 238) rfl)⟩
theorem lw_p55 : lw_okq (⟨"GoodHalfEmptyModel", "come", "()V"⟩, 27) := ⟨⟨by decide +kernel, by decide +kernel⟩, lw_t5 (List.mem_of_getElem? (i := 119) rfl), lw_t6 (List.mem_of_getElem? (i := 1) rfl), lw_t6 (List.mem_of_getElem? (i := 2) rfl)⟩
theorem lw_p56 : lw_okq (⟨"GoodHalfEmptyModel", "remember", "(I)V"⟩, 27) := ⟨⟨by decide +kernel, by decide +kernel⟩, lw_t5 (List.mem_of_getElem? (i := 119) rfl), lw_t6 (List.mem_of_getElem? (i := 5) rfl), lw_t6 (List.mem_of_getElem? (i := 6) rfl)⟩
theorem lw_p57 : lw_okq (⟨"GoodHalfEmptyModel", "isNoSort", "(I)Z"⟩, 27) := ⟨⟨by decide +kernel, by decide +kernel⟩, lw_t5 (List.mem_of_getElem? (i := 119) rfl), lw_t6 (List.mem_of_getElem? (i := 13) rfl), lw_t6 (List.mem_of_getElem? (i := 14) rfl)⟩
theorem lw_p58 : lw_okq (⟨"GoodHalfEmptyModel", "of", "(II)I"⟩, 27) := ⟨⟨by decide +kernel, by decide +kernel⟩, lw_t5 (List.mem_of_getElem? (i := 119) rfl), lw_t6 (List.mem_of_getElem? (i := 17) rfl), lw_t6 (List.mem_of_getElem? (i := 18) rfl)⟩
theorem lw_p59 : lw_okq (⟨"GoodHalfEmptyModel", "foretold", "(II)I"⟩, 27) := ⟨⟨by decide +kernel, by decide +kernel⟩, lw_t5 (List.mem_of_getElem? (i := 119) rfl), lw_t6 (List.mem_of_getElem? (i := 25) rfl), lw_t6 (List.mem_of_getElem? (i := 26) rfl)⟩
theorem lw_p60 : lw_okq (⟨"GoodHalfEmptyModel", "ago", "(I)I"⟩, 27) := ⟨⟨by decide +kernel, by decide +kernel⟩, lw_t5 (List.mem_of_getElem? (i := 119) rfl), lw_t6 (List.mem_of_getElem? (i := 29) rfl), lw_t6 (List.mem_of_getElem? (i := 30) rfl)⟩
theorem lw_p61 : lw_okq (⟨"GoodHalfEmptyModel", "people", "()I"⟩, 27) := ⟨⟨by decide +kernel, by decide +kernel⟩, lw_t5 (List.mem_of_getElem? (i := 119) rfl), lw_t6 (List.mem_of_getElem? (i := 33) rfl), lw_t6 (List.mem_of_getElem? (i := 34) rfl)⟩
theorem lw_p62 : lw_okq (⟨"GoodHalfEmptyModel", "goOn", "()I"⟩, 27) := ⟨⟨by decide +kernel, by decide +kernel⟩, lw_t5 (List.mem_of_getElem? (i := 119) rfl), lw_t6 (List.mem_of_getElem? (i := 50) rfl), lw_t6 (List.mem_of_getElem? (i := 51) rfl)⟩
theorem lw_p63 : lw_okq (⟨"GoodHalfEmptyModel", "present", "()I"⟩, 27) := ⟨⟨by decide +kernel, by decide +kernel⟩, lw_t5 (List.mem_of_getElem? (i := 119) rfl), lw_t6 (List.mem_of_getElem? (i := 54) rfl), lw_t6 (List.mem_of_getElem? (i := 55) rfl)⟩
def lw_privs_4 : List (MethodName × Nat) := [(⟨"GoodHalfEmptyModel", "no", "(I)I"⟩, 27), (⟨"GoodHalfEmptyModel", "read", "()I"⟩, 27), (⟨"GoodHalfEmptyModel", "statement", "()V"⟩, 27), (⟨"GoodHalfEmptyModel", "oneOf", "([C)I"⟩, 27), (⟨"GoodHalfEmptyModel", "figures", "(I)I"⟩, 27), (⟨"GoodHalfEmptyModel", "expect", "(C)V"⟩, 27), (⟨"GoodHalfEmptyModel", "isAsItMustBe", "(II)Z"⟩, 27), (⟨"GoodHalfEmptyModel", "come", "()V"⟩, 27), (⟨"GoodHalfEmptyModel", "remember", "(I)V"⟩, 27), (⟨"GoodHalfEmptyModel", "isNoSort", "(I)Z"⟩, 27), (⟨"GoodHalfEmptyModel", "of", "(II)I"⟩, 27), (⟨"GoodHalfEmptyModel", "foretold", "(II)I"⟩, 27), (⟨"GoodHalfEmptyModel", "ago", "(I)I"⟩, 27), (⟨"GoodHalfEmptyModel", "people", "()I"⟩, 27), (⟨"GoodHalfEmptyModel", "goOn", "()I"⟩, 27), (⟨"GoodHalfEmptyModel", "present", "()I"⟩, 27)]
theorem lw_r4 : ∀ q ∈ lw_privs_4, lw_okq q := List.forall_mem_cons.mpr ⟨lw_p48, List.forall_mem_cons.mpr ⟨lw_p49, List.forall_mem_cons.mpr ⟨lw_p50, List.forall_mem_cons.mpr ⟨lw_p51, List.forall_mem_cons.mpr ⟨lw_p52, List.forall_mem_cons.mpr ⟨lw_p53, List.forall_mem_cons.mpr ⟨lw_p54, List.forall_mem_cons.mpr ⟨lw_p55, List.forall_mem_cons.mpr ⟨lw_p56, List.forall_mem_cons.mpr ⟨lw_p57, List.forall_mem_cons.mpr ⟨lw_p58, List.forall_mem_cons.mpr ⟨lw_p59, List.forall_mem_cons.mpr ⟨lw_p60, List.forall_mem_cons.mpr ⟨lw_p61, List.forall_mem_cons.mpr ⟨lw_p62, List.forall_mem_cons.mpr ⟨lw_p63, fun _ h => absurd h List.not_mem_nil⟩⟩⟩⟩⟩⟩⟩⟩⟩⟩⟩⟩⟩⟩⟩⟩
theorem lw_p64 : lw_okq (⟨"GoodHalfEmptyModel", "isRoom", "(I)Z"⟩, 27) := ⟨⟨by decide +kernel, by decide +kernel⟩, lw_t5 (List.mem_of_getElem? (i := 119) rfl), lw_t6 (List.mem_of_getElem? (i := 58) rfl), lw_t6 (List.mem_of_getElem? (i := 59) rfl)⟩
theorem lw_p65 : lw_okq (⟨"GoodHalfEmptyModel", "hat", "(I)I"⟩, 27) := ⟨⟨by decide +kernel, by decide +kernel⟩, lw_t5 (List.mem_of_getElem? (i := 119) rfl), lw_t6 (List.mem_of_getElem? (i := 62) rfl), lw_t6 (List.mem_of_getElem? (i := 63) rfl)⟩
theorem lw_p66 : lw_okq (⟨"GoodHalfEmptyModel", "worthNext", "(II)I"⟩, 27) := ⟨⟨by decide +kernel, by decide +kernel⟩, lw_t5 (List.mem_of_getElem? (i := 119) rfl), lw_t6 (List.mem_of_getElem? (i := 79) rfl), lw_t6 (List.mem_of_getElem? (i := 80) rfl)⟩
theorem lw_p67 : lw_okq (⟨"GoodHalfEmptyModel", "worthGone", "(II)I"⟩, 27) := ⟨⟨by decide +kernel, by decide +kernel⟩, lw_t5 (List.mem_of_getElem? (i := 119) rfl), lw_t6 (List.mem_of_getElem? (i := 83) rfl), lw_t6 (List.mem_of_getElem? (i := 84) rfl)⟩
theorem lw_p68 : lw_okq (⟨"GoodHalfEmptyModel", "isWrong", "(II)I"⟩, 27) := ⟨⟨by decide +kernel, by decide +kernel⟩, lw_t5 (List.mem_of_getElem? (i := 119) rfl), lw_t6 (List.mem_of_getElem? (i := 91) rfl), lw_t6 (List.mem_of_getElem? (i := 92) rfl)⟩
theorem lw_p69 : lw_okq (⟨"GoodHalfEmptyModel", "goAhead", "(II)I"⟩, 27) := ⟨⟨by decide +kernel, by decide +kernel⟩, lw_t5 (List.mem_of_getElem? (i := 119) rfl), lw_t6 (List.mem_of_getElem? (i := 95) rfl), lw_t6 (List.mem_of_getElem? (i := 96) rfl)⟩
theorem lw_p70 : lw_okq (⟨"GoodHalfEmptyModel", "swungIn", "(I)I"⟩, 27) := ⟨⟨by decide +kernel, by decide +kernel⟩, lw_t5 (List.mem_of_getElem? (i := 119) rfl), lw_t6 (List.mem_of_getElem? (i := 107) rfl), lw_t6 (List.mem_of_getElem? (i := 108) rfl)⟩
theorem lw_p71 : lw_okq (⟨"GoodHalfEmptyModel", "goThrough", "()V"⟩, 27) := ⟨⟨by decide +kernel, by decide +kernel⟩, lw_t5 (List.mem_of_getElem? (i := 119) rfl), lw_t6 (List.mem_of_getElem? (i := 128) rfl), lw_t6 (List.mem_of_getElem? (i := 129) rfl)⟩
theorem lw_p72 : lw_okq (⟨"GoodHalfEmptyModel", "begin", "()V"⟩, 27) := ⟨⟨by decide +kernel, by decide +kernel⟩, lw_t5 (List.mem_of_getElem? (i := 119) rfl), lw_t6 (List.mem_of_getElem? (i := 132) rfl), lw_t6 (List.mem_of_getElem? (i := 133) rfl)⟩
theorem lw_p73 : lw_okq (⟨"GoodHalfEmptyModel", "isAtRest", "(I)Z"⟩, 27) := ⟨⟨by decide +kernel, by decide +kernel⟩, lw_t5 (List.mem_of_getElem? (i := 119) rfl), lw_t6 (List.mem_of_getElem? (i := 136) rfl), lw_t6 (List.mem_of_getElem? (i := 137) rfl)⟩
theorem lw_p74 : lw_okq (⟨"GoodHalfEmptyModel", "isNextPlan", "()Z"⟩, 27) := ⟨⟨by decide +kernel, by decide +kernel⟩, lw_t5 (List.mem_of_getElem? (i := 119) rfl), lw_t6 (List.mem_of_getElem? (i := 140) rfl), lw_t6 (List.mem_of_getElem? (i := 141) rfl)⟩
def lw_privs_5 : List (MethodName × Nat) := [(⟨"GoodHalfEmptyModel", "isRoom", "(I)Z"⟩, 27), (⟨"GoodHalfEmptyModel", "hat", "(I)I"⟩, 27), (⟨"GoodHalfEmptyModel", "worthNext", "(II)I"⟩, 27), (⟨"GoodHalfEmptyModel", "worthGone", "(II)I"⟩, 27), (⟨"GoodHalfEmptyModel", "isWrong", "(II)I"⟩, 27), (⟨"GoodHalfEmptyModel", "goAhead", "(II)I"⟩, 27), (⟨"GoodHalfEmptyModel", "swungIn", "(I)I"⟩, 27), (⟨"GoodHalfEmptyModel", "goThrough", "()V"⟩, 27), (⟨"GoodHalfEmptyModel", "begin", "()V"⟩, 27), (⟨"GoodHalfEmptyModel", "isAtRest", "(I)Z"⟩, 27), (⟨"GoodHalfEmptyModel", "isNextPlan", "()Z"⟩, 27)]
theorem lw_r5 : ∀ q ∈ lw_privs_5, lw_okq q := List.forall_mem_cons.mpr ⟨lw_p64, List.forall_mem_cons.mpr ⟨lw_p65, List.forall_mem_cons.mpr ⟨lw_p66, List.forall_mem_cons.mpr ⟨lw_p67, List.forall_mem_cons.mpr ⟨lw_p68, List.forall_mem_cons.mpr ⟨lw_p69, List.forall_mem_cons.mpr ⟨lw_p70, List.forall_mem_cons.mpr ⟨lw_p71, List.forall_mem_cons.mpr ⟨lw_p72, List.forall_mem_cons.mpr ⟨lw_p73, List.forall_mem_cons.mpr ⟨lw_p74, fun _ h => absurd h List.not_mem_nil⟩⟩⟩⟩⟩⟩⟩⟩⟩⟩⟩
def lw_privs : List (MethodName × Nat) := lw_privs_1 ++ (lw_privs_2 ++ (lw_privs_3 ++ (lw_privs_4 ++ (lw_privs_5))))
def lw_tbl : List Cond := k2_sels lw_privs ++ tables_1
theorem lw_privs_ok : ∀ q ∈ lw_privs, lw_okq q := by
  show ∀ q ∈ lw_privs_1 ++ (lw_privs_2 ++ (lw_privs_3 ++ (lw_privs_4 ++ (lw_privs_5)))), lw_okq q
  exact List.forall_mem_append.mpr ⟨lw_r1, List.forall_mem_append.mpr ⟨lw_r2, List.forall_mem_append.mpr ⟨lw_r3, List.forall_mem_append.mpr ⟨lw_r4, lw_r5⟩⟩⟩⟩
-- ===== ONE list of words for every method: the tables' words that hold all through a run =====
def lw_all : List Cond := lw_tbl.filter goodWord
/-- a word of the tables by its place: claim/WORDS.tsv -/
theorem lw_w {w : Cond} (i : Nat) (h : lw_tbl[i]? = some w) (g : goodWord w = true) : w ∈ lw_all := List.mem_filter.mpr ⟨List.mem_of_getElem? h, g⟩
theorem lw_all_tbl {w : Cond} (h : w ∈ lw_all) : w ∈ lw_tbl := (List.mem_filter.mp h).1
theorem lw_self : GoodIn lw_all lw_all := fun w h => ⟨h, good_of_word (List.mem_filter.mp h).2⟩
/-- a class's field words, by their places -/
theorem lw_in (ws : List Cond) (ps : List Nat) (hp : ws = ps.filterMap (fun i => lw_tbl[i]?)) (hg : ws.all goodWord = true) : ∀ w ∈ ws, w ∈ lw_all := by
  intro w h
  have h1 := List.all_eq_true.mp hg w h
  rw [hp] at h
  obtain ⟨i, -, hi⟩ := List.mem_filterMap.mp h
  exact lw_w i hi h1
/-- the words of a contract for the method y with code b, L locals, answer r -/
abbrev ws_ (y : MethodName) (b : ByteArray) (L : Nat) (r : Option FieldType) : List Cond := Cond.code y b L r :: lw_all
theorem lw_meth {y : MethodName} {b : ByteArray} {L : Nat} {r : Option FieldType} (h : Cond.code y b L r ∈ lw_all) : GoodIn lw_all (ws_ y b L r) := by
  intro w hw
  rcases List.mem_cons.mp hw with e | e
  · rw [e]
    exact lw_self _ h
  · exact lw_self _ e
theorem lw_app {a c : List Cond} (ha : ∀ w ∈ a, w ∈ lw_all) (hc : GoodIn lw_all c) : GoodIn lw_all (a ++ c) := by
  intro w hw
  rcases List.mem_append.mp hw with e | e
  · exact lw_self w (ha w e)
  · exact hc w e
/-- what a call through an object asks: cwV n hts (lw_V ..) -/
theorem lw_V {own : String} {idx : Nat} {C : String} {y : MethodName} {b : ByteArray} {L : Nat} {r : Option FieldType} (h1 : Cond.methodLink own idx y ∈ lw_all) (h2 : Cond.instanceMethod y ∈ lw_all) (h3 : Cond.selects C y y ∈ lw_all) (h4 : Cond.initialized C ∈ lw_all) (h5 : Cond.code y b L r ∈ lw_all) : GoodIn lw_all (wsV own idx C y (ws_ y b L r)) := by
  refine lw_app ?_ (lw_meth h5)
  intro w hw
  simp only [List.mem_cons, List.not_mem_nil, or_false] at hw
  rcases hw with e | e | e | e
  · rw [e]; exact h1
  · rw [e]; exact h2
  · rw [e]; exact h3
  · rw [e]; exact h4
/-- what a static call asks: va_cwS n hts (lw_S ..) -/
theorem lw_S {own : String} {idx : Nat} {y : MethodName} {b : ByteArray} {L : Nat} {r : Option FieldType} (h1 : Cond.methodLink own idx y ∈ lw_all) (h2 : Cond.static y ∈ lw_all) (h3 : Cond.initialized y.cls ∈ lw_all) (h4 : Cond.code y b L r ∈ lw_all) : GoodIn lw_all (va_wsS own idx y (ws_ y b L r)) := by
  refine lw_app ?_ (lw_meth h4)
  intro w hw
  simp only [List.mem_cons, List.not_mem_nil, or_false] at hw
  rcases hw with e | e | e
  · rw [e]; exact h1
  · rw [e]; exact h2
  · rw [e]; exact h3
/-- the words of a contract for a method WITH HANDLERS (hh: its table) -/
abbrev wsW_ (y : MethodName) (b : ByteArray) (L : Nat) (r : Option FieldType) (hh : List (Nat × Nat × Nat × Nat)) : List Cond := Cond.codeWith y b L r hh :: lw_all
theorem lw_methW {y : MethodName} {b : ByteArray} {L : Nat} {r : Option FieldType} {hh : List (Nat × Nat × Nat × Nat)} (h : Cond.codeWith y b L r hh ∈ lw_all) : GoodIn lw_all (wsW_ y b L r hh) := by
  intro w hw
  rcases List.mem_cons.mp hw with e | e
  · rw [e]
    exact lw_self _ h
  · exact lw_self _ e
/-- any list of words by their places (lw_in), good -/
theorem lw_good {ws : List Cond} (h : ∀ w ∈ ws, w ∈ lw_all) : GoodIn lw_all ws := fun w hw => lw_self w (h w hw)
/-- what a call of a method with handlers asks: vx_cwVW n hts (lw_VW ..), vx_cwSW n hts (lw_SW ..) -/
theorem lw_VW {own : String} {idx : Nat} {C : String} {y : MethodName} {b : ByteArray} {L : Nat} {r : Option FieldType} {hh : List (Nat × Nat × Nat × Nat)} (h1 : Cond.methodLink own idx y ∈ lw_all) (h2 : Cond.instanceMethod y ∈ lw_all) (h3 : Cond.selects C y y ∈ lw_all) (h4 : Cond.initialized C ∈ lw_all) (h5 : Cond.codeWith y b L r hh ∈ lw_all) : GoodIn lw_all (wsV own idx C y (wsW_ y b L r hh)) := by
  refine lw_app ?_ (lw_methW h5)
  intro w hw
  simp only [List.mem_cons, List.not_mem_nil, or_false] at hw
  rcases hw with e | e | e | e
  · rw [e]; exact h1
  · rw [e]; exact h2
  · rw [e]; exact h3
  · rw [e]; exact h4
theorem lw_SW {own : String} {idx : Nat} {y : MethodName} {b : ByteArray} {L : Nat} {r : Option FieldType} {hh : List (Nat × Nat × Nat × Nat)} (h1 : Cond.methodLink own idx y ∈ lw_all) (h2 : Cond.static y ∈ lw_all) (h3 : Cond.initialized y.cls ∈ lw_all) (h4 : Cond.codeWith y b L r hh ∈ lw_all) : GoodIn lw_all (va_wsS own idx y (wsW_ y b L r hh)) := by
  refine lw_app ?_ (lw_methW h4)
  intro w hw
  simp only [List.mem_cons, List.not_mem_nil, or_false] at hw
  rcases hw with e | e | e
  · rw [e]; exact h1
  · rw [e]; exact h2
  · rw [e]; exact h3
/-- a word by its place in its run of the tables -/
theorem lw_at {r : List Cond} (hr : ∀ w ∈ r, w ∈ lw_tbl) {w : Cond} (i : Nat) (h : r[i]? = some w) : w ∈ lw_tbl := hr w (List.mem_of_getElem? h)
theorem lw_g {w : Cond} (h : w ∈ lw_tbl) (g : goodWord w = true) : w ∈ lw_all := List.mem_filter.mpr ⟨h, g⟩
theorem lw_ms : ∀ w ∈ k2_sels lw_privs, w ∈ lw_tbl := fun w h => show w ∈ k2_sels lw_privs ++ tables_1 from List.mem_append_left _ h
theorem lw_m1 : ∀ w ∈ tables_1_1, w ∈ lw_tbl := fun w h => show w ∈ k2_sels lw_privs ++ tables_1 from List.mem_append_right (k2_sels lw_privs) (show w ∈ tables_1 from List.mem_append_left _ h)
theorem lw_m2 : ∀ w ∈ tables_1_2, w ∈ lw_tbl := fun w h => show w ∈ k2_sels lw_privs ++ tables_1 from List.mem_append_right (k2_sels lw_privs) (show w ∈ tables_1 from List.mem_append_right _ (List.mem_append_left _ h))
theorem lw_m3 : ∀ w ∈ tables_1_3, w ∈ lw_tbl := fun w h => show w ∈ k2_sels lw_privs ++ tables_1 from List.mem_append_right (k2_sels lw_privs) (show w ∈ tables_1 from List.mem_append_right _ (List.mem_append_right _ (List.mem_append_left _ h)))
theorem lw_m4 : ∀ w ∈ tables_1_4, w ∈ lw_tbl := fun w h => show w ∈ k2_sels lw_privs ++ tables_1 from List.mem_append_right (k2_sels lw_privs) (show w ∈ tables_1 from List.mem_append_right _ (List.mem_append_right _ (List.mem_append_right _ (List.mem_append_left _ h))))
theorem lw_m5 : ∀ w ∈ tables_1_5, w ∈ lw_tbl := fun w h => show w ∈ k2_sels lw_privs ++ tables_1 from List.mem_append_right (k2_sels lw_privs) (show w ∈ tables_1 from List.mem_append_right _ (List.mem_append_right _ (List.mem_append_right _ (List.mem_append_right _ (List.mem_append_left _ h)))))
theorem lw_m6 : ∀ w ∈ tables_1_6, w ∈ lw_tbl := fun w h => show w ∈ k2_sels lw_privs ++ tables_1 from List.mem_append_right (k2_sels lw_privs) (show w ∈ tables_1 from List.mem_append_right _ (List.mem_append_right _ (List.mem_append_right _ (List.mem_append_right _ (List.mem_append_right _ h)))))
theorem qs0 : (Cond.selects "GoodHalfEmpty" ⟨"GoodHalfEmpty", "act", "(III)I"⟩ ⟨"GoodHalfEmpty", "act", "(III)I"⟩) ∈ lw_all := lw_g (lw_at lw_ms 0 rfl) rfl
theorem qs1 : (Cond.selects "GoodHalfEmpty" ⟨"GoodHalfEmpty", "doIt", "(III)I"⟩ ⟨"GoodHalfEmpty", "doIt", "(III)I"⟩) ∈ lw_all := lw_g (lw_at lw_ms 1 rfl) rfl
theorem qs2 : (Cond.selects "GoodHalfEmpty" ⟨"GoodHalfEmpty", "ofTown", "(III)I"⟩ ⟨"GoodHalfEmpty", "ofTown", "(III)I"⟩) ∈ lw_all := lw_g (lw_at lw_ms 2 rfl) rfl
theorem qs3 : (Cond.selects "GoodHalfEmpty" ⟨"GoodHalfEmpty", "letterIt", "(I)I"⟩ ⟨"GoodHalfEmpty", "letterIt", "(I)I"⟩) ∈ lw_all := lw_g (lw_at lw_ms 3 rfl) rfl
theorem qs4 : (Cond.selects "java/lang/Throwable" ⟨"java/lang/Throwable", "fillInStackTrace", "(I)Ljava/lang/Throwable;"⟩ ⟨"java/lang/Throwable", "fillInStackTrace", "(I)Ljava/lang/Throwable;"⟩) ∈ lw_all := lw_g (lw_at lw_ms 4 rfl) rfl
theorem qs5 : (Cond.selects "GoodHalfEmpty" ⟨"GoodHalfEmpty", "readTown", "()I"⟩ ⟨"GoodHalfEmpty", "readTown", "()I"⟩) ∈ lw_all := lw_g (lw_at lw_ms 5 rfl) rfl
theorem qs6 : (Cond.selects "GoodHalfEmpty$Reader" ⟨"GoodHalfEmpty$Reader", "here", "()I"⟩ ⟨"GoodHalfEmpty$Reader", "here", "()I"⟩) ∈ lw_all := lw_g (lw_at lw_ms 6 rfl) rfl
theorem qs7 : (Cond.selects "GoodHalfEmpty$Reader" ⟨"GoodHalfEmpty$Reader", "mustStand", "(Z)V"⟩ ⟨"GoodHalfEmpty$Reader", "mustStand", "(Z)V"⟩) ∈ lw_all := lw_g (lw_at lw_ms 7 rfl) rfl
theorem qs8 : (Cond.selects "GoodHalfEmpty$Reader" ⟨"GoodHalfEmpty$Reader", "number", "()I"⟩ ⟨"GoodHalfEmpty$Reader", "number", "()I"⟩) ∈ lw_all := lw_g (lw_at lw_ms 8 rfl) rfl
theorem qs9 : (Cond.selects "GoodHalfEmpty$Reader" ⟨"GoodHalfEmpty$Reader", "digit", "()I"⟩ ⟨"GoodHalfEmpty$Reader", "digit", "()I"⟩) ∈ lw_all := lw_g (lw_at lw_ms 9 rfl) rfl
theorem qs10 : (Cond.selects "GoodHalfEmpty$Reader" ⟨"GoodHalfEmpty$Reader", "sort", "(I)LGoodHalfEmpty$Told;"⟩ ⟨"GoodHalfEmpty$Reader", "sort", "(I)LGoodHalfEmpty$Told;"⟩) ∈ lw_all := lw_g (lw_at lw_ms 10 rfl) rfl
theorem qs11 : (Cond.selects "GoodHalfEmpty$Reader" ⟨"GoodHalfEmpty$Reader", "goerOf", "(I)I"⟩ ⟨"GoodHalfEmpty$Reader", "goerOf", "(I)I"⟩) ∈ lw_all := lw_g (lw_at lw_ms 11 rfl) rfl
theorem qs12 : (Cond.selects "GoodHalfEmpty$Reader" ⟨"GoodHalfEmpty$Reader", "take", "(I)V"⟩ ⟨"GoodHalfEmpty$Reader", "take", "(I)V"⟩) ∈ lw_all := lw_g (lw_at lw_ms 12 rfl) rfl
theorem qs13 : (Cond.selects "GoodHalfEmpty$Reader" ⟨"GoodHalfEmpty$Reader", "rule", "(I)LGoodHalfEmpty$Told;"⟩ ⟨"GoodHalfEmpty$Reader", "rule", "(I)LGoodHalfEmpty$Told;"⟩) ∈ lw_all := lw_g (lw_at lw_ms 13 rfl) rfl
theorem qs14 : (Cond.selects "GoodHalfEmpty$Reader" ⟨"GoodHalfEmpty$Reader", "ruleOf", "(I)I"⟩ ⟨"GoodHalfEmpty$Reader", "ruleOf", "(I)I"⟩) ∈ lw_all := lw_g (lw_at lw_ms 14 rfl) rfl
theorem qs15 : (Cond.selects "GoodHalfEmpty" ⟨"GoodHalfEmpty", "sortTold", "(II)I"⟩ ⟨"GoodHalfEmpty", "sortTold", "(II)I"⟩) ∈ lw_all := lw_g (lw_at lw_ms 15 rfl) rfl
theorem qs16 : (Cond.selects "GoodHalfEmpty" ⟨"GoodHalfEmpty", "mustBeSort", "(I)V"⟩ ⟨"GoodHalfEmpty", "mustBeSort", "(I)V"⟩) ∈ lw_all := lw_g (lw_at lw_ms 16 rfl) rfl
theorem qs17 : (Cond.selects "GoodHalfEmpty" ⟨"GoodHalfEmpty", "ruleTold", "(II)I"⟩ ⟨"GoodHalfEmpty", "ruleTold", "(II)I"⟩) ∈ lw_all := lw_g (lw_at lw_ms 17 rfl) rfl
theorem qs18 : (Cond.selects "GoodHalfEmpty$Town" ⟨"GoodHalfEmpty$Town", "ask", "(Z)V"⟩ ⟨"GoodHalfEmpty$Town", "ask", "(Z)V"⟩) ∈ lw_all := lw_g (lw_at lw_ms 18 rfl) rfl
theorem qs19 : (Cond.selects "GoodHalfEmpty" ⟨"GoodHalfEmpty", "goesNext", "(I)I"⟩ ⟨"GoodHalfEmpty", "goesNext", "(I)I"⟩) ∈ lw_all := lw_g (lw_at lw_ms 19 rfl) rfl
theorem qs20 : (Cond.selects "GoodHalfEmpty" ⟨"GoodHalfEmpty", "worthNext", "(I)I"⟩ ⟨"GoodHalfEmpty", "worthNext", "(I)I"⟩) ∈ lw_all := lw_g (lw_at lw_ms 20 rfl) rfl
theorem qs21 : (Cond.selects "GoodHalfEmpty" ⟨"GoodHalfEmpty", "ofWeeks", "(III)I"⟩ ⟨"GoodHalfEmpty", "ofWeeks", "(III)I"⟩) ∈ lw_all := lw_g (lw_at lw_ms 21 rfl) rfl
theorem qs22 : (Cond.selects "GoodHalfEmpty" ⟨"GoodHalfEmpty", "afterWeeks", "(I)I"⟩ ⟨"GoodHalfEmpty", "afterWeeks", "(I)I"⟩) ∈ lw_all := lw_g (lw_at lw_ms 22 rfl) rfl
theorem qs23 : (Cond.selects "GoodHalfEmpty" ⟨"GoodHalfEmpty", "openMind", "()LGoodHalfEmpty$Town;"⟩ ⟨"GoodHalfEmpty", "openMind", "()LGoodHalfEmpty$Town;"⟩) ∈ lw_all := lw_g (lw_at lw_ms 23 rfl) rfl
theorem qs24 : (Cond.selects "GoodHalfEmpty" ⟨"GoodHalfEmpty", "againBehind", "()I"⟩ ⟨"GoodHalfEmpty", "againBehind", "()I"⟩) ∈ lw_all := lw_g (lw_at lw_ms 24 rfl) rfl
theorem qs25 : (Cond.selects "GoodHalfEmpty" ⟨"GoodHalfEmpty", "gainsOf", "(LGoodHalfEmpty$Town;II)I"⟩ ⟨"GoodHalfEmpty", "gainsOf", "(LGoodHalfEmpty$Town;II)I"⟩) ∈ lw_all := lw_g (lw_at lw_ms 25 rfl) rfl
theorem qs26 : (Cond.selects "GoodHalfEmpty" ⟨"GoodHalfEmpty", "lookTold", "(II)I"⟩ ⟨"GoodHalfEmpty", "lookTold", "(II)I"⟩) ∈ lw_all := lw_g (lw_at lw_ms 26 rfl) rfl
theorem qs27 : (Cond.selects "GoodHalfEmpty" ⟨"GoodHalfEmpty", "look", "(LGoodHalfEmpty$Town;I)V"⟩ ⟨"GoodHalfEmpty", "look", "(LGoodHalfEmpty$Town;I)V"⟩) ∈ lw_all := lw_g (lw_at lw_ms 27 rfl) rfl
theorem qs28 : (Cond.selects "GoodHalfEmpty" ⟨"GoodHalfEmpty", "ofRest", "(III)I"⟩ ⟨"GoodHalfEmpty", "ofRest", "(III)I"⟩) ∈ lw_all := lw_g (lw_at lw_ms 28 rfl) rfl
theorem qs29 : (Cond.selects "GoodHalfEmpty" ⟨"GoodHalfEmpty", "mostRight", "(I)I"⟩ ⟨"GoodHalfEmpty", "mostRight", "(I)I"⟩) ∈ lw_all := lw_g (lw_at lw_ms 29 rfl) rfl
theorem qs30 : (Cond.selects "GoodHalfEmpty" ⟨"GoodHalfEmpty", "swingOfLonger", "(I)I"⟩ ⟨"GoodHalfEmpty", "swingOfLonger", "(I)I"⟩) ∈ lw_all := lw_g (lw_at lw_ms 30 rfl) rfl
theorem qs31 : (Cond.selects "GoodHalfEmpty" ⟨"GoodHalfEmpty", "bySeeds", "(II)I"⟩ ⟨"GoodHalfEmpty", "bySeeds", "(II)I"⟩) ∈ lw_all := lw_g (lw_at lw_ms 31 rfl) rfl
theorem qs32 : (Cond.selects "GoodHalfEmpty" ⟨"GoodHalfEmpty", "judgeRow", "()I"⟩ ⟨"GoodHalfEmpty", "judgeRow", "()I"⟩) ∈ lw_all := lw_g (lw_at lw_ms 32 rfl) rfl
theorem qs33 : (Cond.selects "GoodHalfEmpty" ⟨"GoodHalfEmpty", "ofPlans", "(II)I"⟩ ⟨"GoodHalfEmpty", "ofPlans", "(II)I"⟩) ∈ lw_all := lw_g (lw_at lw_ms 33 rfl) rfl
theorem qs34 : (Cond.selects "GoodHalfEmpty" ⟨"GoodHalfEmpty", "findPlans", "(LGoodHalfEmpty$Town;)V"⟩ ⟨"GoodHalfEmpty", "findPlans", "(LGoodHalfEmpty$Town;)V"⟩) ∈ lw_all := lw_g (lw_at lw_ms 34 rfl) rfl
theorem qs35 : (Cond.selects "GoodHalfEmpty" ⟨"GoodHalfEmpty", "presentOf", "()I"⟩ ⟨"GoodHalfEmpty", "presentOf", "()I"⟩) ∈ lw_all := lw_g (lw_at lw_ms 35 rfl) rfl
theorem qs36 : (Cond.selects "GoodHalfEmpty" ⟨"GoodHalfEmpty", "worthOfPlan", "(LGoodHalfEmpty$Town;I)I"⟩ ⟨"GoodHalfEmpty", "worthOfPlan", "(LGoodHalfEmpty$Town;I)I"⟩) ∈ lw_all := lw_g (lw_at lw_ms 36 rfl) rfl
theorem qs37 : (Cond.selects "GoodHalfEmpty" ⟨"GoodHalfEmpty", "doesRest", "(LGoodHalfEmpty$Town;I)Z"⟩ ⟨"GoodHalfEmpty", "doesRest", "(LGoodHalfEmpty$Town;I)Z"⟩) ∈ lw_all := lw_g (lw_at lw_ms 37 rfl) rfl
theorem qs38 : (Cond.selects "GoodHalfEmpty" ⟨"GoodHalfEmpty", "keepRest", "(II)V"⟩ ⟨"GoodHalfEmpty", "keepRest", "(II)V"⟩) ∈ lw_all := lw_g (lw_at lw_ms 38 rfl) rfl
theorem qs39 : (Cond.selects "GoodHalfEmpty" ⟨"GoodHalfEmpty", "nextPlan", "()Z"⟩ ⟨"GoodHalfEmpty", "nextPlan", "()Z"⟩) ∈ lw_all := lw_g (lw_at lw_ms 39 rfl) rfl
theorem qs40 : (Cond.selects "GoodHalfEmpty" ⟨"GoodHalfEmpty", "restTold", "(I)I"⟩ ⟨"GoodHalfEmpty", "restTold", "(I)I"⟩) ∈ lw_all := lw_g (lw_at lw_ms 40 rfl) rfl
theorem qs41 : (Cond.selects "GoodHalfEmpty" ⟨"GoodHalfEmpty", "bestTold", "(I)I"⟩ ⟨"GoodHalfEmpty", "bestTold", "(I)I"⟩) ∈ lw_all := lw_g (lw_at lw_ms 41 rfl) rfl
theorem qs42 : (Cond.selects "GoodHalfEmpty" ⟨"GoodHalfEmpty", "bestPenny", "()I"⟩ ⟨"GoodHalfEmpty", "bestPenny", "()I"⟩) ∈ lw_all := lw_g (lw_at lw_ms 42 rfl) rfl
theorem qs43 : (Cond.selects "GoodHalfEmpty" ⟨"GoodHalfEmpty", "bestChairs", "()I"⟩ ⟨"GoodHalfEmpty", "bestChairs", "()I"⟩) ∈ lw_all := lw_g (lw_at lw_ms 43 rfl) rfl
theorem qs44 : (Cond.selects "GoodHalfEmpty" ⟨"GoodHalfEmpty", "refuse", "(I)I"⟩ ⟨"GoodHalfEmpty", "refuse", "(I)I"⟩) ∈ lw_all := lw_g (lw_at lw_ms 44 rfl) rfl
theorem qs45 : (Cond.selects "GoodHalfEmpty" ⟨"GoodHalfEmpty", "actFar", "(III)I"⟩ ⟨"GoodHalfEmpty", "actFar", "(III)I"⟩) ∈ lw_all := lw_g (lw_at lw_ms 45 rfl) rfl
theorem qs46 : (Cond.selects "GoodHalfEmpty" ⟨"GoodHalfEmpty", "seesTold", "(IIII)I"⟩ ⟨"GoodHalfEmpty", "seesTold", "(IIII)I"⟩) ∈ lw_all := lw_g (lw_at lw_ms 46 rfl) rfl
theorem qs47 : (Cond.selects "GoodHalfEmpty" ⟨"GoodHalfEmpty", "gainsOfSeer", "(IIII)I"⟩ ⟨"GoodHalfEmpty", "gainsOfSeer", "(IIII)I"⟩) ∈ lw_all := lw_g (lw_at lw_ms 47 rfl) rfl
theorem qs48 : (Cond.selects "GoodHalfEmptyModel" ⟨"GoodHalfEmptyModel", "no", "(I)I"⟩ ⟨"GoodHalfEmptyModel", "no", "(I)I"⟩) ∈ lw_all := lw_g (lw_at lw_ms 48 rfl) rfl
theorem qs49 : (Cond.selects "GoodHalfEmptyModel" ⟨"GoodHalfEmptyModel", "read", "()I"⟩ ⟨"GoodHalfEmptyModel", "read", "()I"⟩) ∈ lw_all := lw_g (lw_at lw_ms 49 rfl) rfl
theorem qs50 : (Cond.selects "GoodHalfEmptyModel" ⟨"GoodHalfEmptyModel", "statement", "()V"⟩ ⟨"GoodHalfEmptyModel", "statement", "()V"⟩) ∈ lw_all := lw_g (lw_at lw_ms 50 rfl) rfl
theorem qs51 : (Cond.selects "GoodHalfEmptyModel" ⟨"GoodHalfEmptyModel", "oneOf", "([C)I"⟩ ⟨"GoodHalfEmptyModel", "oneOf", "([C)I"⟩) ∈ lw_all := lw_g (lw_at lw_ms 51 rfl) rfl
theorem qs52 : (Cond.selects "GoodHalfEmptyModel" ⟨"GoodHalfEmptyModel", "figures", "(I)I"⟩ ⟨"GoodHalfEmptyModel", "figures", "(I)I"⟩) ∈ lw_all := lw_g (lw_at lw_ms 52 rfl) rfl
theorem qs53 : (Cond.selects "GoodHalfEmptyModel" ⟨"GoodHalfEmptyModel", "expect", "(C)V"⟩ ⟨"GoodHalfEmptyModel", "expect", "(C)V"⟩) ∈ lw_all := lw_g (lw_at lw_ms 53 rfl) rfl
theorem qs54 : (Cond.selects "GoodHalfEmptyModel" ⟨"GoodHalfEmptyModel", "isAsItMustBe", "(II)Z"⟩ ⟨"GoodHalfEmptyModel", "isAsItMustBe", "(II)Z"⟩) ∈ lw_all := lw_g (lw_at lw_ms 54 rfl) rfl
theorem qs55 : (Cond.selects "GoodHalfEmptyModel" ⟨"GoodHalfEmptyModel", "come", "()V"⟩ ⟨"GoodHalfEmptyModel", "come", "()V"⟩) ∈ lw_all := lw_g (lw_at lw_ms 55 rfl) rfl
theorem qs56 : (Cond.selects "GoodHalfEmptyModel" ⟨"GoodHalfEmptyModel", "remember", "(I)V"⟩ ⟨"GoodHalfEmptyModel", "remember", "(I)V"⟩) ∈ lw_all := lw_g (lw_at lw_ms 56 rfl) rfl
theorem qs57 : (Cond.selects "GoodHalfEmptyModel" ⟨"GoodHalfEmptyModel", "isNoSort", "(I)Z"⟩ ⟨"GoodHalfEmptyModel", "isNoSort", "(I)Z"⟩) ∈ lw_all := lw_g (lw_at lw_ms 57 rfl) rfl
theorem qs58 : (Cond.selects "GoodHalfEmptyModel" ⟨"GoodHalfEmptyModel", "of", "(II)I"⟩ ⟨"GoodHalfEmptyModel", "of", "(II)I"⟩) ∈ lw_all := lw_g (lw_at lw_ms 58 rfl) rfl
theorem qs59 : (Cond.selects "GoodHalfEmptyModel" ⟨"GoodHalfEmptyModel", "foretold", "(II)I"⟩ ⟨"GoodHalfEmptyModel", "foretold", "(II)I"⟩) ∈ lw_all := lw_g (lw_at lw_ms 59 rfl) rfl
theorem qs60 : (Cond.selects "GoodHalfEmptyModel" ⟨"GoodHalfEmptyModel", "ago", "(I)I"⟩ ⟨"GoodHalfEmptyModel", "ago", "(I)I"⟩) ∈ lw_all := lw_g (lw_at lw_ms 60 rfl) rfl
theorem qs61 : (Cond.selects "GoodHalfEmptyModel" ⟨"GoodHalfEmptyModel", "people", "()I"⟩ ⟨"GoodHalfEmptyModel", "people", "()I"⟩) ∈ lw_all := lw_g (lw_at lw_ms 61 rfl) rfl
theorem qs62 : (Cond.selects "GoodHalfEmptyModel" ⟨"GoodHalfEmptyModel", "goOn", "()I"⟩ ⟨"GoodHalfEmptyModel", "goOn", "()I"⟩) ∈ lw_all := lw_g (lw_at lw_ms 62 rfl) rfl
theorem qs63 : (Cond.selects "GoodHalfEmptyModel" ⟨"GoodHalfEmptyModel", "present", "()I"⟩ ⟨"GoodHalfEmptyModel", "present", "()I"⟩) ∈ lw_all := lw_g (lw_at lw_ms 63 rfl) rfl
theorem qs64 : (Cond.selects "GoodHalfEmptyModel" ⟨"GoodHalfEmptyModel", "isRoom", "(I)Z"⟩ ⟨"GoodHalfEmptyModel", "isRoom", "(I)Z"⟩) ∈ lw_all := lw_g (lw_at lw_ms 64 rfl) rfl
theorem qs65 : (Cond.selects "GoodHalfEmptyModel" ⟨"GoodHalfEmptyModel", "hat", "(I)I"⟩ ⟨"GoodHalfEmptyModel", "hat", "(I)I"⟩) ∈ lw_all := lw_g (lw_at lw_ms 65 rfl) rfl
theorem qs66 : (Cond.selects "GoodHalfEmptyModel" ⟨"GoodHalfEmptyModel", "worthNext", "(II)I"⟩ ⟨"GoodHalfEmptyModel", "worthNext", "(II)I"⟩) ∈ lw_all := lw_g (lw_at lw_ms 66 rfl) rfl
theorem qs67 : (Cond.selects "GoodHalfEmptyModel" ⟨"GoodHalfEmptyModel", "worthGone", "(II)I"⟩ ⟨"GoodHalfEmptyModel", "worthGone", "(II)I"⟩) ∈ lw_all := lw_g (lw_at lw_ms 67 rfl) rfl
theorem qs68 : (Cond.selects "GoodHalfEmptyModel" ⟨"GoodHalfEmptyModel", "isWrong", "(II)I"⟩ ⟨"GoodHalfEmptyModel", "isWrong", "(II)I"⟩) ∈ lw_all := lw_g (lw_at lw_ms 68 rfl) rfl
theorem qs69 : (Cond.selects "GoodHalfEmptyModel" ⟨"GoodHalfEmptyModel", "goAhead", "(II)I"⟩ ⟨"GoodHalfEmptyModel", "goAhead", "(II)I"⟩) ∈ lw_all := lw_g (lw_at lw_ms 69 rfl) rfl
theorem qs70 : (Cond.selects "GoodHalfEmptyModel" ⟨"GoodHalfEmptyModel", "swungIn", "(I)I"⟩ ⟨"GoodHalfEmptyModel", "swungIn", "(I)I"⟩) ∈ lw_all := lw_g (lw_at lw_ms 70 rfl) rfl
theorem qs71 : (Cond.selects "GoodHalfEmptyModel" ⟨"GoodHalfEmptyModel", "goThrough", "()V"⟩ ⟨"GoodHalfEmptyModel", "goThrough", "()V"⟩) ∈ lw_all := lw_g (lw_at lw_ms 71 rfl) rfl
theorem qs72 : (Cond.selects "GoodHalfEmptyModel" ⟨"GoodHalfEmptyModel", "begin", "()V"⟩ ⟨"GoodHalfEmptyModel", "begin", "()V"⟩) ∈ lw_all := lw_g (lw_at lw_ms 72 rfl) rfl
theorem qs73 : (Cond.selects "GoodHalfEmptyModel" ⟨"GoodHalfEmptyModel", "isAtRest", "(I)Z"⟩ ⟨"GoodHalfEmptyModel", "isAtRest", "(I)Z"⟩) ∈ lw_all := lw_g (lw_at lw_ms 73 rfl) rfl
theorem qs74 : (Cond.selects "GoodHalfEmptyModel" ⟨"GoodHalfEmptyModel", "isNextPlan", "()Z"⟩ ⟨"GoodHalfEmptyModel", "isNextPlan", "()Z"⟩) ∈ lw_all := lw_g (lw_at lw_ms 74 rfl) rfl
