-- ===== PART A: goes FIRST, ahead of the names: the tables' words, and 'selects' of the private methods out of them =====
/-- a private method of a class that the tables say can be made, by its rows of tables_1 -/
def lw_okq (q : MethodName × Nat) : Prop := (q.1.cls ≠ "java/lang/invoke/MethodHandle" ∧ q.1.cls ≠ "java/lang/invoke/VarHandle") ∧ Cond.instantiable q.1.cls q.2 ∈ tables_1 ∧ Cond.privateMethod q.1 ∈ tables_1 ∧ Cond.instanceMethod q.1 ∈ tables_1
set_option maxRecDepth 100000
theorem lw_t1 {w : Cond} (h : w ∈ tables_1_1) : w ∈ tables_1 := List.mem_append_left _ h
theorem lw_t2 {w : Cond} (h : w ∈ tables_1_2) : w ∈ tables_1 := List.mem_append_right _ (List.mem_append_left _ h)
theorem lw_t3 {w : Cond} (h : w ∈ tables_1_3) : w ∈ tables_1 := List.mem_append_right _ (List.mem_append_right _ (List.mem_append_left _ h))
theorem lw_t4 {w : Cond} (h : w ∈ tables_1_4) : w ∈ tables_1 := List.mem_append_right _ (List.mem_append_right _ (List.mem_append_right _ (List.mem_append_left _ h)))
theorem lw_t5 {w : Cond} (h : w ∈ tables_1_5) : w ∈ tables_1 := List.mem_append_right _ (List.mem_append_right _ (List.mem_append_right _ (List.mem_append_right _ (List.mem_append_left _ h))))
theorem lw_t6 {w : Cond} (h : w ∈ tables_1_6) : w ∈ tables_1 := List.mem_append_right _ (List.mem_append_right _ (List.mem_append_right _ (List.mem_append_right _ (List.mem_append_right _ h))))
theorem lw_p0 : lw_okq (⟨"java/lang/NullPointerException", "getExtendedNPEMessage", "()Ljava/lang/String;"⟩, 8) := ⟨⟨by decide +kernel, by decide +kernel⟩, lw_t1 (List.mem_of_getElem? (i := 175) rfl), lw_t1 (List.mem_of_getElem? (i := 173) rfl), lw_t1 (List.mem_of_getElem? (i := 174) rfl)⟩
theorem lw_p1 : lw_okq (⟨"java/lang/Throwable", "fillInStackTrace", "(I)Ljava/lang/Throwable;"⟩, 6) := ⟨⟨by decide +kernel, by decide +kernel⟩, lw_t1 (List.mem_of_getElem? (i := 187) rfl), lw_t1 (List.mem_of_getElem? (i := 185) rfl), lw_t1 (List.mem_of_getElem? (i := 186) rfl)⟩
theorem lw_p2 : lw_okq (⟨"MustardFast", "comesDuchy", "([I)I"⟩, 20) := ⟨⟨by decide +kernel, by decide +kernel⟩, lw_t1 (List.mem_of_getElem? (i := 27) rfl), lw_t2 (List.mem_of_getElem? (i := 85) rfl), lw_t2 (List.mem_of_getElem? (i := 86) rfl)⟩
theorem lw_p3 : lw_okq (⟨"MustardFast", "readAll", "([I)Z"⟩, 20) := ⟨⟨by decide +kernel, by decide +kernel⟩, lw_t1 (List.mem_of_getElem? (i := 27) rfl), lw_t2 (List.mem_of_getElem? (i := 89) rfl), lw_t2 (List.mem_of_getElem? (i := 90) rfl)⟩
theorem lw_p4 : lw_okq (⟨"MustardFast", "isSign", "([II)Z"⟩, 20) := ⟨⟨by decide +kernel, by decide +kernel⟩, lw_t1 (List.mem_of_getElem? (i := 27) rfl), lw_t2 (List.mem_of_getElem? (i := 93) rfl), lw_t2 (List.mem_of_getElem? (i := 94) rfl)⟩
theorem lw_p5 : lw_okq (⟨"MustardFast", "digit", "([III)I"⟩, 20) := ⟨⟨by decide +kernel, by decide +kernel⟩, lw_t1 (List.mem_of_getElem? (i := 27) rfl), lw_t2 (List.mem_of_getElem? (i := 97) rfl), lw_t2 (List.mem_of_getElem? (i := 98) rfl)⟩
theorem lw_p6 : lw_okq (⟨"MustardFast", "readTheDays", "([I)Z"⟩, 20) := ⟨⟨by decide +kernel, by decide +kernel⟩, lw_t1 (List.mem_of_getElem? (i := 27) rfl), lw_t2 (List.mem_of_getElem? (i := 102) rfl), lw_t2 (List.mem_of_getElem? (i := 103) rfl)⟩
theorem lw_p7 : lw_okq (⟨"MustardFast", "readEater", "([I)Z"⟩, 20) := ⟨⟨by decide +kernel, by decide +kernel⟩, lw_t1 (List.mem_of_getElem? (i := 27) rfl), lw_t2 (List.mem_of_getElem? (i := 106) rfl), lw_t2 (List.mem_of_getElem? (i := 107) rfl)⟩
theorem lw_p8 : lw_okq (⟨"MustardFast", "newEater", "(I)LMustardFast$Eater;"⟩, 20) := ⟨⟨by decide +kernel, by decide +kernel⟩, lw_t1 (List.mem_of_getElem? (i := 27) rfl), lw_t2 (List.mem_of_getElem? (i := 123) rfl), lw_t2 (List.mem_of_getElem? (i := 124) rfl)⟩
theorem lw_p9 : lw_okq (⟨"java/util/ArrayList", "add", "(Ljava/lang/Object;[Ljava/lang/Object;I)V"⟩, 3) := ⟨⟨by decide +kernel, by decide +kernel⟩, lw_t1 (List.mem_of_getElem? (i := 35) rfl), lw_t2 (List.mem_of_getElem? (i := 192) rfl), lw_t2 (List.mem_of_getElem? (i := 193) rfl)⟩
theorem lw_p10 : lw_okq (⟨"java/util/ArrayList", "grow", "()[Ljava/lang/Object;"⟩, 3) := ⟨⟨by decide +kernel, by decide +kernel⟩, lw_t1 (List.mem_of_getElem? (i := 35) rfl), lw_t2 (List.mem_of_getElem? (i := 196) rfl), lw_t2 (List.mem_of_getElem? (i := 197) rfl)⟩
theorem lw_p11 : lw_okq (⟨"java/util/ArrayList", "grow", "(I)[Ljava/lang/Object;"⟩, 3) := ⟨⟨by decide +kernel, by decide +kernel⟩, lw_t1 (List.mem_of_getElem? (i := 35) rfl), lw_t2 (List.mem_of_getElem? (i := 200) rfl), lw_t2 (List.mem_of_getElem? (i := 201) rfl)⟩
theorem lw_p12 : lw_okq (⟨"MustardFast", "faulty", "(I)I"⟩, 20) := ⟨⟨by decide +kernel, by decide +kernel⟩, lw_t1 (List.mem_of_getElem? (i := 27) rfl), lw_t3 (List.mem_of_getElem? (i := 3) rfl), lw_t3 (List.mem_of_getElem? (i := 4) rfl)⟩
theorem lw_p13 : lw_okq (⟨"MustardFast", "isEater", "(I)Z"⟩, 20) := ⟨⟨by decide +kernel, by decide +kernel⟩, lw_t1 (List.mem_of_getElem? (i := 27) rfl), lw_t3 (List.mem_of_getElem? (i := 11) rfl), lw_t3 (List.mem_of_getElem? (i := 12) rfl)⟩
theorem lw_p14 : lw_okq (⟨"MustardFast", "isDay", "(I)Z"⟩, 20) := ⟨⟨by decide +kernel, by decide +kernel⟩, lw_t1 (List.mem_of_getElem? (i := 27) rfl), lw_t3 (List.mem_of_getElem? (i := 72) rfl), lw_t3 (List.mem_of_getElem? (i := 73) rfl)⟩
theorem lw_p15 : lw_okq (⟨"MustardFast", "isDuchy", "()Z"⟩, 20) := ⟨⟨by decide +kernel, by decide +kernel⟩, lw_t1 (List.mem_of_getElem? (i := 27) rfl), lw_t3 (List.mem_of_getElem? (i := 88) rfl), lw_t3 (List.mem_of_getElem? (i := 89) rfl)⟩
def lw_privs_1 : List (MethodName × Nat) := [(⟨"java/lang/NullPointerException", "getExtendedNPEMessage", "()Ljava/lang/String;"⟩, 8), (⟨"java/lang/Throwable", "fillInStackTrace", "(I)Ljava/lang/Throwable;"⟩, 6), (⟨"MustardFast", "comesDuchy", "([I)I"⟩, 20), (⟨"MustardFast", "readAll", "([I)Z"⟩, 20), (⟨"MustardFast", "isSign", "([II)Z"⟩, 20), (⟨"MustardFast", "digit", "([III)I"⟩, 20), (⟨"MustardFast", "readTheDays", "([I)Z"⟩, 20), (⟨"MustardFast", "readEater", "([I)Z"⟩, 20), (⟨"MustardFast", "newEater", "(I)LMustardFast$Eater;"⟩, 20), (⟨"java/util/ArrayList", "add", "(Ljava/lang/Object;[Ljava/lang/Object;I)V"⟩, 3), (⟨"java/util/ArrayList", "grow", "()[Ljava/lang/Object;"⟩, 3), (⟨"java/util/ArrayList", "grow", "(I)[Ljava/lang/Object;"⟩, 3), (⟨"MustardFast", "faulty", "(I)I"⟩, 20), (⟨"MustardFast", "isEater", "(I)Z"⟩, 20), (⟨"MustardFast", "isDay", "(I)Z"⟩, 20), (⟨"MustardFast", "isDuchy", "()Z"⟩, 20)]
theorem lw_r1 : ∀ q ∈ lw_privs_1, lw_okq q := List.forall_mem_cons.mpr ⟨lw_p0, List.forall_mem_cons.mpr ⟨lw_p1, List.forall_mem_cons.mpr ⟨lw_p2, List.forall_mem_cons.mpr ⟨lw_p3, List.forall_mem_cons.mpr ⟨lw_p4, List.forall_mem_cons.mpr ⟨lw_p5, List.forall_mem_cons.mpr ⟨lw_p6, List.forall_mem_cons.mpr ⟨lw_p7, List.forall_mem_cons.mpr ⟨lw_p8, List.forall_mem_cons.mpr ⟨lw_p9, List.forall_mem_cons.mpr ⟨lw_p10, List.forall_mem_cons.mpr ⟨lw_p11, List.forall_mem_cons.mpr ⟨lw_p12, List.forall_mem_cons.mpr ⟨lw_p13, List.forall_mem_cons.mpr ⟨lw_p14, List.forall_mem_cons.mpr ⟨lw_p15, fun _ h => absurd h List.not_mem_nil⟩⟩⟩⟩⟩⟩⟩⟩⟩⟩⟩⟩⟩⟩⟩⟩
theorem lw_p16 : lw_okq (⟨"MustardFast", "fastsNow", "()I"⟩, 20) := ⟨⟨by decide +kernel, by decide +kernel⟩, lw_t1 (List.mem_of_getElem? (i := 27) rfl), lw_t3 (List.mem_of_getElem? (i := 101) rfl), lw_t3 (List.mem_of_getElem? (i := 102) rfl)⟩
theorem lw_p17 : lw_okq (⟨"MustardFast", "fastsBy", "(I)I"⟩, 20) := ⟨⟨by decide +kernel, by decide +kernel⟩, lw_t1 (List.mem_of_getElem? (i := 27) rfl), lw_t3 (List.mem_of_getElem? (i := 105) rfl), lw_t3 (List.mem_of_getElem? (i := 106) rfl)⟩
theorem lw_p18 : lw_okq (⟨"MustardFast", "isSet", "(I)Z"⟩, 20) := ⟨⟨by decide +kernel, by decide +kernel⟩, lw_t1 (List.mem_of_getElem? (i := 27) rfl), lw_t3 (List.mem_of_getElem? (i := 113) rfl), lw_t3 (List.mem_of_getElem? (i := 114) rfl)⟩
theorem lw_p19 : lw_okq (⟨"MustardFast", "all", "()I"⟩, 20) := ⟨⟨by decide +kernel, by decide +kernel⟩, lw_t1 (List.mem_of_getElem? (i := 27) rfl), lw_t3 (List.mem_of_getElem? (i := 117) rfl), lw_t3 (List.mem_of_getElem? (i := 118) rfl)⟩
theorem lw_p20 : lw_okq (⟨"MustardFast", "told", "([II)I"⟩, 20) := ⟨⟨by decide +kernel, by decide +kernel⟩, lw_t1 (List.mem_of_getElem? (i := 27) rfl), lw_t3 (List.mem_of_getElem? (i := 170) rfl), lw_t3 (List.mem_of_getElem? (i := 171) rfl)⟩
theorem lw_p21 : lw_okq (⟨"MustardFast", "foundOn", "([II)I"⟩, 20) := ⟨⟨by decide +kernel, by decide +kernel⟩, lw_t1 (List.mem_of_getElem? (i := 27) rfl), lw_t3 (List.mem_of_getElem? (i := 174) rfl), lw_t3 (List.mem_of_getElem? (i := 175) rfl)⟩
theorem lw_p22 : lw_okq (⟨"MustardFast", "firstFound", "([I)I"⟩, 20) := ⟨⟨by decide +kernel, by decide +kernel⟩, lw_t1 (List.mem_of_getElem? (i := 27) rfl), lw_t3 (List.mem_of_getElem? (i := 181) rfl), lw_t3 (List.mem_of_getElem? (i := 182) rfl)⟩
theorem lw_p23 : lw_okq (⟨"MustardFast", "villageBy", "(I)I"⟩, 20) := ⟨⟨by decide +kernel, by decide +kernel⟩, lw_t1 (List.mem_of_getElem? (i := 27) rfl), lw_t3 (List.mem_of_getElem? (i := 202) rfl), lw_t3 (List.mem_of_getElem? (i := 203) rfl)⟩
theorem lw_p24 : lw_okq (⟨"MustardFast", "areSo", "(I)Z"⟩, 20) := ⟨⟨by decide +kernel, by decide +kernel⟩, lw_t1 (List.mem_of_getElem? (i := 27) rfl), lw_t3 (List.mem_of_getElem? (i := 222) rfl), lw_t3 (List.mem_of_getElem? (i := 223) rfl)⟩
theorem lw_p25 : lw_okq (⟨"MustardFast", "lost", "(I)J"⟩, 20) := ⟨⟨by decide +kernel, by decide +kernel⟩, lw_t1 (List.mem_of_getElem? (i := 27) rfl), lw_t4 (List.mem_of_getElem? (i := 19) rfl), lw_t4 (List.mem_of_getElem? (i := 20) rfl)⟩
theorem lw_p26 : lw_okq (⟨"MustardFast", "begins", "(I)V"⟩, 20) := ⟨⟨by decide +kernel, by decide +kernel⟩, lw_t1 (List.mem_of_getElem? (i := 27) rfl), lw_t4 (List.mem_of_getElem? (i := 53) rfl), lw_t4 (List.mem_of_getElem? (i := 54) rfl)⟩
theorem lw_p27 : lw_okq (⟨"MustardFastModel", "refused", "(I)I"⟩, 29) := ⟨⟨by decide +kernel, by decide +kernel⟩, lw_t4 (List.mem_of_getElem? (i := 129) rfl), lw_t4 (List.mem_of_getElem? (i := 234) rfl), lw_t4 (List.mem_of_getElem? (i := 235) rfl)⟩
theorem lw_p28 : lw_okq (⟨"MustardFastModel", "cellsBarred", "(IIIJ)I"⟩, 29) := ⟨⟨by decide +kernel, by decide +kernel⟩, lw_t4 (List.mem_of_getElem? (i := 129) rfl), lw_t4 (List.mem_of_getElem? (i := 239) rfl), lw_t5 (List.mem_of_getElem? (i := 0) rfl)⟩
theorem lw_p29 : lw_okq (⟨"MustardFastModel", "failed", "(I)I"⟩, 29) := ⟨⟨by decide +kernel, by decide +kernel⟩, lw_t4 (List.mem_of_getElem? (i := 129) rfl), lw_t5 (List.mem_of_getElem? (i := 3) rfl), lw_t5 (List.mem_of_getElem? (i := 4) rfl)⟩
theorem lw_p30 : lw_okq (⟨"MustardFastModel", "readsDuchy", "(II)Z"⟩, 29) := ⟨⟨by decide +kernel, by decide +kernel⟩, lw_t4 (List.mem_of_getElem? (i := 129) rfl), lw_t5 (List.mem_of_getElem? (i := 10) rfl), lw_t5 (List.mem_of_getElem? (i := 11) rfl)⟩
theorem lw_p31 : lw_okq (⟨"MustardFastModel", "codeAt", "(II)I"⟩, 29) := ⟨⟨by decide +kernel, by decide +kernel⟩, lw_t4 (List.mem_of_getElem? (i := 129) rfl), lw_t5 (List.mem_of_getElem? (i := 14) rfl), lw_t5 (List.mem_of_getElem? (i := 15) rfl)⟩
def lw_privs_2 : List (MethodName × Nat) := [(⟨"MustardFast", "fastsNow", "()I"⟩, 20), (⟨"MustardFast", "fastsBy", "(I)I"⟩, 20), (⟨"MustardFast", "isSet", "(I)Z"⟩, 20), (⟨"MustardFast", "all", "()I"⟩, 20), (⟨"MustardFast", "told", "([II)I"⟩, 20), (⟨"MustardFast", "foundOn", "([II)I"⟩, 20), (⟨"MustardFast", "firstFound", "([I)I"⟩, 20), (⟨"MustardFast", "villageBy", "(I)I"⟩, 20), (⟨"MustardFast", "areSo", "(I)Z"⟩, 20), (⟨"MustardFast", "lost", "(I)J"⟩, 20), (⟨"MustardFast", "begins", "(I)V"⟩, 20), (⟨"MustardFastModel", "refused", "(I)I"⟩, 29), (⟨"MustardFastModel", "cellsBarred", "(IIIJ)I"⟩, 29), (⟨"MustardFastModel", "failed", "(I)I"⟩, 29), (⟨"MustardFastModel", "readsDuchy", "(II)Z"⟩, 29), (⟨"MustardFastModel", "codeAt", "(II)I"⟩, 29)]
theorem lw_r2 : ∀ q ∈ lw_privs_2, lw_okq q := List.forall_mem_cons.mpr ⟨lw_p16, List.forall_mem_cons.mpr ⟨lw_p17, List.forall_mem_cons.mpr ⟨lw_p18, List.forall_mem_cons.mpr ⟨lw_p19, List.forall_mem_cons.mpr ⟨lw_p20, List.forall_mem_cons.mpr ⟨lw_p21, List.forall_mem_cons.mpr ⟨lw_p22, List.forall_mem_cons.mpr ⟨lw_p23, List.forall_mem_cons.mpr ⟨lw_p24, List.forall_mem_cons.mpr ⟨lw_p25, List.forall_mem_cons.mpr ⟨lw_p26, List.forall_mem_cons.mpr ⟨lw_p27, List.forall_mem_cons.mpr ⟨lw_p28, List.forall_mem_cons.mpr ⟨lw_p29, List.forall_mem_cons.mpr ⟨lw_p30, List.forall_mem_cons.mpr ⟨lw_p31, fun _ h => absurd h List.not_mem_nil⟩⟩⟩⟩⟩⟩⟩⟩⟩⟩⟩⟩⟩⟩⟩⟩
theorem lw_p32 : lw_okq (⟨"MustardFastModel", "figure", "(IIII)I"⟩, 29) := ⟨⟨by decide +kernel, by decide +kernel⟩, lw_t4 (List.mem_of_getElem? (i := 129) rfl), lw_t5 (List.mem_of_getElem? (i := 18) rfl), lw_t5 (List.mem_of_getElem? (i := 19) rfl)⟩
theorem lw_p33 : lw_okq (⟨"MustardFastModel", "readsDays", "(II)Z"⟩, 29) := ⟨⟨by decide +kernel, by decide +kernel⟩, lw_t4 (List.mem_of_getElem? (i := 129) rfl), lw_t5 (List.mem_of_getElem? (i := 22) rfl), lw_t5 (List.mem_of_getElem? (i := 23) rfl)⟩
theorem lw_p34 : lw_okq (⟨"MustardFastModel", "readsEater", "(II)Z"⟩, 29) := ⟨⟨by decide +kernel, by decide +kernel⟩, lw_t4 (List.mem_of_getElem? (i := 129) rfl), lw_t5 (List.mem_of_getElem? (i := 26) rfl), lw_t5 (List.mem_of_getElem? (i := 27) rfl)⟩
theorem lw_p35 : lw_okq (⟨"MustardFastModel", "noEater", "(I)Z"⟩, 29) := ⟨⟨by decide +kernel, by decide +kernel⟩, lw_t4 (List.mem_of_getElem? (i := 129) rfl), lw_t5 (List.mem_of_getElem? (i := 34) rfl), lw_t5 (List.mem_of_getElem? (i := 35) rfl)⟩
theorem lw_p36 : lw_okq (⟨"MustardFastModel", "lastsOf", "(I)I"⟩, 29) := ⟨⟨by decide +kernel, by decide +kernel⟩, lw_t4 (List.mem_of_getElem? (i := 129) rfl), lw_t5 (List.mem_of_getElem? (i := 38) rfl), lw_t5 (List.mem_of_getElem? (i := 39) rfl)⟩
theorem lw_p37 : lw_okq (⟨"MustardFastModel", "noDay", "(I)Z"⟩, 29) := ⟨⟨by decide +kernel, by decide +kernel⟩, lw_t4 (List.mem_of_getElem? (i := 129) rfl), lw_t5 (List.mem_of_getElem? (i := 46) rfl), lw_t5 (List.mem_of_getElem? (i := 47) rfl)⟩
theorem lw_p38 : lw_okq (⟨"MustardFastModel", "fastsNow", "()I"⟩, 29) := ⟨⟨by decide +kernel, by decide +kernel⟩, lw_t4 (List.mem_of_getElem? (i := 129) rfl), lw_t5 (List.mem_of_getElem? (i := 68) rfl), lw_t5 (List.mem_of_getElem? (i := 69) rfl)⟩
theorem lw_p39 : lw_okq (⟨"MustardFastModel", "noSet", "(I)Z"⟩, 29) := ⟨⟨by decide +kernel, by decide +kernel⟩, lw_t4 (List.mem_of_getElem? (i := 129) rfl), lw_t5 (List.mem_of_getElem? (i := 76) rfl), lw_t5 (List.mem_of_getElem? (i := 77) rfl)⟩
theorem lw_p40 : lw_okq (⟨"MustardFastModel", "yellowBy", "(II)I"⟩, 29) := ⟨⟨by decide +kernel, by decide +kernel⟩, lw_t4 (List.mem_of_getElem? (i := 129) rfl), lw_t5 (List.mem_of_getElem? (i := 80) rfl), lw_t5 (List.mem_of_getElem? (i := 81) rfl)⟩
theorem lw_p41 : lw_okq (⟨"MustardFastModel", "foundBy", "(II)I"⟩, 29) := ⟨⟨by decide +kernel, by decide +kernel⟩, lw_t4 (List.mem_of_getElem? (i := 129) rfl), lw_t5 (List.mem_of_getElem? (i := 91) rfl), lw_t5 (List.mem_of_getElem? (i := 92) rfl)⟩
theorem lw_p42 : lw_okq (⟨"MustardFastModel", "fineOf", "(II)I"⟩, 29) := ⟨⟨by decide +kernel, by decide +kernel⟩, lw_t4 (List.mem_of_getElem? (i := 129) rfl), lw_t5 (List.mem_of_getElem? (i := 95) rfl), lw_t5 (List.mem_of_getElem? (i := 96) rfl)⟩
theorem lw_p43 : lw_okq (⟨"MustardFastModel", "planBy", "(II)I"⟩, 29) := ⟨⟨by decide +kernel, by decide +kernel⟩, lw_t4 (List.mem_of_getElem? (i := 129) rfl), lw_t5 (List.mem_of_getElem? (i := 108) rfl), lw_t5 (List.mem_of_getElem? (i := 109) rfl)⟩
theorem lw_p44 : lw_okq (⟨"MustardFastModel", "bestOf", "(I)I"⟩, 29) := ⟨⟨by decide +kernel, by decide +kernel⟩, lw_t4 (List.mem_of_getElem? (i := 129) rfl), lw_t5 (List.mem_of_getElem? (i := 116) rfl), lw_t5 (List.mem_of_getElem? (i := 117) rfl)⟩
theorem lw_p45 : lw_okq (⟨"MustardFastModel", "villageNow", "()I"⟩, 29) := ⟨⟨by decide +kernel, by decide +kernel⟩, lw_t4 (List.mem_of_getElem? (i := 129) rfl), lw_t5 (List.mem_of_getElem? (i := 124) rfl), lw_t5 (List.mem_of_getElem? (i := 125) rfl)⟩
theorem lw_p46 : lw_okq (⟨"MustardFastModel", "areSo", "()Z"⟩, 29) := ⟨⟨by decide +kernel, by decide +kernel⟩, lw_t4 (List.mem_of_getElem? (i := 129) rfl), lw_t5 (List.mem_of_getElem? (i := 144) rfl), lw_t5 (List.mem_of_getElem? (i := 145) rfl)⟩
theorem lw_p47 : lw_okq (⟨"MustardFastModel", "noCell", "(II)I"⟩, 29) := ⟨⟨by decide +kernel, by decide +kernel⟩, lw_t4 (List.mem_of_getElem? (i := 129) rfl), lw_t5 (List.mem_of_getElem? (i := 179) rfl), lw_t5 (List.mem_of_getElem? (i := 180) rfl)⟩
def lw_privs_3 : List (MethodName × Nat) := [(⟨"MustardFastModel", "figure", "(IIII)I"⟩, 29), (⟨"MustardFastModel", "readsDays", "(II)Z"⟩, 29), (⟨"MustardFastModel", "readsEater", "(II)Z"⟩, 29), (⟨"MustardFastModel", "noEater", "(I)Z"⟩, 29), (⟨"MustardFastModel", "lastsOf", "(I)I"⟩, 29), (⟨"MustardFastModel", "noDay", "(I)Z"⟩, 29), (⟨"MustardFastModel", "fastsNow", "()I"⟩, 29), (⟨"MustardFastModel", "noSet", "(I)Z"⟩, 29), (⟨"MustardFastModel", "yellowBy", "(II)I"⟩, 29), (⟨"MustardFastModel", "foundBy", "(II)I"⟩, 29), (⟨"MustardFastModel", "fineOf", "(II)I"⟩, 29), (⟨"MustardFastModel", "planBy", "(II)I"⟩, 29), (⟨"MustardFastModel", "bestOf", "(I)I"⟩, 29), (⟨"MustardFastModel", "villageNow", "()I"⟩, 29), (⟨"MustardFastModel", "areSo", "()Z"⟩, 29), (⟨"MustardFastModel", "noCell", "(II)I"⟩, 29)]
theorem lw_r3 : ∀ q ∈ lw_privs_3, lw_okq q := List.forall_mem_cons.mpr ⟨lw_p32, List.forall_mem_cons.mpr ⟨lw_p33, List.forall_mem_cons.mpr ⟨lw_p34, List.forall_mem_cons.mpr ⟨lw_p35, List.forall_mem_cons.mpr ⟨lw_p36, List.forall_mem_cons.mpr ⟨lw_p37, List.forall_mem_cons.mpr ⟨lw_p38, List.forall_mem_cons.mpr ⟨lw_p39, List.forall_mem_cons.mpr ⟨lw_p40, List.forall_mem_cons.mpr ⟨lw_p41, List.forall_mem_cons.mpr ⟨lw_p42, List.forall_mem_cons.mpr ⟨lw_p43, List.forall_mem_cons.mpr ⟨lw_p44, List.forall_mem_cons.mpr ⟨lw_p45, List.forall_mem_cons.mpr ⟨lw_p46, List.forall_mem_cons.mpr ⟨lw_p47, fun _ h => absurd h List.not_mem_nil⟩⟩⟩⟩⟩⟩⟩⟩⟩⟩⟩⟩⟩⟩⟩⟩
theorem lw_p48 : lw_okq (⟨"MustardFastModel", "failedLong", "(I)J"⟩, 29) := ⟨⟨by decide +kernel, by decide +kernel⟩, lw_t4 (List.mem_of_getElem? (i := 129) rfl), lw_t5 (List.mem_of_getElem? (i := 187) rfl), lw_t5 (List.mem_of_getElem? (i := 188) rfl)⟩
theorem lw_p49 : lw_okq (⟨"MustardFastModel", "traced", "(I)V"⟩, 29) := ⟨⟨by decide +kernel, by decide +kernel⟩, lw_t4 (List.mem_of_getElem? (i := 129) rfl), lw_t5 (List.mem_of_getElem? (i := 199) rfl), lw_t5 (List.mem_of_getElem? (i := 200) rfl)⟩
def lw_privs_4 : List (MethodName × Nat) := [(⟨"MustardFastModel", "failedLong", "(I)J"⟩, 29), (⟨"MustardFastModel", "traced", "(I)V"⟩, 29)]
theorem lw_r4 : ∀ q ∈ lw_privs_4, lw_okq q := List.forall_mem_cons.mpr ⟨lw_p48, List.forall_mem_cons.mpr ⟨lw_p49, fun _ h => absurd h List.not_mem_nil⟩⟩
def lw_privs : List (MethodName × Nat) := lw_privs_1 ++ (lw_privs_2 ++ (lw_privs_3 ++ (lw_privs_4)))
def lw_tbl : List Cond := k2_sels lw_privs ++ tables_1
theorem lw_privs_ok : ∀ q ∈ lw_privs, lw_okq q := by
  show ∀ q ∈ lw_privs_1 ++ (lw_privs_2 ++ (lw_privs_3 ++ (lw_privs_4))), lw_okq q
  exact List.forall_mem_append.mpr ⟨lw_r1, List.forall_mem_append.mpr ⟨lw_r2, List.forall_mem_append.mpr ⟨lw_r3, lw_r4⟩⟩⟩
-- ===== ONE list of words for every method: the tables' words that hold all through a run =====
def lw_all : List Cond := lw_tbl.filter goodWord
/-- a word of the tables by its place: claim/WORDS.tsv -/
theorem lw_w {w : Cond} (i : Nat) (h : lw_tbl[i]? = some w) (g : goodWord w = true) : w ∈ lw_all := List.mem_filter.mpr ⟨List.mem_of_getElem? h, g⟩
theorem lw_all_tbl {w : Cond} (h : w ∈ lw_all) : w ∈ lw_tbl := (List.mem_filter.mp h).1
theorem lw_self : GoodIn lw_all lw_all := fun w h => ⟨h, good_of_word (List.mem_filter.mp h).2⟩
/-- a class's field words, by their places -/
theorem lw_in (ws : List Cond) (ps : List Nat) (hp : ws = ps.filterMap (fun i => lw_tbl[i]?)) (hg : ws.all goodWord = true) : ∀ w ∈ ws, w ∈ lw_all := by
  intro w h
  have h1 := List.all_eq_true.mp hg w h
  rw [hp] at h
  obtain ⟨i, -, hi⟩ := List.mem_filterMap.mp h
  exact lw_w i hi h1
/-- the words of a contract for the method y with code b, L locals, answer r -/
abbrev ws_ (y : MethodName) (b : ByteArray) (L : Nat) (r : Option FieldType) : List Cond := Cond.code y b L r :: lw_all
theorem lw_meth {y : MethodName} {b : ByteArray} {L : Nat} {r : Option FieldType} (h : Cond.code y b L r ∈ lw_all) : GoodIn lw_all (ws_ y b L r) := by
  intro w hw
  rcases List.mem_cons.mp hw with e | e
  · rw [e]
    exact lw_self _ h
  · exact lw_self _ e
theorem lw_app {a c : List Cond} (ha : ∀ w ∈ a, w ∈ lw_all) (hc : GoodIn lw_all c) : GoodIn lw_all (a ++ c) := by
  intro w hw
  rcases List.mem_append.mp hw with e | e
  · exact lw_self w (ha w e)
  · exact hc w e
/-- what a call through an object asks: cwV n hts (lw_V ..) -/
theorem lw_V {own : String} {idx : Nat} {C : String} {y : MethodName} {b : ByteArray} {L : Nat} {r : Option FieldType} (h1 : Cond.methodLink own idx y ∈ lw_all) (h2 : Cond.instanceMethod y ∈ lw_all) (h3 : Cond.selects C y y ∈ lw_all) (h4 : Cond.initialized C ∈ lw_all) (h5 : Cond.code y b L r ∈ lw_all) : GoodIn lw_all (wsV own idx C y (ws_ y b L r)) := by
  refine lw_app ?_ (lw_meth h5)
  intro w hw
  simp only [List.mem_cons, List.not_mem_nil, or_false] at hw
  rcases hw with e | e | e | e
  · rw [e]; exact h1
  · rw [e]; exact h2
  · rw [e]; exact h3
  · rw [e]; exact h4
/-- what a static call asks: va_cwS n hts (lw_S ..) -/
theorem lw_S {own : String} {idx : Nat} {y : MethodName} {b : ByteArray} {L : Nat} {r : Option FieldType} (h1 : Cond.methodLink own idx y ∈ lw_all) (h2 : Cond.static y ∈ lw_all) (h3 : Cond.initialized y.cls ∈ lw_all) (h4 : Cond.code y b L r ∈ lw_all) : GoodIn lw_all (va_wsS own idx y (ws_ y b L r)) := by
  refine lw_app ?_ (lw_meth h4)
  intro w hw
  simp only [List.mem_cons, List.not_mem_nil, or_false] at hw
  rcases hw with e | e | e
  · rw [e]; exact h1
  · rw [e]; exact h2
  · rw [e]; exact h3
/-- the words of a contract for a method WITH HANDLERS (hh: its table) -/
abbrev wsW_ (y : MethodName) (b : ByteArray) (L : Nat) (r : Option FieldType) (hh : List (Nat × Nat × Nat × Nat)) : List Cond := Cond.codeWith y b L r hh :: lw_all
theorem lw_methW {y : MethodName} {b : ByteArray} {L : Nat} {r : Option FieldType} {hh : List (Nat × Nat × Nat × Nat)} (h : Cond.codeWith y b L r hh ∈ lw_all) : GoodIn lw_all (wsW_ y b L r hh) := by
  intro w hw
  rcases List.mem_cons.mp hw with e | e
  · rw [e]
    exact lw_self _ h
  · exact lw_self _ e
/-- any list of words by their places (lw_in), good -/
theorem lw_good {ws : List Cond} (h : ∀ w ∈ ws, w ∈ lw_all) : GoodIn lw_all ws := fun w hw => lw_self w (h w hw)
/-- what a call of a method with handlers asks: vx_cwVW n hts (lw_VW ..), vx_cwSW n hts (lw_SW ..) -/
theorem lw_VW {own : String} {idx : Nat} {C : String} {y : MethodName} {b : ByteArray} {L : Nat} {r : Option FieldType} {hh : List (Nat × Nat × Nat × Nat)} (h1 : Cond.methodLink own idx y ∈ lw_all) (h2 : Cond.instanceMethod y ∈ lw_all) (h3 : Cond.selects C y y ∈ lw_all) (h4 : Cond.initialized C ∈ lw_all) (h5 : Cond.codeWith y b L r hh ∈ lw_all) : GoodIn lw_all (wsV own idx C y (wsW_ y b L r hh)) := by
  refine lw_app ?_ (lw_methW h5)
  intro w hw
  simp only [List.mem_cons, List.not_mem_nil, or_false] at hw
  rcases hw with e | e | e | e
  · rw [e]; exact h1
  · rw [e]; exact h2
  · rw [e]; exact h3
  · rw [e]; exact h4
theorem lw_SW {own : String} {idx : Nat} {y : MethodName} {b : ByteArray} {L : Nat} {r : Option FieldType} {hh : List (Nat × Nat × Nat × Nat)} (h1 : Cond.methodLink own idx y ∈ lw_all) (h2 : Cond.static y ∈ lw_all) (h3 : Cond.initialized y.cls ∈ lw_all) (h4 : Cond.codeWith y b L r hh ∈ lw_all) : GoodIn lw_all (va_wsS own idx y (wsW_ y b L r hh)) := by
  refine lw_app ?_ (lw_methW h4)
  intro w hw
  simp only [List.mem_cons, List.not_mem_nil, or_false] at hw
  rcases hw with e | e | e
  · rw [e]; exact h1
  · rw [e]; exact h2
  · rw [e]; exact h3
/-- a word by its place in its run of the tables -/
theorem lw_at {r : List Cond} (hr : ∀ w ∈ r, w ∈ lw_tbl) {w : Cond} (i : Nat) (h : r[i]? = some w) : w ∈ lw_tbl := hr w (List.mem_of_getElem? h)
theorem lw_g {w : Cond} (h : w ∈ lw_tbl) (g : goodWord w = true) : w ∈ lw_all := List.mem_filter.mpr ⟨h, g⟩
theorem lw_ms : ∀ w ∈ k2_sels lw_privs, w ∈ lw_tbl := fun w h => show w ∈ k2_sels lw_privs ++ tables_1 from List.mem_append_left _ h
theorem lw_m1 : ∀ w ∈ tables_1_1, w ∈ lw_tbl := fun w h => show w ∈ k2_sels lw_privs ++ tables_1 from List.mem_append_right (k2_sels lw_privs) (show w ∈ tables_1 from List.mem_append_left _ h)
theorem lw_m2 : ∀ w ∈ tables_1_2, w ∈ lw_tbl := fun w h => show w ∈ k2_sels lw_privs ++ tables_1 from List.mem_append_right (k2_sels lw_privs) (show w ∈ tables_1 from List.mem_append_right _ (List.mem_append_left _ h))
theorem lw_m3 : ∀ w ∈ tables_1_3, w ∈ lw_tbl := fun w h => show w ∈ k2_sels lw_privs ++ tables_1 from List.mem_append_right (k2_sels lw_privs) (show w ∈ tables_1 from List.mem_append_right _ (List.mem_append_right _ (List.mem_append_left _ h)))
theorem lw_m4 : ∀ w ∈ tables_1_4, w ∈ lw_tbl := fun w h => show w ∈ k2_sels lw_privs ++ tables_1 from List.mem_append_right (k2_sels lw_privs) (show w ∈ tables_1 from List.mem_append_right _ (List.mem_append_right _ (List.mem_append_right _ (List.mem_append_left _ h))))
theorem lw_m5 : ∀ w ∈ tables_1_5, w ∈ lw_tbl := fun w h => show w ∈ k2_sels lw_privs ++ tables_1 from List.mem_append_right (k2_sels lw_privs) (show w ∈ tables_1 from List.mem_append_right _ (List.mem_append_right _ (List.mem_append_right _ (List.mem_append_right _ (List.mem_append_left _ h)))))
theorem lw_m6 : ∀ w ∈ tables_1_6, w ∈ lw_tbl := fun w h => show w ∈ k2_sels lw_privs ++ tables_1 from List.mem_append_right (k2_sels lw_privs) (show w ∈ tables_1 from List.mem_append_right _ (List.mem_append_right _ (List.mem_append_right _ (List.mem_append_right _ (List.mem_append_right _ h)))))
theorem qs0 : (Cond.selects "java/lang/NullPointerException" ⟨"java/lang/NullPointerException", "getExtendedNPEMessage", "()Ljava/lang/String;"⟩ ⟨"java/lang/NullPointerException", "getExtendedNPEMessage", "()Ljava/lang/String;"⟩) ∈ lw_all := lw_g (lw_at lw_ms 0 rfl) rfl
theorem qs1 : (Cond.selects "java/lang/Throwable" ⟨"java/lang/Throwable", "fillInStackTrace", "(I)Ljava/lang/Throwable;"⟩ ⟨"java/lang/Throwable", "fillInStackTrace", "(I)Ljava/lang/Throwable;"⟩) ∈ lw_all := lw_g (lw_at lw_ms 1 rfl) rfl
theorem qs2 : (Cond.selects "MustardFast" ⟨"MustardFast", "comesDuchy", "([I)I"⟩ ⟨"MustardFast", "comesDuchy", "([I)I"⟩) ∈ lw_all := lw_g (lw_at lw_ms 2 rfl) rfl
theorem qs3 : (Cond.selects "MustardFast" ⟨"MustardFast", "readAll", "([I)Z"⟩ ⟨"MustardFast", "readAll", "([I)Z"⟩) ∈ lw_all := lw_g (lw_at lw_ms 3 rfl) rfl
theorem qs4 : (Cond.selects "MustardFast" ⟨"MustardFast", "isSign", "([II)Z"⟩ ⟨"MustardFast", "isSign", "([II)Z"⟩) ∈ lw_all := lw_g (lw_at lw_ms 4 rfl) rfl
theorem qs5 : (Cond.selects "MustardFast" ⟨"MustardFast", "digit", "([III)I"⟩ ⟨"MustardFast", "digit", "([III)I"⟩) ∈ lw_all := lw_g (lw_at lw_ms 5 rfl) rfl
theorem qs6 : (Cond.selects "MustardFast" ⟨"MustardFast", "readTheDays", "([I)Z"⟩ ⟨"MustardFast", "readTheDays", "([I)Z"⟩) ∈ lw_all := lw_g (lw_at lw_ms 6 rfl) rfl
theorem qs7 : (Cond.selects "MustardFast" ⟨"MustardFast", "readEater", "([I)Z"⟩ ⟨"MustardFast", "readEater", "([I)Z"⟩) ∈ lw_all := lw_g (lw_at lw_ms 7 rfl) rfl
theorem qs8 : (Cond.selects "MustardFast" ⟨"MustardFast", "newEater", "(I)LMustardFast$Eater;"⟩ ⟨"MustardFast", "newEater", "(I)LMustardFast$Eater;"⟩) ∈ lw_all := lw_g (lw_at lw_ms 8 rfl) rfl
theorem qs9 : (Cond.selects "java/util/ArrayList" ⟨"java/util/ArrayList", "add", "(Ljava/lang/Object;[Ljava/lang/Object;I)V"⟩ ⟨"java/util/ArrayList", "add", "(Ljava/lang/Object;[Ljava/lang/Object;I)V"⟩) ∈ lw_all := lw_g (lw_at lw_ms 9 rfl) rfl
theorem qs10 : (Cond.selects "java/util/ArrayList" ⟨"java/util/ArrayList", "grow", "()[Ljava/lang/Object;"⟩ ⟨"java/util/ArrayList", "grow", "()[Ljava/lang/Object;"⟩) ∈ lw_all := lw_g (lw_at lw_ms 10 rfl) rfl
theorem qs11 : (Cond.selects "java/util/ArrayList" ⟨"java/util/ArrayList", "grow", "(I)[Ljava/lang/Object;"⟩ ⟨"java/util/ArrayList", "grow", "(I)[Ljava/lang/Object;"⟩) ∈ lw_all := lw_g (lw_at lw_ms 11 rfl) rfl
theorem qs12 : (Cond.selects "MustardFast" ⟨"MustardFast", "faulty", "(I)I"⟩ ⟨"MustardFast", "faulty", "(I)I"⟩) ∈ lw_all := lw_g (lw_at lw_ms 12 rfl) rfl
theorem qs13 : (Cond.selects "MustardFast" ⟨"MustardFast", "isEater", "(I)Z"⟩ ⟨"MustardFast", "isEater", "(I)Z"⟩) ∈ lw_all := lw_g (lw_at lw_ms 13 rfl) rfl
theorem qs14 : (Cond.selects "MustardFast" ⟨"MustardFast", "isDay", "(I)Z"⟩ ⟨"MustardFast", "isDay", "(I)Z"⟩) ∈ lw_all := lw_g (lw_at lw_ms 14 rfl) rfl
theorem qs15 : (Cond.selects "MustardFast" ⟨"MustardFast", "isDuchy", "()Z"⟩ ⟨"MustardFast", "isDuchy", "()Z"⟩) ∈ lw_all := lw_g (lw_at lw_ms 15 rfl) rfl
theorem qs16 : (Cond.selects "MustardFast" ⟨"MustardFast", "fastsNow", "()I"⟩ ⟨"MustardFast", "fastsNow", "()I"⟩) ∈ lw_all := lw_g (lw_at lw_ms 16 rfl) rfl
theorem qs17 : (Cond.selects "MustardFast" ⟨"MustardFast", "fastsBy", "(I)I"⟩ ⟨"MustardFast", "fastsBy", "(I)I"⟩) ∈ lw_all := lw_g (lw_at lw_ms 17 rfl) rfl
theorem qs18 : (Cond.selects "MustardFast" ⟨"MustardFast", "isSet", "(I)Z"⟩ ⟨"MustardFast", "isSet", "(I)Z"⟩) ∈ lw_all := lw_g (lw_at lw_ms 18 rfl) rfl
theorem qs19 : (Cond.selects "MustardFast" ⟨"MustardFast", "all", "()I"⟩ ⟨"MustardFast", "all", "()I"⟩) ∈ lw_all := lw_g (lw_at lw_ms 19 rfl) rfl
theorem qs20 : (Cond.selects "MustardFast" ⟨"MustardFast", "told", "([II)I"⟩ ⟨"MustardFast", "told", "([II)I"⟩) ∈ lw_all := lw_g (lw_at lw_ms 20 rfl) rfl
theorem qs21 : (Cond.selects "MustardFast" ⟨"MustardFast", "foundOn", "([II)I"⟩ ⟨"MustardFast", "foundOn", "([II)I"⟩) ∈ lw_all := lw_g (lw_at lw_ms 21 rfl) rfl
theorem qs22 : (Cond.selects "MustardFast" ⟨"MustardFast", "firstFound", "([I)I"⟩ ⟨"MustardFast", "firstFound", "([I)I"⟩) ∈ lw_all := lw_g (lw_at lw_ms 22 rfl) rfl
theorem qs23 : (Cond.selects "MustardFast" ⟨"MustardFast", "villageBy", "(I)I"⟩ ⟨"MustardFast", "villageBy", "(I)I"⟩) ∈ lw_all := lw_g (lw_at lw_ms 23 rfl) rfl
theorem qs24 : (Cond.selects "MustardFast" ⟨"MustardFast", "areSo", "(I)Z"⟩ ⟨"MustardFast", "areSo", "(I)Z"⟩) ∈ lw_all := lw_g (lw_at lw_ms 24 rfl) rfl
theorem qs25 : (Cond.selects "MustardFast" ⟨"MustardFast", "lost", "(I)J"⟩ ⟨"MustardFast", "lost", "(I)J"⟩) ∈ lw_all := lw_g (lw_at lw_ms 25 rfl) rfl
theorem qs26 : (Cond.selects "MustardFast" ⟨"MustardFast", "begins", "(I)V"⟩ ⟨"MustardFast", "begins", "(I)V"⟩) ∈ lw_all := lw_g (lw_at lw_ms 26 rfl) rfl
theorem qs27 : (Cond.selects "MustardFastModel" ⟨"MustardFastModel", "refused", "(I)I"⟩ ⟨"MustardFastModel", "refused", "(I)I"⟩) ∈ lw_all := lw_g (lw_at lw_ms 27 rfl) rfl
theorem qs28 : (Cond.selects "MustardFastModel" ⟨"MustardFastModel", "cellsBarred", "(IIIJ)I"⟩ ⟨"MustardFastModel", "cellsBarred", "(IIIJ)I"⟩) ∈ lw_all := lw_g (lw_at lw_ms 28 rfl) rfl
theorem qs29 : (Cond.selects "MustardFastModel" ⟨"MustardFastModel", "failed", "(I)I"⟩ ⟨"MustardFastModel", "failed", "(I)I"⟩) ∈ lw_all := lw_g (lw_at lw_ms 29 rfl) rfl
theorem qs30 : (Cond.selects "MustardFastModel" ⟨"MustardFastModel", "readsDuchy", "(II)Z"⟩ ⟨"MustardFastModel", "readsDuchy", "(II)Z"⟩) ∈ lw_all := lw_g (lw_at lw_ms 30 rfl) rfl
theorem qs31 : (Cond.selects "MustardFastModel" ⟨"MustardFastModel", "codeAt", "(II)I"⟩ ⟨"MustardFastModel", "codeAt", "(II)I"⟩) ∈ lw_all := lw_g (lw_at lw_ms 31 rfl) rfl
theorem qs32 : (Cond.selects "MustardFastModel" ⟨"MustardFastModel", "figure", "(IIII)I"⟩ ⟨"MustardFastModel", "figure", "(IIII)I"⟩) ∈ lw_all := lw_g (lw_at lw_ms 32 rfl) rfl
theorem qs33 : (Cond.selects "MustardFastModel" ⟨"MustardFastModel", "readsDays", "(II)Z"⟩ ⟨"MustardFastModel", "readsDays", "(II)Z"⟩) ∈ lw_all := lw_g (lw_at lw_ms 33 rfl) rfl
theorem qs34 : (Cond.selects "MustardFastModel" ⟨"MustardFastModel", "readsEater", "(II)Z"⟩ ⟨"MustardFastModel", "readsEater", "(II)Z"⟩) ∈ lw_all := lw_g (lw_at lw_ms 34 rfl) rfl
theorem qs35 : (Cond.selects "MustardFastModel" ⟨"MustardFastModel", "noEater", "(I)Z"⟩ ⟨"MustardFastModel", "noEater", "(I)Z"⟩) ∈ lw_all := lw_g (lw_at lw_ms 35 rfl) rfl
theorem qs36 : (Cond.selects "MustardFastModel" ⟨"MustardFastModel", "lastsOf", "(I)I"⟩ ⟨"MustardFastModel", "lastsOf", "(I)I"⟩) ∈ lw_all := lw_g (lw_at lw_ms 36 rfl) rfl
theorem qs37 : (Cond.selects "MustardFastModel" ⟨"MustardFastModel", "noDay", "(I)Z"⟩ ⟨"MustardFastModel", "noDay", "(I)Z"⟩) ∈ lw_all := lw_g (lw_at lw_ms 37 rfl) rfl
theorem qs38 : (Cond.selects "MustardFastModel" ⟨"MustardFastModel", "fastsNow", "()I"⟩ ⟨"MustardFastModel", "fastsNow", "()I"⟩) ∈ lw_all := lw_g (lw_at lw_ms 38 rfl) rfl
theorem qs39 : (Cond.selects "MustardFastModel" ⟨"MustardFastModel", "noSet", "(I)Z"⟩ ⟨"MustardFastModel", "noSet", "(I)Z"⟩) ∈ lw_all := lw_g (lw_at lw_ms 39 rfl) rfl
theorem qs40 : (Cond.selects "MustardFastModel" ⟨"MustardFastModel", "yellowBy", "(II)I"⟩ ⟨"MustardFastModel", "yellowBy", "(II)I"⟩) ∈ lw_all := lw_g (lw_at lw_ms 40 rfl) rfl
theorem qs41 : (Cond.selects "MustardFastModel" ⟨"MustardFastModel", "foundBy", "(II)I"⟩ ⟨"MustardFastModel", "foundBy", "(II)I"⟩) ∈ lw_all := lw_g (lw_at lw_ms 41 rfl) rfl
theorem qs42 : (Cond.selects "MustardFastModel" ⟨"MustardFastModel", "fineOf", "(II)I"⟩ ⟨"MustardFastModel", "fineOf", "(II)I"⟩) ∈ lw_all := lw_g (lw_at lw_ms 42 rfl) rfl
theorem qs43 : (Cond.selects "MustardFastModel" ⟨"MustardFastModel", "planBy", "(II)I"⟩ ⟨"MustardFastModel", "planBy", "(II)I"⟩) ∈ lw_all := lw_g (lw_at lw_ms 43 rfl) rfl
theorem qs44 : (Cond.selects "MustardFastModel" ⟨"MustardFastModel", "bestOf", "(I)I"⟩ ⟨"MustardFastModel", "bestOf", "(I)I"⟩) ∈ lw_all := lw_g (lw_at lw_ms 44 rfl) rfl
theorem qs45 : (Cond.selects "MustardFastModel" ⟨"MustardFastModel", "villageNow", "()I"⟩ ⟨"MustardFastModel", "villageNow", "()I"⟩) ∈ lw_all := lw_g (lw_at lw_ms 45 rfl) rfl
theorem qs46 : (Cond.selects "MustardFastModel" ⟨"MustardFastModel", "areSo", "()Z"⟩ ⟨"MustardFastModel", "areSo", "()Z"⟩) ∈ lw_all := lw_g (lw_at lw_ms 46 rfl) rfl
theorem qs47 : (Cond.selects "MustardFastModel" ⟨"MustardFastModel", "noCell", "(II)I"⟩ ⟨"MustardFastModel", "noCell", "(II)I"⟩) ∈ lw_all := lw_g (lw_at lw_ms 47 rfl) rfl
theorem qs48 : (Cond.selects "MustardFastModel" ⟨"MustardFastModel", "failedLong", "(I)J"⟩ ⟨"MustardFastModel", "failedLong", "(I)J"⟩) ∈ lw_all := lw_g (lw_at lw_ms 48 rfl) rfl
theorem qs49 : (Cond.selects "MustardFastModel" ⟨"MustardFastModel", "traced", "(I)V"⟩ ⟨"MustardFastModel", "traced", "(I)V"⟩) ∈ lw_all := lw_g (lw_at lw_ms 49 rfl) rfl
