-- ===== PART A: goes FIRST, ahead of the names: the tables' words, and 'selects' of the private methods out of them =====
/-- a private method of a class that the tables say can be made, by its rows of tables_1 -/
def lw_okq (q : MethodName × Nat) : Prop := (q.1.cls ≠ "java/lang/invoke/MethodHandle" ∧ q.1.cls ≠ "java/lang/invoke/VarHandle") ∧ Cond.instantiable q.1.cls q.2 ∈ tables_1 ∧ Cond.privateMethod q.1 ∈ tables_1 ∧ Cond.instanceMethod q.1 ∈ tables_1
set_option maxRecDepth 100000
theorem lw_t1 {w : Cond} (h : w ∈ tables_1_1) : w ∈ tables_1 := List.mem_append_left _ h
theorem lw_t2 {w : Cond} (h : w ∈ tables_1_2) : w ∈ tables_1 := List.mem_append_right _ (List.mem_append_left _ h)
theorem lw_t3 {w : Cond} (h : w ∈ tables_1_3) : w ∈ tables_1 := List.mem_append_right _ (List.mem_append_right _ (List.mem_append_left _ h))
theorem lw_t4 {w : Cond} (h : w ∈ tables_1_4) : w ∈ tables_1 := List.mem_append_right _ (List.mem_append_right _ (List.mem_append_right _ (List.mem_append_left _ h)))
theorem lw_t5 {w : Cond} (h : w ∈ tables_1_5) : w ∈ tables_1 := List.mem_append_right _ (List.mem_append_right _ (List.mem_append_right _ (List.mem_append_right _ (List.mem_append_left _ h))))
theorem lw_t6 {w : Cond} (h : w ∈ tables_1_6) : w ∈ tables_1 := List.mem_append_right _ (List.mem_append_right _ (List.mem_append_right _ (List.mem_append_right _ (List.mem_append_right _ (List.mem_append_left _ h)))))
theorem lw_t7 {w : Cond} (h : w ∈ tables_1_7) : w ∈ tables_1 := List.mem_append_right _ (List.mem_append_right _ (List.mem_append_right _ (List.mem_append_right _ (List.mem_append_right _ (List.mem_append_right _ h)))))
theorem lw_p0 : lw_okq (⟨"OneElastic", "comes", "(IIIII)V"⟩, 16) := ⟨⟨by decide +kernel, by decide +kernel⟩, lw_t1 (List.mem_of_getElem? (i := 48) rfl), lw_t1 (List.mem_of_getElem? (i := 46) rfl), lw_t1 (List.mem_of_getElem? (i := 47) rfl)⟩
theorem lw_p1 : lw_okq (⟨"OneElastic", "settles", "(LOneElastic$Town;)I"⟩, 16) := ⟨⟨by decide +kernel, by decide +kernel⟩, lw_t1 (List.mem_of_getElem? (i := 48) rfl), lw_t1 (List.mem_of_getElem? (i := 62) rfl), lw_t1 (List.mem_of_getElem? (i := 63) rfl)⟩
theorem lw_p2 : lw_okq (⟨"OneElastic$Town", "pulls", "(II)V"⟩, 14) := ⟨⟨by decide +kernel, by decide +kernel⟩, lw_t1 (List.mem_of_getElem? (i := 80) rfl), lw_t1 (List.mem_of_getElem? (i := 78) rfl), lw_t1 (List.mem_of_getElem? (i := 79) rfl)⟩
theorem lw_p3 : lw_okq (⟨"OneElastic", "tears", "(LOneElastic$Town;I)V"⟩, 16) := ⟨⟨by decide +kernel, by decide +kernel⟩, lw_t1 (List.mem_of_getElem? (i := 48) rfl), lw_t1 (List.mem_of_getElem? (i := 83) rfl), lw_t1 (List.mem_of_getElem? (i := 84) rfl)⟩
theorem lw_p4 : lw_okq (⟨"OneElastic$Town", "belowRight", "(I)I"⟩, 14) := ⟨⟨by decide +kernel, by decide +kernel⟩, lw_t1 (List.mem_of_getElem? (i := 80) rfl), lw_t1 (List.mem_of_getElem? (i := 92) rfl), lw_t1 (List.mem_of_getElem? (i := 93) rfl)⟩
theorem lw_p5 : lw_okq (⟨"OneElastic", "isPerson", "(I)Z"⟩, 16) := ⟨⟨by decide +kernel, by decide +kernel⟩, lw_t1 (List.mem_of_getElem? (i := 48) rfl), lw_t1 (List.mem_of_getElem? (i := 166) rfl), lw_t1 (List.mem_of_getElem? (i := 167) rfl)⟩
theorem lw_p6 : lw_okq (⟨"OneElastic", "isSeam", "(I)Z"⟩, 16) := ⟨⟨by decide +kernel, by decide +kernel⟩, lw_t1 (List.mem_of_getElem? (i := 48) rfl), lw_t1 (List.mem_of_getElem? (i := 224) rfl), lw_t1 (List.mem_of_getElem? (i := 225) rfl)⟩
theorem lw_p7 : lw_okq (⟨"OneElastic", "taut", "()I"⟩, 16) := ⟨⟨by decide +kernel, by decide +kernel⟩, lw_t1 (List.mem_of_getElem? (i := 48) rfl), lw_t1 (List.mem_of_getElem? (i := 237) rfl), lw_t1 (List.mem_of_getElem? (i := 238) rfl)⟩
theorem lw_p8 : lw_okq (⟨"OneElastic", "number", "(II)I"⟩, 16) := ⟨⟨by decide +kernel, by decide +kernel⟩, lw_t1 (List.mem_of_getElem? (i := 48) rfl), lw_t2 (List.mem_of_getElem? (i := 26) rfl), lw_t2 (List.mem_of_getElem? (i := 27) rfl)⟩
theorem lw_p9 : lw_okq (⟨"OneElastic", "here", "()I"⟩, 16) := ⟨⟨by decide +kernel, by decide +kernel⟩, lw_t1 (List.mem_of_getElem? (i := 48) rfl), lw_t2 (List.mem_of_getElem? (i := 30) rfl), lw_t2 (List.mem_of_getElem? (i := 31) rfl)⟩
theorem lw_p10 : lw_okq (⟨"java/lang/NullPointerException", "getExtendedNPEMessage", "()Ljava/lang/String;"⟩, 8) := ⟨⟨by decide +kernel, by decide +kernel⟩, lw_t2 (List.mem_of_getElem? (i := 75) rfl), lw_t2 (List.mem_of_getElem? (i := 73) rfl), lw_t2 (List.mem_of_getElem? (i := 74) rfl)⟩
theorem lw_p11 : lw_okq (⟨"java/lang/Throwable", "fillInStackTrace", "(I)Ljava/lang/Throwable;"⟩, 6) := ⟨⟨by decide +kernel, by decide +kernel⟩, lw_t2 (List.mem_of_getElem? (i := 87) rfl), lw_t2 (List.mem_of_getElem? (i := 85) rfl), lw_t2 (List.mem_of_getElem? (i := 86) rfl)⟩
theorem lw_p12 : lw_okq (⟨"OneElastic", "must", "(Z)V"⟩, 16) := ⟨⟨by decide +kernel, by decide +kernel⟩, lw_t1 (List.mem_of_getElem? (i := 48) rfl), lw_t2 (List.mem_of_getElem? (i := 114) rfl), lw_t2 (List.mem_of_getElem? (i := 115) rfl)⟩
theorem lw_p13 : lw_okq (⟨"OneElastic", "readsPeople", "()I"⟩, 16) := ⟨⟨by decide +kernel, by decide +kernel⟩, lw_t1 (List.mem_of_getElem? (i := 48) rfl), lw_t2 (List.mem_of_getElem? (i := 118) rfl), lw_t2 (List.mem_of_getElem? (i := 119) rfl)⟩
theorem lw_p14 : lw_okq (⟨"OneElastic", "readsPerson", "(I)V"⟩, 16) := ⟨⟨by decide +kernel, by decide +kernel⟩, lw_t1 (List.mem_of_getElem? (i := 48) rfl), lw_t2 (List.mem_of_getElem? (i := 122) rfl), lw_t2 (List.mem_of_getElem? (i := 123) rfl)⟩
theorem lw_p15 : lw_okq (⟨"OneElastic", "notes", "()V"⟩, 16) := ⟨⟨by decide +kernel, by decide +kernel⟩, lw_t1 (List.mem_of_getElem? (i := 48) rfl), lw_t2 (List.mem_of_getElem? (i := 218) rfl), lw_t2 (List.mem_of_getElem? (i := 219) rfl)⟩
def lw_privs_1 : List (MethodName × Nat) := [(⟨"OneElastic", "comes", "(IIIII)V"⟩, 16), (⟨"OneElastic", "settles", "(LOneElastic$Town;)I"⟩, 16), (⟨"OneElastic$Town", "pulls", "(II)V"⟩, 14), (⟨"OneElastic", "tears", "(LOneElastic$Town;I)V"⟩, 16), (⟨"OneElastic$Town", "belowRight", "(I)I"⟩, 14), (⟨"OneElastic", "isPerson", "(I)Z"⟩, 16), (⟨"OneElastic", "isSeam", "(I)Z"⟩, 16), (⟨"OneElastic", "taut", "()I"⟩, 16), (⟨"OneElastic", "number", "(II)I"⟩, 16), (⟨"OneElastic", "here", "()I"⟩, 16), (⟨"java/lang/NullPointerException", "getExtendedNPEMessage", "()Ljava/lang/String;"⟩, 8), (⟨"java/lang/Throwable", "fillInStackTrace", "(I)Ljava/lang/Throwable;"⟩, 6), (⟨"OneElastic", "must", "(Z)V"⟩, 16), (⟨"OneElastic", "readsPeople", "()I"⟩, 16), (⟨"OneElastic", "readsPerson", "(I)V"⟩, 16), (⟨"OneElastic", "notes", "()V"⟩, 16)]
theorem lw_r1 : ∀ q ∈ lw_privs_1, lw_okq q := List.forall_mem_cons.mpr ⟨lw_p0, List.forall_mem_cons.mpr ⟨lw_p1, List.forall_mem_cons.mpr ⟨lw_p2, List.forall_mem_cons.mpr ⟨lw_p3, List.forall_mem_cons.mpr ⟨lw_p4, List.forall_mem_cons.mpr ⟨lw_p5, List.forall_mem_cons.mpr ⟨lw_p6, List.forall_mem_cons.mpr ⟨lw_p7, List.forall_mem_cons.mpr ⟨lw_p8, List.forall_mem_cons.mpr ⟨lw_p9, List.forall_mem_cons.mpr ⟨lw_p10, List.forall_mem_cons.mpr ⟨lw_p11, List.forall_mem_cons.mpr ⟨lw_p12, List.forall_mem_cons.mpr ⟨lw_p13, List.forall_mem_cons.mpr ⟨lw_p14, List.forall_mem_cons.mpr ⟨lw_p15, fun _ h => absurd h List.not_mem_nil⟩⟩⟩⟩⟩⟩⟩⟩⟩⟩⟩⟩⟩⟩⟩⟩
theorem lw_p16 : lw_okq (⟨"java/util/ArrayDeque", "grow", "(I)V"⟩, 3) := ⟨⟨by decide +kernel, by decide +kernel⟩, lw_t3 (List.mem_of_getElem? (i := 95) rfl), lw_t3 (List.mem_of_getElem? (i := 93) rfl), lw_t3 (List.mem_of_getElem? (i := 94) rfl)⟩
theorem lw_p17 : lw_okq (⟨"java/util/ArrayDeque", "newCapacity", "(II)I"⟩, 3) := ⟨⟨by decide +kernel, by decide +kernel⟩, lw_t3 (List.mem_of_getElem? (i := 95) rfl), lw_t3 (List.mem_of_getElem? (i := 99) rfl), lw_t3 (List.mem_of_getElem? (i := 100) rfl)⟩
theorem lw_p18 : lw_okq (⟨"OneElastic", "springs", "()V"⟩, 16) := ⟨⟨by decide +kernel, by decide +kernel⟩, lw_t1 (List.mem_of_getElem? (i := 48) rfl), lw_t3 (List.mem_of_getElem? (i := 184) rfl), lw_t3 (List.mem_of_getElem? (i := 185) rfl)⟩
theorem lw_p19 : lw_okq (⟨"OneElastic", "tries", "()LOneElastic$Town;"⟩, 16) := ⟨⟨by decide +kernel, by decide +kernel⟩, lw_t1 (List.mem_of_getElem? (i := 48) rfl), lw_t3 (List.mem_of_getElem? (i := 224) rfl), lw_t3 (List.mem_of_getElem? (i := 225) rfl)⟩
theorem lw_p20 : lw_okq (⟨"OneElastic", "isStill", "(LOneElastic$Town;)Z"⟩, 16) := ⟨⟨by decide +kernel, by decide +kernel⟩, lw_t1 (List.mem_of_getElem? (i := 48) rfl), lw_t3 (List.mem_of_getElem? (i := 228) rfl), lw_t3 (List.mem_of_getElem? (i := 229) rfl)⟩
theorem lw_p21 : lw_okq (⟨"OneElastic", "comesTo", "(LOneElastic$Town;II)I"⟩, 16) := ⟨⟨by decide +kernel, by decide +kernel⟩, lw_t1 (List.mem_of_getElem? (i := 48) rfl), lw_t4 (List.mem_of_getElem? (i := 21) rfl), lw_t4 (List.mem_of_getElem? (i := 22) rfl)⟩
theorem lw_p22 : lw_okq (⟨"OneElastic", "mover", "(LOneElastic$Town;I)I"⟩, 16) := ⟨⟨by decide +kernel, by decide +kernel⟩, lw_t1 (List.mem_of_getElem? (i := 48) rfl), lw_t4 (List.mem_of_getElem? (i := 25) rfl), lw_t4 (List.mem_of_getElem? (i := 26) rfl)⟩
theorem lw_p23 : lw_okq (⟨"OneElastic", "copies", "(Ljava/util/ArrayDeque;Ljava/util/ArrayDeque;)V"⟩, 16) := ⟨⟨by decide +kernel, by decide +kernel⟩, lw_t1 (List.mem_of_getElem? (i := 48) rfl), lw_t4 (List.mem_of_getElem? (i := 40) rfl), lw_t4 (List.mem_of_getElem? (i := 41) rfl)⟩
theorem lw_p24 : lw_okq (⟨"OneElastic", "refusal", "(IIII)I"⟩, 16) := ⟨⟨by decide +kernel, by decide +kernel⟩, lw_t1 (List.mem_of_getElem? (i := 48) rfl), lw_t4 (List.mem_of_getElem? (i := 195) rfl), lw_t4 (List.mem_of_getElem? (i := 196) rfl)⟩
theorem lw_p25 : lw_okq (⟨"OneElastic", "looksAt", "(Ljava/lang/Object;III)V"⟩, 16) := ⟨⟨by decide +kernel, by decide +kernel⟩, lw_t1 (List.mem_of_getElem? (i := 48) rfl), lw_t4 (List.mem_of_getElem? (i := 199) rfl), lw_t4 (List.mem_of_getElem? (i := 200) rfl)⟩
theorem lw_p26 : lw_okq (⟨"OneElastic", "isSo", "(LOneElastic$Town;)Z"⟩, 16) := ⟨⟨by decide +kernel, by decide +kernel⟩, lw_t1 (List.mem_of_getElem? (i := 48) rfl), lw_t4 (List.mem_of_getElem? (i := 216) rfl), lw_t4 (List.mem_of_getElem? (i := 217) rfl)⟩
theorem lw_p27 : lw_okq (⟨"OneElastic", "gives", "(III)Z"⟩, 16) := ⟨⟨by decide +kernel, by decide +kernel⟩, lw_t1 (List.mem_of_getElem? (i := 48) rfl), lw_t4 (List.mem_of_getElem? (i := 224) rfl), lw_t4 (List.mem_of_getElem? (i := 225) rfl)⟩
theorem lw_p28 : lw_okq (⟨"OneElasticModel", "readsAll", "()Z"⟩, 21) := ⟨⟨by decide +kernel, by decide +kernel⟩, lw_t5 (List.mem_of_getElem? (i := 132) rfl), lw_t5 (List.mem_of_getElem? (i := 215) rfl), lw_t5 (List.mem_of_getElem? (i := 216) rfl)⟩
theorem lw_p29 : lw_okq (⟨"OneElasticModel", "takesNumber", "(III)Z"⟩, 21) := ⟨⟨by decide +kernel, by decide +kernel⟩, lw_t5 (List.mem_of_getElem? (i := 132) rfl), lw_t5 (List.mem_of_getElem? (i := 219) rfl), lw_t5 (List.mem_of_getElem? (i := 220) rfl)⟩
theorem lw_p30 : lw_okq (⟨"OneElasticModel", "blanks", "()V"⟩, 21) := ⟨⟨by decide +kernel, by decide +kernel⟩, lw_t5 (List.mem_of_getElem? (i := 132) rfl), lw_t5 (List.mem_of_getElem? (i := 223) rfl), lw_t5 (List.mem_of_getElem? (i := 224) rfl)⟩
theorem lw_p31 : lw_okq (⟨"OneElasticModel", "here", "()I"⟩, 21) := ⟨⟨by decide +kernel, by decide +kernel⟩, lw_t5 (List.mem_of_getElem? (i := 132) rfl), lw_t5 (List.mem_of_getElem? (i := 227) rfl), lw_t5 (List.mem_of_getElem? (i := 228) rfl)⟩
def lw_privs_2 : List (MethodName × Nat) := [(⟨"java/util/ArrayDeque", "grow", "(I)V"⟩, 3), (⟨"java/util/ArrayDeque", "newCapacity", "(II)I"⟩, 3), (⟨"OneElastic", "springs", "()V"⟩, 16), (⟨"OneElastic", "tries", "()LOneElastic$Town;"⟩, 16), (⟨"OneElastic", "isStill", "(LOneElastic$Town;)Z"⟩, 16), (⟨"OneElastic", "comesTo", "(LOneElastic$Town;II)I"⟩, 16), (⟨"OneElastic", "mover", "(LOneElastic$Town;I)I"⟩, 16), (⟨"OneElastic", "copies", "(Ljava/util/ArrayDeque;Ljava/util/ArrayDeque;)V"⟩, 16), (⟨"OneElastic", "refusal", "(IIII)I"⟩, 16), (⟨"OneElastic", "looksAt", "(Ljava/lang/Object;III)V"⟩, 16), (⟨"OneElastic", "isSo", "(LOneElastic$Town;)Z"⟩, 16), (⟨"OneElastic", "gives", "(III)Z"⟩, 16), (⟨"OneElasticModel", "readsAll", "()Z"⟩, 21), (⟨"OneElasticModel", "takesNumber", "(III)Z"⟩, 21), (⟨"OneElasticModel", "blanks", "()V"⟩, 21), (⟨"OneElasticModel", "here", "()I"⟩, 21)]
theorem lw_r2 : ∀ q ∈ lw_privs_2, lw_okq q := List.forall_mem_cons.mpr ⟨lw_p16, List.forall_mem_cons.mpr ⟨lw_p17, List.forall_mem_cons.mpr ⟨lw_p18, List.forall_mem_cons.mpr ⟨lw_p19, List.forall_mem_cons.mpr ⟨lw_p20, List.forall_mem_cons.mpr ⟨lw_p21, List.forall_mem_cons.mpr ⟨lw_p22, List.forall_mem_cons.mpr ⟨lw_p23, List.forall_mem_cons.mpr ⟨lw_p24, List.forall_mem_cons.mpr ⟨lw_p25, List.forall_mem_cons.mpr ⟨lw_p26, List.forall_mem_cons.mpr ⟨lw_p27, List.forall_mem_cons.mpr ⟨lw_p28, List.forall_mem_cons.mpr ⟨lw_p29, List.forall_mem_cons.mpr ⟨lw_p30, List.forall_mem_cons.mpr ⟨lw_p31, fun _ h => absurd h List.not_mem_nil⟩⟩⟩⟩⟩⟩⟩⟩⟩⟩⟩⟩⟩⟩⟩⟩
theorem lw_p32 : lw_okq (⟨"OneElasticModel", "takes", "(I)Z"⟩, 21) := ⟨⟨by decide +kernel, by decide +kernel⟩, lw_t5 (List.mem_of_getElem? (i := 132) rfl), lw_t5 (List.mem_of_getElem? (i := 233) rfl), lw_t5 (List.mem_of_getElem? (i := 234) rfl)⟩
theorem lw_p33 : lw_okq (⟨"OneElasticModel", "takesPerson", "()Z"⟩, 21) := ⟨⟨by decide +kernel, by decide +kernel⟩, lw_t5 (List.mem_of_getElem? (i := 132) rfl), lw_t5 (List.mem_of_getElem? (i := 237) rfl), lw_t5 (List.mem_of_getElem? (i := 238) rfl)⟩
theorem lw_p34 : lw_okq (⟨"OneElasticModel", "takesSeam", "()Z"⟩, 21) := ⟨⟨by decide +kernel, by decide +kernel⟩, lw_t5 (List.mem_of_getElem? (i := 132) rfl), lw_t6 (List.mem_of_getElem? (i := 4) rfl), lw_t6 (List.mem_of_getElem? (i := 5) rfl)⟩
theorem lw_p35 : lw_okq (⟨"OneElasticModel", "settles", "(I)V"⟩, 21) := ⟨⟨by decide +kernel, by decide +kernel⟩, lw_t5 (List.mem_of_getElem? (i := 132) rfl), lw_t6 (List.mem_of_getElem? (i := 8) rfl), lw_t6 (List.mem_of_getElem? (i := 9) rfl)⟩
theorem lw_p36 : lw_okq (⟨"OneElasticModel", "layPulls", "(I)V"⟩, 21) := ⟨⟨by decide +kernel, by decide +kernel⟩, lw_t5 (List.mem_of_getElem? (i := 132) rfl), lw_t6 (List.mem_of_getElem? (i := 12) rfl), lw_t6 (List.mem_of_getElem? (i := 13) rfl)⟩
theorem lw_p37 : lw_okq (⟨"OneElasticModel", "holds", "(II)Z"⟩, 21) := ⟨⟨by decide +kernel, by decide +kernel⟩, lw_t5 (List.mem_of_getElem? (i := 132) rfl), lw_t6 (List.mem_of_getElem? (i := 16) rfl), lw_t6 (List.mem_of_getElem? (i := 17) rfl)⟩
theorem lw_p38 : lw_okq (⟨"OneElasticModel", "nextRight", "(II)I"⟩, 21) := ⟨⟨by decide +kernel, by decide +kernel⟩, lw_t5 (List.mem_of_getElem? (i := 132) rfl), lw_t6 (List.mem_of_getElem? (i := 20) rfl), lw_t6 (List.mem_of_getElem? (i := 21) rfl)⟩
theorem lw_p39 : lw_okq (⟨"OneElasticModel", "sumOf", "(III)I"⟩, 21) := ⟨⟨by decide +kernel, by decide +kernel⟩, lw_t5 (List.mem_of_getElem? (i := 132) rfl), lw_t6 (List.mem_of_getElem? (i := 24) rfl), lw_t6 (List.mem_of_getElem? (i := 25) rfl)⟩
theorem lw_p40 : lw_okq (⟨"OneElasticModel", "tornSeam", "(I)I"⟩, 21) := ⟨⟨by decide +kernel, by decide +kernel⟩, lw_t5 (List.mem_of_getElem? (i := 132) rfl), lw_t6 (List.mem_of_getElem? (i := 28) rfl), lw_t6 (List.mem_of_getElem? (i := 29) rfl)⟩
theorem lw_p41 : lw_okq (⟨"OneElasticModel", "cuts", "(II)V"⟩, 21) := ⟨⟨by decide +kernel, by decide +kernel⟩, lw_t5 (List.mem_of_getElem? (i := 132) rfl), lw_t6 (List.mem_of_getElem? (i := 32) rfl), lw_t6 (List.mem_of_getElem? (i := 33) rfl)⟩
theorem lw_p42 : lw_okq (⟨"OneElasticModel", "isPulledOff", "(II)Z"⟩, 21) := ⟨⟨by decide +kernel, by decide +kernel⟩, lw_t5 (List.mem_of_getElem? (i := 132) rfl), lw_t6 (List.mem_of_getElem? (i := 36) rfl), lw_t6 (List.mem_of_getElem? (i := 37) rfl)⟩
theorem lw_p43 : lw_okq (⟨"OneElasticModel", "layPulled", "(II)V"⟩, 21) := ⟨⟨by decide +kernel, by decide +kernel⟩, lw_t5 (List.mem_of_getElem? (i := 132) rfl), lw_t6 (List.mem_of_getElem? (i := 40) rfl), lw_t6 (List.mem_of_getElem? (i := 41) rfl)⟩
theorem lw_p44 : lw_okq (⟨"OneElasticModel", "outOf", "(II)I"⟩, 21) := ⟨⟨by decide +kernel, by decide +kernel⟩, lw_t5 (List.mem_of_getElem? (i := 132) rfl), lw_t6 (List.mem_of_getElem? (i := 44) rfl), lw_t6 (List.mem_of_getElem? (i := 45) rfl)⟩
theorem lw_p45 : lw_okq (⟨"OneElasticModel", "isPerson", "(I)Z"⟩, 21) := ⟨⟨by decide +kernel, by decide +kernel⟩, lw_t5 (List.mem_of_getElem? (i := 132) rfl), lw_t6 (List.mem_of_getElem? (i := 72) rfl), lw_t6 (List.mem_of_getElem? (i := 73) rfl)⟩
theorem lw_p46 : lw_okq (⟨"OneElasticModel", "sideOf", "(I)I"⟩, 21) := ⟨⟨by decide +kernel, by decide +kernel⟩, lw_t5 (List.mem_of_getElem? (i := 132) rfl), lw_t6 (List.mem_of_getElem? (i := 76) rfl), lw_t6 (List.mem_of_getElem? (i := 77) rfl)⟩
theorem lw_p47 : lw_okq (⟨"OneElasticModel", "layPlace", "(II)V"⟩, 21) := ⟨⟨by decide +kernel, by decide +kernel⟩, lw_t5 (List.mem_of_getElem? (i := 132) rfl), lw_t6 (List.mem_of_getElem? (i := 84) rfl), lw_t6 (List.mem_of_getElem? (i := 85) rfl)⟩
def lw_privs_3 : List (MethodName × Nat) := [(⟨"OneElasticModel", "takes", "(I)Z"⟩, 21), (⟨"OneElasticModel", "takesPerson", "()Z"⟩, 21), (⟨"OneElasticModel", "takesSeam", "()Z"⟩, 21), (⟨"OneElasticModel", "settles", "(I)V"⟩, 21), (⟨"OneElasticModel", "layPulls", "(I)V"⟩, 21), (⟨"OneElasticModel", "holds", "(II)Z"⟩, 21), (⟨"OneElasticModel", "nextRight", "(II)I"⟩, 21), (⟨"OneElasticModel", "sumOf", "(III)I"⟩, 21), (⟨"OneElasticModel", "tornSeam", "(I)I"⟩, 21), (⟨"OneElasticModel", "cuts", "(II)V"⟩, 21), (⟨"OneElasticModel", "isPulledOff", "(II)Z"⟩, 21), (⟨"OneElasticModel", "layPulled", "(II)V"⟩, 21), (⟨"OneElasticModel", "outOf", "(II)I"⟩, 21), (⟨"OneElasticModel", "isPerson", "(I)Z"⟩, 21), (⟨"OneElasticModel", "sideOf", "(I)I"⟩, 21), (⟨"OneElasticModel", "layPlace", "(II)V"⟩, 21)]
theorem lw_r3 : ∀ q ∈ lw_privs_3, lw_okq q := List.forall_mem_cons.mpr ⟨lw_p32, List.forall_mem_cons.mpr ⟨lw_p33, List.forall_mem_cons.mpr ⟨lw_p34, List.forall_mem_cons.mpr ⟨lw_p35, List.forall_mem_cons.mpr ⟨lw_p36, List.forall_mem_cons.mpr ⟨lw_p37, List.forall_mem_cons.mpr ⟨lw_p38, List.forall_mem_cons.mpr ⟨lw_p39, List.forall_mem_cons.mpr ⟨lw_p40, List.forall_mem_cons.mpr ⟨lw_p41, List.forall_mem_cons.mpr ⟨lw_p42, List.forall_mem_cons.mpr ⟨lw_p43, List.forall_mem_cons.mpr ⟨lw_p44, List.forall_mem_cons.mpr ⟨lw_p45, List.forall_mem_cons.mpr ⟨lw_p46, List.forall_mem_cons.mpr ⟨lw_p47, fun _ h => absurd h List.not_mem_nil⟩⟩⟩⟩⟩⟩⟩⟩⟩⟩⟩⟩⟩⟩⟩⟩
theorem lw_p48 : lw_okq (⟨"OneElasticModel", "nextLeft", "(II)I"⟩, 21) := ⟨⟨by decide +kernel, by decide +kernel⟩, lw_t5 (List.mem_of_getElem? (i := 132) rfl), lw_t6 (List.mem_of_getElem? (i := 88) rfl), lw_t6 (List.mem_of_getElem? (i := 89) rfl)⟩
theorem lw_p49 : lw_okq (⟨"OneElasticModel", "isSeam", "(I)Z"⟩, 21) := ⟨⟨by decide +kernel, by decide +kernel⟩, lw_t5 (List.mem_of_getElem? (i := 132) rfl), lw_t6 (List.mem_of_getElem? (i := 106) rfl), lw_t6 (List.mem_of_getElem? (i := 107) rfl)⟩
theorem lw_p50 : lw_okq (⟨"OneElasticModel", "holding", "(I)I"⟩, 21) := ⟨⟨by decide +kernel, by decide +kernel⟩, lw_t5 (List.mem_of_getElem? (i := 132) rfl), lw_t6 (List.mem_of_getElem? (i := 119) rfl), lw_t6 (List.mem_of_getElem? (i := 120) rfl)⟩
theorem lw_p51 : lw_okq (⟨"OneElasticModel", "cutOnes", "(I)I"⟩, 21) := ⟨⟨by decide +kernel, by decide +kernel⟩, lw_t5 (List.mem_of_getElem? (i := 132) rfl), lw_t6 (List.mem_of_getElem? (i := 123) rfl), lw_t6 (List.mem_of_getElem? (i := 124) rfl)⟩
theorem lw_p52 : lw_okq (⟨"OneElasticModel", "tautOnes", "()I"⟩, 21) := ⟨⟨by decide +kernel, by decide +kernel⟩, lw_t5 (List.mem_of_getElem? (i := 132) rfl), lw_t6 (List.mem_of_getElem? (i := 127) rfl), lw_t6 (List.mem_of_getElem? (i := 128) rfl)⟩
theorem lw_p53 : lw_okq (⟨"OneElasticModel", "greatestCut", "(I)I"⟩, 21) := ⟨⟨by decide +kernel, by decide +kernel⟩, lw_t5 (List.mem_of_getElem? (i := 132) rfl), lw_t6 (List.mem_of_getElem? (i := 131) rfl), lw_t6 (List.mem_of_getElem? (i := 132) rfl)⟩
theorem lw_p54 : lw_okq (⟨"OneElasticModel", "greatest", "(I)I"⟩, 21) := ⟨⟨by decide +kernel, by decide +kernel⟩, lw_t5 (List.mem_of_getElem? (i := 132) rfl), lw_t6 (List.mem_of_getElem? (i := 135) rfl), lw_t6 (List.mem_of_getElem? (i := 136) rfl)⟩
theorem lw_p55 : lw_okq (⟨"OneElasticModel", "mayGo", "(III)Z"⟩, 21) := ⟨⟨by decide +kernel, by decide +kernel⟩, lw_t5 (List.mem_of_getElem? (i := 132) rfl), lw_t6 (List.mem_of_getElem? (i := 144) rfl), lw_t6 (List.mem_of_getElem? (i := 145) rfl)⟩
theorem lw_p56 : lw_okq (⟨"OneElasticModel", "minds", "()V"⟩, 21) := ⟨⟨by decide +kernel, by decide +kernel⟩, lw_t5 (List.mem_of_getElem? (i := 132) rfl), lw_t6 (List.mem_of_getElem? (i := 148) rfl), lw_t6 (List.mem_of_getElem? (i := 149) rfl)⟩
theorem lw_p57 : lw_okq (⟨"OneElasticModel", "takesHold", "(II)V"⟩, 21) := ⟨⟨by decide +kernel, by decide +kernel⟩, lw_t5 (List.mem_of_getElem? (i := 132) rfl), lw_t6 (List.mem_of_getElem? (i := 160) rfl), lw_t6 (List.mem_of_getElem? (i := 161) rfl)⟩
theorem lw_p58 : lw_okq (⟨"OneElasticModel", "hourOf", "(I)V"⟩, 21) := ⟨⟨by decide +kernel, by decide +kernel⟩, lw_t5 (List.mem_of_getElem? (i := 132) rfl), lw_t6 (List.mem_of_getElem? (i := 178) rfl), lw_t6 (List.mem_of_getElem? (i := 179) rfl)⟩
theorem lw_p59 : lw_okq (⟨"OneElasticModel", "springsOnce", "()V"⟩, 21) := ⟨⟨by decide +kernel, by decide +kernel⟩, lw_t5 (List.mem_of_getElem? (i := 132) rfl), lw_t6 (List.mem_of_getElem? (i := 187) rfl), lw_t6 (List.mem_of_getElem? (i := 188) rfl)⟩
theorem lw_p60 : lw_okq (⟨"OneElasticModel", "tries", "()V"⟩, 21) := ⟨⟨by decide +kernel, by decide +kernel⟩, lw_t5 (List.mem_of_getElem? (i := 132) rfl), lw_t6 (List.mem_of_getElem? (i := 209) rfl), lw_t6 (List.mem_of_getElem? (i := 210) rfl)⟩
theorem lw_p61 : lw_okq (⟨"OneElasticModel", "plays", "(II)Z"⟩, 21) := ⟨⟨by decide +kernel, by decide +kernel⟩, lw_t5 (List.mem_of_getElem? (i := 132) rfl), lw_t6 (List.mem_of_getElem? (i := 238) rfl), lw_t6 (List.mem_of_getElem? (i := 239) rfl)⟩
theorem lw_p62 : lw_okq (⟨"OneElasticModel", "firstHolding", "()I"⟩, 21) := ⟨⟨by decide +kernel, by decide +kernel⟩, lw_t5 (List.mem_of_getElem? (i := 132) rfl), lw_t7 (List.mem_of_getElem? (i := 2) rfl), lw_t7 (List.mem_of_getElem? (i := 3) rfl)⟩
theorem lw_p63 : lw_okq (⟨"OneElasticModel", "lastHolding", "()I"⟩, 21) := ⟨⟨by decide +kernel, by decide +kernel⟩, lw_t5 (List.mem_of_getElem? (i := 132) rfl), lw_t7 (List.mem_of_getElem? (i := 6) rfl), lw_t7 (List.mem_of_getElem? (i := 7) rfl)⟩
def lw_privs_4 : List (MethodName × Nat) := [(⟨"OneElasticModel", "nextLeft", "(II)I"⟩, 21), (⟨"OneElasticModel", "isSeam", "(I)Z"⟩, 21), (⟨"OneElasticModel", "holding", "(I)I"⟩, 21), (⟨"OneElasticModel", "cutOnes", "(I)I"⟩, 21), (⟨"OneElasticModel", "tautOnes", "()I"⟩, 21), (⟨"OneElasticModel", "greatestCut", "(I)I"⟩, 21), (⟨"OneElasticModel", "greatest", "(I)I"⟩, 21), (⟨"OneElasticModel", "mayGo", "(III)Z"⟩, 21), (⟨"OneElasticModel", "minds", "()V"⟩, 21), (⟨"OneElasticModel", "takesHold", "(II)V"⟩, 21), (⟨"OneElasticModel", "hourOf", "(I)V"⟩, 21), (⟨"OneElasticModel", "springsOnce", "()V"⟩, 21), (⟨"OneElasticModel", "tries", "()V"⟩, 21), (⟨"OneElasticModel", "plays", "(II)Z"⟩, 21), (⟨"OneElasticModel", "firstHolding", "()I"⟩, 21), (⟨"OneElasticModel", "lastHolding", "()I"⟩, 21)]
theorem lw_r4 : ∀ q ∈ lw_privs_4, lw_okq q := List.forall_mem_cons.mpr ⟨lw_p48, List.forall_mem_cons.mpr ⟨lw_p49, List.forall_mem_cons.mpr ⟨lw_p50, List.forall_mem_cons.mpr ⟨lw_p51, List.forall_mem_cons.mpr ⟨lw_p52, List.forall_mem_cons.mpr ⟨lw_p53, List.forall_mem_cons.mpr ⟨lw_p54, List.forall_mem_cons.mpr ⟨lw_p55, List.forall_mem_cons.mpr ⟨lw_p56, List.forall_mem_cons.mpr ⟨lw_p57, List.forall_mem_cons.mpr ⟨lw_p58, List.forall_mem_cons.mpr ⟨lw_p59, List.forall_mem_cons.mpr ⟨lw_p60, List.forall_mem_cons.mpr ⟨lw_p61, List.forall_mem_cons.mpr ⟨lw_p62, List.forall_mem_cons.mpr ⟨lw_p63, fun _ h => absurd h List.not_mem_nil⟩⟩⟩⟩⟩⟩⟩⟩⟩⟩⟩⟩⟩⟩⟩⟩
theorem lw_p64 : lw_okq (⟨"OneElasticModel", "takesBest", "(IZ)V"⟩, 21) := ⟨⟨by decide +kernel, by decide +kernel⟩, lw_t5 (List.mem_of_getElem? (i := 132) rfl), lw_t7 (List.mem_of_getElem? (i := 10) rfl), lw_t7 (List.mem_of_getElem? (i := 11) rfl)⟩
theorem lw_p65 : lw_okq (⟨"OneElasticModel", "seams", "()I"⟩, 21) := ⟨⟨by decide +kernel, by decide +kernel⟩, lw_t5 (List.mem_of_getElem? (i := 132) rfl), lw_t7 (List.mem_of_getElem? (i := 33) rfl), lw_t7 (List.mem_of_getElem? (i := 34) rfl)⟩
theorem lw_p66 : lw_okq (⟨"OneElasticModel", "against", "(IIII)I"⟩, 21) := ⟨⟨by decide +kernel, by decide +kernel⟩, lw_t5 (List.mem_of_getElem? (i := 132) rfl), lw_t7 (List.mem_of_getElem? (i := 37) rfl), lw_t7 (List.mem_of_getElem? (i := 38) rfl)⟩
theorem lw_p67 : lw_okq (⟨"OneElasticModel", "pullsSo", "(I)Z"⟩, 21) := ⟨⟨by decide +kernel, by decide +kernel⟩, lw_t5 (List.mem_of_getElem? (i := 132) rfl), lw_t7 (List.mem_of_getElem? (i := 41) rfl), lw_t7 (List.mem_of_getElem? (i := 42) rfl)⟩
theorem lw_p68 : lw_okq (⟨"OneElasticModel", "givesSo", "(IIII)Z"⟩, 21) := ⟨⟨by decide +kernel, by decide +kernel⟩, lw_t5 (List.mem_of_getElem? (i := 132) rfl), lw_t7 (List.mem_of_getElem? (i := 49) rfl), lw_t7 (List.mem_of_getElem? (i := 50) rfl)⟩
def lw_privs_5 : List (MethodName × Nat) := [(⟨"OneElasticModel", "takesBest", "(IZ)V"⟩, 21), (⟨"OneElasticModel", "seams", "()I"⟩, 21), (⟨"OneElasticModel", "against", "(IIII)I"⟩, 21), (⟨"OneElasticModel", "pullsSo", "(I)Z"⟩, 21), (⟨"OneElasticModel", "givesSo", "(IIII)Z"⟩, 21)]
theorem lw_r5 : ∀ q ∈ lw_privs_5, lw_okq q := List.forall_mem_cons.mpr ⟨lw_p64, List.forall_mem_cons.mpr ⟨lw_p65, List.forall_mem_cons.mpr ⟨lw_p66, List.forall_mem_cons.mpr ⟨lw_p67, List.forall_mem_cons.mpr ⟨lw_p68, fun _ h => absurd h List.not_mem_nil⟩⟩⟩⟩⟩
def lw_privs : List (MethodName × Nat) := lw_privs_1 ++ (lw_privs_2 ++ (lw_privs_3 ++ (lw_privs_4 ++ (lw_privs_5))))
def lw_tbl : List Cond := k2_sels lw_privs ++ tables_1
theorem lw_privs_ok : ∀ q ∈ lw_privs, lw_okq q := by
  show ∀ q ∈ lw_privs_1 ++ (lw_privs_2 ++ (lw_privs_3 ++ (lw_privs_4 ++ (lw_privs_5)))), lw_okq q
  exact List.forall_mem_append.mpr ⟨lw_r1, List.forall_mem_append.mpr ⟨lw_r2, List.forall_mem_append.mpr ⟨lw_r3, List.forall_mem_append.mpr ⟨lw_r4, lw_r5⟩⟩⟩⟩
-- ===== ONE list of words for every method: the tables' words that hold all through a run =====
def lw_all : List Cond := lw_tbl.filter goodWord
/-- a word of the tables by its place: claim/WORDS.tsv -/
theorem lw_w {w : Cond} (i : Nat) (h : lw_tbl[i]? = some w) (g : goodWord w = true) : w ∈ lw_all := List.mem_filter.mpr ⟨List.mem_of_getElem? h, g⟩
theorem lw_all_tbl {w : Cond} (h : w ∈ lw_all) : w ∈ lw_tbl := (List.mem_filter.mp h).1
theorem lw_self : GoodIn lw_all lw_all := fun w h => ⟨h, good_of_word (List.mem_filter.mp h).2⟩
/-- a class's field words, by their places -/
theorem lw_in (ws : List Cond) (ps : List Nat) (hp : ws = ps.filterMap (fun i => lw_tbl[i]?)) (hg : ws.all goodWord = true) : ∀ w ∈ ws, w ∈ lw_all := by
  intro w h
  have h1 := List.all_eq_true.mp hg w h
  rw [hp] at h
  obtain ⟨i, -, hi⟩ := List.mem_filterMap.mp h
  exact lw_w i hi h1
/-- the words of a contract for the method y with code b, L locals, answer r -/
abbrev ws_ (y : MethodName) (b : ByteArray) (L : Nat) (r : Option FieldType) : List Cond := Cond.code y b L r :: lw_all
theorem lw_meth {y : MethodName} {b : ByteArray} {L : Nat} {r : Option FieldType} (h : Cond.code y b L r ∈ lw_all) : GoodIn lw_all (ws_ y b L r) := by
  intro w hw
  rcases List.mem_cons.mp hw with e | e
  · rw [e]
    exact lw_self _ h
  · exact lw_self _ e
theorem lw_app {a c : List Cond} (ha : ∀ w ∈ a, w ∈ lw_all) (hc : GoodIn lw_all c) : GoodIn lw_all (a ++ c) := by
  intro w hw
  rcases List.mem_append.mp hw with e | e
  · exact lw_self w (ha w e)
  · exact hc w e
/-- what a call through an object asks: cwV n hts (lw_V ..) -/
theorem lw_V {own : String} {idx : Nat} {C : String} {y : MethodName} {b : ByteArray} {L : Nat} {r : Option FieldType} (h1 : Cond.methodLink own idx y ∈ lw_all) (h2 : Cond.instanceMethod y ∈ lw_all) (h3 : Cond.selects C y y ∈ lw_all) (h4 : Cond.initialized C ∈ lw_all) (h5 : Cond.code y b L r ∈ lw_all) : GoodIn lw_all (wsV own idx C y (ws_ y b L r)) := by
  refine lw_app ?_ (lw_meth h5)
  intro w hw
  simp only [List.mem_cons, List.not_mem_nil, or_false] at hw
  rcases hw with e | e | e | e
  · rw [e]; exact h1
  · rw [e]; exact h2
  · rw [e]; exact h3
  · rw [e]; exact h4
/-- what a static call asks: va_cwS n hts (lw_S ..) -/
theorem lw_S {own : String} {idx : Nat} {y : MethodName} {b : ByteArray} {L : Nat} {r : Option FieldType} (h1 : Cond.methodLink own idx y ∈ lw_all) (h2 : Cond.static y ∈ lw_all) (h3 : Cond.initialized y.cls ∈ lw_all) (h4 : Cond.code y b L r ∈ lw_all) : GoodIn lw_all (va_wsS own idx y (ws_ y b L r)) := by
  refine lw_app ?_ (lw_meth h4)
  intro w hw
  simp only [List.mem_cons, List.not_mem_nil, or_false] at hw
  rcases hw with e | e | e
  · rw [e]; exact h1
  · rw [e]; exact h2
  · rw [e]; exact h3
/-- the words of a contract for a method WITH HANDLERS (hh: its table) -/
abbrev wsW_ (y : MethodName) (b : ByteArray) (L : Nat) (r : Option FieldType) (hh : List (Nat × Nat × Nat × Nat)) : List Cond := Cond.codeWith y b L r hh :: lw_all
theorem lw_methW {y : MethodName} {b : ByteArray} {L : Nat} {r : Option FieldType} {hh : List (Nat × Nat × Nat × Nat)} (h : Cond.codeWith y b L r hh ∈ lw_all) : GoodIn lw_all (wsW_ y b L r hh) := by
  intro w hw
  rcases List.mem_cons.mp hw with e | e
  · rw [e]
    exact lw_self _ h
  · exact lw_self _ e
/-- any list of words by their places (lw_in), good -/
theorem lw_good {ws : List Cond} (h : ∀ w ∈ ws, w ∈ lw_all) : GoodIn lw_all ws := fun w hw => lw_self w (h w hw)
/-- what a call of a method with handlers asks: vx_cwVW n hts (lw_VW ..), vx_cwSW n hts (lw_SW ..) -/
theorem lw_VW {own : String} {idx : Nat} {C : String} {y : MethodName} {b : ByteArray} {L : Nat} {r : Option FieldType} {hh : List (Nat × Nat × Nat × Nat)} (h1 : Cond.methodLink own idx y ∈ lw_all) (h2 : Cond.instanceMethod y ∈ lw_all) (h3 : Cond.selects C y y ∈ lw_all) (h4 : Cond.initialized C ∈ lw_all) (h5 : Cond.codeWith y b L r hh ∈ lw_all) : GoodIn lw_all (wsV own idx C y (wsW_ y b L r hh)) := by
  refine lw_app ?_ (lw_methW h5)
  intro w hw
  simp only [List.mem_cons, List.not_mem_nil, or_false] at hw
  rcases hw with e | e | e | e
  · rw [e]; exact h1
  · rw [e]; exact h2
  · rw [e]; exact h3
  · rw [e]; exact h4
theorem lw_SW {own : String} {idx : Nat} {y : MethodName} {b : ByteArray} {L : Nat} {r : Option FieldType} {hh : List (Nat × Nat × Nat × Nat)} (h1 : Cond.methodLink own idx y ∈ lw_all) (h2 : Cond.static y ∈ lw_all) (h3 : Cond.initialized y.cls ∈ lw_all) (h4 : Cond.codeWith y b L r hh ∈ lw_all) : GoodIn lw_all (va_wsS own idx y (wsW_ y b L r hh)) := by
  refine lw_app ?_ (lw_methW h4)
  intro w hw
  simp only [List.mem_cons, List.not_mem_nil, or_false] at hw
  rcases hw with e | e | e
  · rw [e]; exact h1
  · rw [e]; exact h2
  · rw [e]; exact h3
/-- a word by its place in its run of the tables -/
theorem lw_at {r : List Cond} (hr : ∀ w ∈ r, w ∈ lw_tbl) {w : Cond} (i : Nat) (h : r[i]? = some w) : w ∈ lw_tbl := hr w (List.mem_of_getElem? h)
theorem lw_g {w : Cond} (h : w ∈ lw_tbl) (g : goodWord w = true) : w ∈ lw_all := List.mem_filter.mpr ⟨h, g⟩
theorem lw_ms : ∀ w ∈ k2_sels lw_privs, w ∈ lw_tbl := fun w h => show w ∈ k2_sels lw_privs ++ tables_1 from List.mem_append_left _ h
theorem lw_m1 : ∀ w ∈ tables_1_1, w ∈ lw_tbl := fun w h => show w ∈ k2_sels lw_privs ++ tables_1 from List.mem_append_right (k2_sels lw_privs) (show w ∈ tables_1 from List.mem_append_left _ h)
theorem lw_m2 : ∀ w ∈ tables_1_2, w ∈ lw_tbl := fun w h => show w ∈ k2_sels lw_privs ++ tables_1 from List.mem_append_right (k2_sels lw_privs) (show w ∈ tables_1 from List.mem_append_right _ (List.mem_append_left _ h))
theorem lw_m3 : ∀ w ∈ tables_1_3, w ∈ lw_tbl := fun w h => show w ∈ k2_sels lw_privs ++ tables_1 from List.mem_append_right (k2_sels lw_privs) (show w ∈ tables_1 from List.mem_append_right _ (List.mem_append_right _ (List.mem_append_left _ h)))
theorem lw_m4 : ∀ w ∈ tables_1_4, w ∈ lw_tbl := fun w h => show w ∈ k2_sels lw_privs ++ tables_1 from List.mem_append_right (k2_sels lw_privs) (show w ∈ tables_1 from List.mem_append_right _ (List.mem_append_right _ (List.mem_append_right _ (List.mem_append_left _ h))))
theorem lw_m5 : ∀ w ∈ tables_1_5, w ∈ lw_tbl := fun w h => show w ∈ k2_sels lw_privs ++ tables_1 from List.mem_append_right (k2_sels lw_privs) (show w ∈ tables_1 from List.mem_append_right _ (List.mem_append_right _ (List.mem_append_right _ (List.mem_append_right _ (List.mem_append_left _ h)))))
theorem lw_m6 : ∀ w ∈ tables_1_6, w ∈ lw_tbl := fun w h => show w ∈ k2_sels lw_privs ++ tables_1 from List.mem_append_right (k2_sels lw_privs) (show w ∈ tables_1 from List.mem_append_right _ (List.mem_append_right _ (List.mem_append_right _ (List.mem_append_right _ (List.mem_append_right _ (List.mem_append_left _ h))))))
theorem lw_m7 : ∀ w ∈ tables_1_7, w ∈ lw_tbl := fun w h => show w ∈ k2_sels lw_privs ++ tables_1 from List.mem_append_right (k2_sels lw_privs) (show w ∈ tables_1 from List.mem_append_right _ (List.mem_append_right _ (List.mem_append_right _ (List.mem_append_right _ (List.mem_append_right _ (List.mem_append_right _ h))))))
theorem qs0 : (Cond.selects "OneElastic" ⟨"OneElastic", "comes", "(IIIII)V"⟩ ⟨"OneElastic", "comes", "(IIIII)V"⟩) ∈ lw_all := lw_g (lw_at lw_ms 0 rfl) rfl
theorem qs1 : (Cond.selects "OneElastic" ⟨"OneElastic", "settles", "(LOneElastic$Town;)I"⟩ ⟨"OneElastic", "settles", "(LOneElastic$Town;)I"⟩) ∈ lw_all := lw_g (lw_at lw_ms 1 rfl) rfl
theorem qs2 : (Cond.selects "OneElastic$Town" ⟨"OneElastic$Town", "pulls", "(II)V"⟩ ⟨"OneElastic$Town", "pulls", "(II)V"⟩) ∈ lw_all := lw_g (lw_at lw_ms 2 rfl) rfl
theorem qs3 : (Cond.selects "OneElastic" ⟨"OneElastic", "tears", "(LOneElastic$Town;I)V"⟩ ⟨"OneElastic", "tears", "(LOneElastic$Town;I)V"⟩) ∈ lw_all := lw_g (lw_at lw_ms 3 rfl) rfl
theorem qs4 : (Cond.selects "OneElastic$Town" ⟨"OneElastic$Town", "belowRight", "(I)I"⟩ ⟨"OneElastic$Town", "belowRight", "(I)I"⟩) ∈ lw_all := lw_g (lw_at lw_ms 4 rfl) rfl
theorem qs5 : (Cond.selects "OneElastic" ⟨"OneElastic", "isPerson", "(I)Z"⟩ ⟨"OneElastic", "isPerson", "(I)Z"⟩) ∈ lw_all := lw_g (lw_at lw_ms 5 rfl) rfl
theorem qs6 : (Cond.selects "OneElastic" ⟨"OneElastic", "isSeam", "(I)Z"⟩ ⟨"OneElastic", "isSeam", "(I)Z"⟩) ∈ lw_all := lw_g (lw_at lw_ms 6 rfl) rfl
theorem qs7 : (Cond.selects "OneElastic" ⟨"OneElastic", "taut", "()I"⟩ ⟨"OneElastic", "taut", "()I"⟩) ∈ lw_all := lw_g (lw_at lw_ms 7 rfl) rfl
theorem qs8 : (Cond.selects "OneElastic" ⟨"OneElastic", "number", "(II)I"⟩ ⟨"OneElastic", "number", "(II)I"⟩) ∈ lw_all := lw_g (lw_at lw_ms 8 rfl) rfl
theorem qs9 : (Cond.selects "OneElastic" ⟨"OneElastic", "here", "()I"⟩ ⟨"OneElastic", "here", "()I"⟩) ∈ lw_all := lw_g (lw_at lw_ms 9 rfl) rfl
theorem qs10 : (Cond.selects "java/lang/NullPointerException" ⟨"java/lang/NullPointerException", "getExtendedNPEMessage", "()Ljava/lang/String;"⟩ ⟨"java/lang/NullPointerException", "getExtendedNPEMessage", "()Ljava/lang/String;"⟩) ∈ lw_all := lw_g (lw_at lw_ms 10 rfl) rfl
theorem qs11 : (Cond.selects "java/lang/Throwable" ⟨"java/lang/Throwable", "fillInStackTrace", "(I)Ljava/lang/Throwable;"⟩ ⟨"java/lang/Throwable", "fillInStackTrace", "(I)Ljava/lang/Throwable;"⟩) ∈ lw_all := lw_g (lw_at lw_ms 11 rfl) rfl
theorem qs12 : (Cond.selects "OneElastic" ⟨"OneElastic", "must", "(Z)V"⟩ ⟨"OneElastic", "must", "(Z)V"⟩) ∈ lw_all := lw_g (lw_at lw_ms 12 rfl) rfl
theorem qs13 : (Cond.selects "OneElastic" ⟨"OneElastic", "readsPeople", "()I"⟩ ⟨"OneElastic", "readsPeople", "()I"⟩) ∈ lw_all := lw_g (lw_at lw_ms 13 rfl) rfl
theorem qs14 : (Cond.selects "OneElastic" ⟨"OneElastic", "readsPerson", "(I)V"⟩ ⟨"OneElastic", "readsPerson", "(I)V"⟩) ∈ lw_all := lw_g (lw_at lw_ms 14 rfl) rfl
theorem qs15 : (Cond.selects "OneElastic" ⟨"OneElastic", "notes", "()V"⟩ ⟨"OneElastic", "notes", "()V"⟩) ∈ lw_all := lw_g (lw_at lw_ms 15 rfl) rfl
theorem qs16 : (Cond.selects "java/util/ArrayDeque" ⟨"java/util/ArrayDeque", "grow", "(I)V"⟩ ⟨"java/util/ArrayDeque", "grow", "(I)V"⟩) ∈ lw_all := lw_g (lw_at lw_ms 16 rfl) rfl
theorem qs17 : (Cond.selects "java/util/ArrayDeque" ⟨"java/util/ArrayDeque", "newCapacity", "(II)I"⟩ ⟨"java/util/ArrayDeque", "newCapacity", "(II)I"⟩) ∈ lw_all := lw_g (lw_at lw_ms 17 rfl) rfl
theorem qs18 : (Cond.selects "OneElastic" ⟨"OneElastic", "springs", "()V"⟩ ⟨"OneElastic", "springs", "()V"⟩) ∈ lw_all := lw_g (lw_at lw_ms 18 rfl) rfl
theorem qs19 : (Cond.selects "OneElastic" ⟨"OneElastic", "tries", "()LOneElastic$Town;"⟩ ⟨"OneElastic", "tries", "()LOneElastic$Town;"⟩) ∈ lw_all := lw_g (lw_at lw_ms 19 rfl) rfl
theorem qs20 : (Cond.selects "OneElastic" ⟨"OneElastic", "isStill", "(LOneElastic$Town;)Z"⟩ ⟨"OneElastic", "isStill", "(LOneElastic$Town;)Z"⟩) ∈ lw_all := lw_g (lw_at lw_ms 20 rfl) rfl
theorem qs21 : (Cond.selects "OneElastic" ⟨"OneElastic", "comesTo", "(LOneElastic$Town;II)I"⟩ ⟨"OneElastic", "comesTo", "(LOneElastic$Town;II)I"⟩) ∈ lw_all := lw_g (lw_at lw_ms 21 rfl) rfl
theorem qs22 : (Cond.selects "OneElastic" ⟨"OneElastic", "mover", "(LOneElastic$Town;I)I"⟩ ⟨"OneElastic", "mover", "(LOneElastic$Town;I)I"⟩) ∈ lw_all := lw_g (lw_at lw_ms 22 rfl) rfl
theorem qs23 : (Cond.selects "OneElastic" ⟨"OneElastic", "copies", "(Ljava/util/ArrayDeque;Ljava/util/ArrayDeque;)V"⟩ ⟨"OneElastic", "copies", "(Ljava/util/ArrayDeque;Ljava/util/ArrayDeque;)V"⟩) ∈ lw_all := lw_g (lw_at lw_ms 23 rfl) rfl
theorem qs24 : (Cond.selects "OneElastic" ⟨"OneElastic", "refusal", "(IIII)I"⟩ ⟨"OneElastic", "refusal", "(IIII)I"⟩) ∈ lw_all := lw_g (lw_at lw_ms 24 rfl) rfl
theorem qs25 : (Cond.selects "OneElastic" ⟨"OneElastic", "looksAt", "(Ljava/lang/Object;III)V"⟩ ⟨"OneElastic", "looksAt", "(Ljava/lang/Object;III)V"⟩) ∈ lw_all := lw_g (lw_at lw_ms 25 rfl) rfl
theorem qs26 : (Cond.selects "OneElastic" ⟨"OneElastic", "isSo", "(LOneElastic$Town;)Z"⟩ ⟨"OneElastic", "isSo", "(LOneElastic$Town;)Z"⟩) ∈ lw_all := lw_g (lw_at lw_ms 26 rfl) rfl
theorem qs27 : (Cond.selects "OneElastic" ⟨"OneElastic", "gives", "(III)Z"⟩ ⟨"OneElastic", "gives", "(III)Z"⟩) ∈ lw_all := lw_g (lw_at lw_ms 27 rfl) rfl
theorem qs28 : (Cond.selects "OneElasticModel" ⟨"OneElasticModel", "readsAll", "()Z"⟩ ⟨"OneElasticModel", "readsAll", "()Z"⟩) ∈ lw_all := lw_g (lw_at lw_ms 28 rfl) rfl
theorem qs29 : (Cond.selects "OneElasticModel" ⟨"OneElasticModel", "takesNumber", "(III)Z"⟩ ⟨"OneElasticModel", "takesNumber", "(III)Z"⟩) ∈ lw_all := lw_g (lw_at lw_ms 29 rfl) rfl
theorem qs30 : (Cond.selects "OneElasticModel" ⟨"OneElasticModel", "blanks", "()V"⟩ ⟨"OneElasticModel", "blanks", "()V"⟩) ∈ lw_all := lw_g (lw_at lw_ms 30 rfl) rfl
theorem qs31 : (Cond.selects "OneElasticModel" ⟨"OneElasticModel", "here", "()I"⟩ ⟨"OneElasticModel", "here", "()I"⟩) ∈ lw_all := lw_g (lw_at lw_ms 31 rfl) rfl
theorem qs32 : (Cond.selects "OneElasticModel" ⟨"OneElasticModel", "takes", "(I)Z"⟩ ⟨"OneElasticModel", "takes", "(I)Z"⟩) ∈ lw_all := lw_g (lw_at lw_ms 32 rfl) rfl
theorem qs33 : (Cond.selects "OneElasticModel" ⟨"OneElasticModel", "takesPerson", "()Z"⟩ ⟨"OneElasticModel", "takesPerson", "()Z"⟩) ∈ lw_all := lw_g (lw_at lw_ms 33 rfl) rfl
theorem qs34 : (Cond.selects "OneElasticModel" ⟨"OneElasticModel", "takesSeam", "()Z"⟩ ⟨"OneElasticModel", "takesSeam", "()Z"⟩) ∈ lw_all := lw_g (lw_at lw_ms 34 rfl) rfl
theorem qs35 : (Cond.selects "OneElasticModel" ⟨"OneElasticModel", "settles", "(I)V"⟩ ⟨"OneElasticModel", "settles", "(I)V"⟩) ∈ lw_all := lw_g (lw_at lw_ms 35 rfl) rfl
theorem qs36 : (Cond.selects "OneElasticModel" ⟨"OneElasticModel", "layPulls", "(I)V"⟩ ⟨"OneElasticModel", "layPulls", "(I)V"⟩) ∈ lw_all := lw_g (lw_at lw_ms 36 rfl) rfl
theorem qs37 : (Cond.selects "OneElasticModel" ⟨"OneElasticModel", "holds", "(II)Z"⟩ ⟨"OneElasticModel", "holds", "(II)Z"⟩) ∈ lw_all := lw_g (lw_at lw_ms 37 rfl) rfl
theorem qs38 : (Cond.selects "OneElasticModel" ⟨"OneElasticModel", "nextRight", "(II)I"⟩ ⟨"OneElasticModel", "nextRight", "(II)I"⟩) ∈ lw_all := lw_g (lw_at lw_ms 38 rfl) rfl
theorem qs39 : (Cond.selects "OneElasticModel" ⟨"OneElasticModel", "sumOf", "(III)I"⟩ ⟨"OneElasticModel", "sumOf", "(III)I"⟩) ∈ lw_all := lw_g (lw_at lw_ms 39 rfl) rfl
theorem qs40 : (Cond.selects "OneElasticModel" ⟨"OneElasticModel", "tornSeam", "(I)I"⟩ ⟨"OneElasticModel", "tornSeam", "(I)I"⟩) ∈ lw_all := lw_g (lw_at lw_ms 40 rfl) rfl
theorem qs41 : (Cond.selects "OneElasticModel" ⟨"OneElasticModel", "cuts", "(II)V"⟩ ⟨"OneElasticModel", "cuts", "(II)V"⟩) ∈ lw_all := lw_g (lw_at lw_ms 41 rfl) rfl
theorem qs42 : (Cond.selects "OneElasticModel" ⟨"OneElasticModel", "isPulledOff", "(II)Z"⟩ ⟨"OneElasticModel", "isPulledOff", "(II)Z"⟩) ∈ lw_all := lw_g (lw_at lw_ms 42 rfl) rfl
theorem qs43 : (Cond.selects "OneElasticModel" ⟨"OneElasticModel", "layPulled", "(II)V"⟩ ⟨"OneElasticModel", "layPulled", "(II)V"⟩) ∈ lw_all := lw_g (lw_at lw_ms 43 rfl) rfl
theorem qs44 : (Cond.selects "OneElasticModel" ⟨"OneElasticModel", "outOf", "(II)I"⟩ ⟨"OneElasticModel", "outOf", "(II)I"⟩) ∈ lw_all := lw_g (lw_at lw_ms 44 rfl) rfl
theorem qs45 : (Cond.selects "OneElasticModel" ⟨"OneElasticModel", "isPerson", "(I)Z"⟩ ⟨"OneElasticModel", "isPerson", "(I)Z"⟩) ∈ lw_all := lw_g (lw_at lw_ms 45 rfl) rfl
theorem qs46 : (Cond.selects "OneElasticModel" ⟨"OneElasticModel", "sideOf", "(I)I"⟩ ⟨"OneElasticModel", "sideOf", "(I)I"⟩) ∈ lw_all := lw_g (lw_at lw_ms 46 rfl) rfl
theorem qs47 : (Cond.selects "OneElasticModel" ⟨"OneElasticModel", "layPlace", "(II)V"⟩ ⟨"OneElasticModel", "layPlace", "(II)V"⟩) ∈ lw_all := lw_g (lw_at lw_ms 47 rfl) rfl
theorem qs48 : (Cond.selects "OneElasticModel" ⟨"OneElasticModel", "nextLeft", "(II)I"⟩ ⟨"OneElasticModel", "nextLeft", "(II)I"⟩) ∈ lw_all := lw_g (lw_at lw_ms 48 rfl) rfl
theorem qs49 : (Cond.selects "OneElasticModel" ⟨"OneElasticModel", "isSeam", "(I)Z"⟩ ⟨"OneElasticModel", "isSeam", "(I)Z"⟩) ∈ lw_all := lw_g (lw_at lw_ms 49 rfl) rfl
theorem qs50 : (Cond.selects "OneElasticModel" ⟨"OneElasticModel", "holding", "(I)I"⟩ ⟨"OneElasticModel", "holding", "(I)I"⟩) ∈ lw_all := lw_g (lw_at lw_ms 50 rfl) rfl
theorem qs51 : (Cond.selects "OneElasticModel" ⟨"OneElasticModel", "cutOnes", "(I)I"⟩ ⟨"OneElasticModel", "cutOnes", "(I)I"⟩) ∈ lw_all := lw_g (lw_at lw_ms 51 rfl) rfl
theorem qs52 : (Cond.selects "OneElasticModel" ⟨"OneElasticModel", "tautOnes", "()I"⟩ ⟨"OneElasticModel", "tautOnes", "()I"⟩) ∈ lw_all := lw_g (lw_at lw_ms 52 rfl) rfl
theorem qs53 : (Cond.selects "OneElasticModel" ⟨"OneElasticModel", "greatestCut", "(I)I"⟩ ⟨"OneElasticModel", "greatestCut", "(I)I"⟩) ∈ lw_all := lw_g (lw_at lw_ms 53 rfl) rfl
theorem qs54 : (Cond.selects "OneElasticModel" ⟨"OneElasticModel", "greatest", "(I)I"⟩ ⟨"OneElasticModel", "greatest", "(I)I"⟩) ∈ lw_all := lw_g (lw_at lw_ms 54 rfl) rfl
theorem qs55 : (Cond.selects "OneElasticModel" ⟨"OneElasticModel", "mayGo", "(III)Z"⟩ ⟨"OneElasticModel", "mayGo", "(III)Z"⟩) ∈ lw_all := lw_g (lw_at lw_ms 55 rfl) rfl
theorem qs56 : (Cond.selects "OneElasticModel" ⟨"OneElasticModel", "minds", "()V"⟩ ⟨"OneElasticModel", "minds", "()V"⟩) ∈ lw_all := lw_g (lw_at lw_ms 56 rfl) rfl
theorem qs57 : (Cond.selects "OneElasticModel" ⟨"OneElasticModel", "takesHold", "(II)V"⟩ ⟨"OneElasticModel", "takesHold", "(II)V"⟩) ∈ lw_all := lw_g (lw_at lw_ms 57 rfl) rfl
theorem qs58 : (Cond.selects "OneElasticModel" ⟨"OneElasticModel", "hourOf", "(I)V"⟩ ⟨"OneElasticModel", "hourOf", "(I)V"⟩) ∈ lw_all := lw_g (lw_at lw_ms 58 rfl) rfl
theorem qs59 : (Cond.selects "OneElasticModel" ⟨"OneElasticModel", "springsOnce", "()V"⟩ ⟨"OneElasticModel", "springsOnce", "()V"⟩) ∈ lw_all := lw_g (lw_at lw_ms 59 rfl) rfl
theorem qs60 : (Cond.selects "OneElasticModel" ⟨"OneElasticModel", "tries", "()V"⟩ ⟨"OneElasticModel", "tries", "()V"⟩) ∈ lw_all := lw_g (lw_at lw_ms 60 rfl) rfl
theorem qs61 : (Cond.selects "OneElasticModel" ⟨"OneElasticModel", "plays", "(II)Z"⟩ ⟨"OneElasticModel", "plays", "(II)Z"⟩) ∈ lw_all := lw_g (lw_at lw_ms 61 rfl) rfl
theorem qs62 : (Cond.selects "OneElasticModel" ⟨"OneElasticModel", "firstHolding", "()I"⟩ ⟨"OneElasticModel", "firstHolding", "()I"⟩) ∈ lw_all := lw_g (lw_at lw_ms 62 rfl) rfl
theorem qs63 : (Cond.selects "OneElasticModel" ⟨"OneElasticModel", "lastHolding", "()I"⟩ ⟨"OneElasticModel", "lastHolding", "()I"⟩) ∈ lw_all := lw_g (lw_at lw_ms 63 rfl) rfl
theorem qs64 : (Cond.selects "OneElasticModel" ⟨"OneElasticModel", "takesBest", "(IZ)V"⟩ ⟨"OneElasticModel", "takesBest", "(IZ)V"⟩) ∈ lw_all := lw_g (lw_at lw_ms 64 rfl) rfl
theorem qs65 : (Cond.selects "OneElasticModel" ⟨"OneElasticModel", "seams", "()I"⟩ ⟨"OneElasticModel", "seams", "()I"⟩) ∈ lw_all := lw_g (lw_at lw_ms 65 rfl) rfl
theorem qs66 : (Cond.selects "OneElasticModel" ⟨"OneElasticModel", "against", "(IIII)I"⟩ ⟨"OneElasticModel", "against", "(IIII)I"⟩) ∈ lw_all := lw_g (lw_at lw_ms 66 rfl) rfl
theorem qs67 : (Cond.selects "OneElasticModel" ⟨"OneElasticModel", "pullsSo", "(I)Z"⟩ ⟨"OneElasticModel", "pullsSo", "(I)Z"⟩) ∈ lw_all := lw_g (lw_at lw_ms 67 rfl) rfl
theorem qs68 : (Cond.selects "OneElasticModel" ⟨"OneElasticModel", "givesSo", "(IIII)Z"⟩ ⟨"OneElasticModel", "givesSo", "(IIII)Z"⟩) ∈ lw_all := lw_g (lw_at lw_ms 68 rfl) rfl
