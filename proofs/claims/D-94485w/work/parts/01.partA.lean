-- ===== PART A: goes FIRST, ahead of the names: the tables' words, and 'selects' of the private methods out of them =====
/-- a private method of a class that the tables say can be made, by its rows of tables_1 -/
def lw_okq (q : MethodName × Nat) : Prop := (q.1.cls ≠ "java/lang/invoke/MethodHandle" ∧ q.1.cls ≠ "java/lang/invoke/VarHandle") ∧ Cond.instantiable q.1.cls q.2 ∈ tables_1 ∧ Cond.privateMethod q.1 ∈ tables_1 ∧ Cond.instanceMethod q.1 ∈ tables_1
set_option maxRecDepth 100000
theorem lw_t1 {w : Cond} (h : w ∈ tables_1_1) : w ∈ tables_1 := List.mem_append_left _ h
theorem lw_t2 {w : Cond} (h : w ∈ tables_1_2) : w ∈ tables_1 := List.mem_append_right _ (List.mem_append_left _ h)
theorem lw_t3 {w : Cond} (h : w ∈ tables_1_3) : w ∈ tables_1 := List.mem_append_right _ (List.mem_append_right _ (List.mem_append_left _ h))
theorem lw_t4 {w : Cond} (h : w ∈ tables_1_4) : w ∈ tables_1 := List.mem_append_right _ (List.mem_append_right _ (List.mem_append_right _ (List.mem_append_left _ h)))
theorem lw_t5 {w : Cond} (h : w ∈ tables_1_5) : w ∈ tables_1 := List.mem_append_right _ (List.mem_append_right _ (List.mem_append_right _ (List.mem_append_right _ (List.mem_append_left _ h))))
theorem lw_t6 {w : Cond} (h : w ∈ tables_1_6) : w ∈ tables_1 := List.mem_append_right _ (List.mem_append_right _ (List.mem_append_right _ (List.mem_append_right _ (List.mem_append_right _ (List.mem_append_left _ h)))))
theorem lw_t7 {w : Cond} (h : w ∈ tables_1_7) : w ∈ tables_1 := List.mem_append_right _ (List.mem_append_right _ (List.mem_append_right _ (List.mem_append_right _ (List.mem_append_right _ (List.mem_append_right _ h)))))
theorem lw_p0 : lw_okq (⟨"FourCars", "puts", "(I)V"⟩, 30) := ⟨⟨by decide +kernel, by decide +kernel⟩, lw_t1 (List.mem_of_getElem? (i := 28) rfl), lw_t2 (List.mem_of_getElem? (i := 137) rfl), lw_t2 (List.mem_of_getElem? (i := 138) rfl)⟩
theorem lw_p1 : lw_okq (⟨"FourCars", "readsRule", "()LFourCars$Text;"⟩, 30) := ⟨⟨by decide +kernel, by decide +kernel⟩, lw_t1 (List.mem_of_getElem? (i := 28) rfl), lw_t2 (List.mem_of_getElem? (i := 153) rfl), lw_t2 (List.mem_of_getElem? (i := 154) rfl)⟩
theorem lw_p2 : lw_okq (⟨"FourCars", "readNext", "()V"⟩, 30) := ⟨⟨by decide +kernel, by decide +kernel⟩, lw_t1 (List.mem_of_getElem? (i := 28) rfl), lw_t2 (List.mem_of_getElem? (i := 157) rfl), lw_t2 (List.mem_of_getElem? (i := 158) rfl)⟩
theorem lw_p3 : lw_okq (⟨"FourCars", "raw", "(I)I"⟩, 30) := ⟨⟨by decide +kernel, by decide +kernel⟩, lw_t1 (List.mem_of_getElem? (i := 28) rfl), lw_t2 (List.mem_of_getElem? (i := 161) rfl), lw_t2 (List.mem_of_getElem? (i := 162) rfl)⟩
theorem lw_p4 : lw_okq (⟨"FourCars", "wordOf", "([Ljava/lang/String;)I"⟩, 30) := ⟨⟨by decide +kernel, by decide +kernel⟩, lw_t1 (List.mem_of_getElem? (i := 28) rfl), lw_t2 (List.mem_of_getElem? (i := 174) rfl), lw_t2 (List.mem_of_getElem? (i := 175) rfl)⟩
theorem lw_p5 : lw_okq (⟨"FourCars", "spells", "(Ljava/lang/String;)Z"⟩, 30) := ⟨⟨by decide +kernel, by decide +kernel⟩, lw_t1 (List.mem_of_getElem? (i := 28) rfl), lw_t2 (List.mem_of_getElem? (i := 178) rfl), lw_t2 (List.mem_of_getElem? (i := 179) rfl)⟩
theorem lw_p6 : lw_okq (⟨"FourCars", "must", "(Z)V"⟩, 30) := ⟨⟨by decide +kernel, by decide +kernel⟩, lw_t1 (List.mem_of_getElem? (i := 28) rfl), lw_t3 (List.mem_of_getElem? (i := 59) rfl), lw_t3 (List.mem_of_getElem? (i := 60) rfl)⟩
theorem lw_p7 : lw_okq (⟨"java/lang/Throwable", "fillInStackTrace", "(I)Ljava/lang/Throwable;"⟩, 6) := ⟨⟨by decide +kernel, by decide +kernel⟩, lw_t3 (List.mem_of_getElem? (i := 96) rfl), lw_t3 (List.mem_of_getElem? (i := 94) rfl), lw_t3 (List.mem_of_getElem? (i := 95) rfl)⟩
theorem lw_p8 : lw_okq (⟨"FourCars", "sum", "()LFourCars$Term;"⟩, 30) := ⟨⟨by decide +kernel, by decide +kernel⟩, lw_t1 (List.mem_of_getElem? (i := 28) rfl), lw_t3 (List.mem_of_getElem? (i := 129) rfl), lw_t3 (List.mem_of_getElem? (i := 130) rfl)⟩
theorem lw_p9 : lw_okq (⟨"FourCars", "product", "()LFourCars$Term;"⟩, 30) := ⟨⟨by decide +kernel, by decide +kernel⟩, lw_t1 (List.mem_of_getElem? (i := 28) rfl), lw_t3 (List.mem_of_getElem? (i := 133) rfl), lw_t3 (List.mem_of_getElem? (i := 134) rfl)⟩
theorem lw_p10 : lw_okq (⟨"FourCars", "unit", "()LFourCars$Term;"⟩, 30) := ⟨⟨by decide +kernel, by decide +kernel⟩, lw_t1 (List.mem_of_getElem? (i := 28) rfl), lw_t3 (List.mem_of_getElem? (i := 137) rfl), lw_t3 (List.mem_of_getElem? (i := 138) rfl)⟩
theorem lw_p11 : lw_okq (⟨"FourCars", "isSign", "(C)Z"⟩, 30) := ⟨⟨by decide +kernel, by decide +kernel⟩, lw_t1 (List.mem_of_getElem? (i := 28) rfl), lw_t3 (List.mem_of_getElem? (i := 164) rfl), lw_t3 (List.mem_of_getElem? (i := 165) rfl)⟩
theorem lw_p12 : lw_okq (⟨"FourCars", "isWord", "(Ljava/lang/String;)Z"⟩, 30) := ⟨⟨by decide +kernel, by decide +kernel⟩, lw_t1 (List.mem_of_getElem? (i := 28) rfl), lw_t3 (List.mem_of_getElem? (i := 184) rfl), lw_t3 (List.mem_of_getElem? (i := 185) rfl)⟩
theorem lw_p13 : lw_okq (⟨"FourCars", "any", "()LFourCars$Term;"⟩, 30) := ⟨⟨by decide +kernel, by decide +kernel⟩, lw_t1 (List.mem_of_getElem? (i := 28) rfl), lw_t3 (List.mem_of_getElem? (i := 188) rfl), lw_t3 (List.mem_of_getElem? (i := 189) rfl)⟩
theorem lw_p14 : lw_okq (⟨"FourCars", "both", "()LFourCars$Term;"⟩, 30) := ⟨⟨by decide +kernel, by decide +kernel⟩, lw_t1 (List.mem_of_getElem? (i := 28) rfl), lw_t3 (List.mem_of_getElem? (i := 192) rfl), lw_t3 (List.mem_of_getElem? (i := 193) rfl)⟩
theorem lw_p15 : lw_okq (⟨"FourCars", "oneOf", "()LFourCars$Term;"⟩, 30) := ⟨⟨by decide +kernel, by decide +kernel⟩, lw_t1 (List.mem_of_getElem? (i := 28) rfl), lw_t3 (List.mem_of_getElem? (i := 196) rfl), lw_t3 (List.mem_of_getElem? (i := 197) rfl)⟩
def lw_privs_1 : List (MethodName × Nat) := [(⟨"FourCars", "puts", "(I)V"⟩, 30), (⟨"FourCars", "readsRule", "()LFourCars$Text;"⟩, 30), (⟨"FourCars", "readNext", "()V"⟩, 30), (⟨"FourCars", "raw", "(I)I"⟩, 30), (⟨"FourCars", "wordOf", "([Ljava/lang/String;)I"⟩, 30), (⟨"FourCars", "spells", "(Ljava/lang/String;)Z"⟩, 30), (⟨"FourCars", "must", "(Z)V"⟩, 30), (⟨"java/lang/Throwable", "fillInStackTrace", "(I)Ljava/lang/Throwable;"⟩, 6), (⟨"FourCars", "sum", "()LFourCars$Term;"⟩, 30), (⟨"FourCars", "product", "()LFourCars$Term;"⟩, 30), (⟨"FourCars", "unit", "()LFourCars$Term;"⟩, 30), (⟨"FourCars", "isSign", "(C)Z"⟩, 30), (⟨"FourCars", "isWord", "(Ljava/lang/String;)Z"⟩, 30), (⟨"FourCars", "any", "()LFourCars$Term;"⟩, 30), (⟨"FourCars", "both", "()LFourCars$Term;"⟩, 30), (⟨"FourCars", "oneOf", "()LFourCars$Term;"⟩, 30)]
theorem lw_r1 : ∀ q ∈ lw_privs_1, lw_okq q := List.forall_mem_cons.mpr ⟨lw_p0, List.forall_mem_cons.mpr ⟨lw_p1, List.forall_mem_cons.mpr ⟨lw_p2, List.forall_mem_cons.mpr ⟨lw_p3, List.forall_mem_cons.mpr ⟨lw_p4, List.forall_mem_cons.mpr ⟨lw_p5, List.forall_mem_cons.mpr ⟨lw_p6, List.forall_mem_cons.mpr ⟨lw_p7, List.forall_mem_cons.mpr ⟨lw_p8, List.forall_mem_cons.mpr ⟨lw_p9, List.forall_mem_cons.mpr ⟨lw_p10, List.forall_mem_cons.mpr ⟨lw_p11, List.forall_mem_cons.mpr ⟨lw_p12, List.forall_mem_cons.mpr ⟨lw_p13, List.forall_mem_cons.mpr ⟨lw_p14, List.forall_mem_cons.mpr ⟨lw_p15, fun _ h => absurd h List.not_mem_nil⟩⟩⟩⟩⟩⟩⟩⟩⟩⟩⟩⟩⟩⟩⟩⟩
theorem lw_p16 : lw_okq (⟨"FourCars", "opens", "()V"⟩, 30) := ⟨⟨by decide +kernel, by decide +kernel⟩, lw_t1 (List.mem_of_getElem? (i := 28) rfl), lw_t3 (List.mem_of_getElem? (i := 200) rfl), lw_t3 (List.mem_of_getElem? (i := 201) rfl)⟩
theorem lw_p17 : lw_okq (⟨"FourCars", "takesSign", "(C)V"⟩, 30) := ⟨⟨by decide +kernel, by decide +kernel⟩, lw_t1 (List.mem_of_getElem? (i := 28) rfl), lw_t3 (List.mem_of_getElem? (i := 214) rfl), lw_t3 (List.mem_of_getElem? (i := 215) rfl)⟩
theorem lw_p18 : lw_okq (⟨"FourCars", "readsTower", "()LFourCars$Plan;"⟩, 30) := ⟨⟨by decide +kernel, by decide +kernel⟩, lw_t1 (List.mem_of_getElem? (i := 28) rfl), lw_t3 (List.mem_of_getElem? (i := 218) rfl), lw_t3 (List.mem_of_getElem? (i := 219) rfl)⟩
theorem lw_p19 : lw_okq (⟨"FourCars", "number", "(II)I"⟩, 30) := ⟨⟨by decide +kernel, by decide +kernel⟩, lw_t1 (List.mem_of_getElem? (i := 28) rfl), lw_t3 (List.mem_of_getElem? (i := 222) rfl), lw_t3 (List.mem_of_getElem? (i := 223) rfl)⟩
theorem lw_p20 : lw_okq (⟨"FourCars", "readsCar", "(LFourCars$Plan;)V"⟩, 30) := ⟨⟨by decide +kernel, by decide +kernel⟩, lw_t1 (List.mem_of_getElem? (i := 28) rfl), lw_t3 (List.mem_of_getElem? (i := 226) rfl), lw_t3 (List.mem_of_getElem? (i := 227) rfl)⟩
theorem lw_p21 : lw_okq (⟨"FourCars", "isFloor", "(I)Z"⟩, 30) := ⟨⟨by decide +kernel, by decide +kernel⟩, lw_t1 (List.mem_of_getElem? (i := 28) rfl), lw_t4 (List.mem_of_getElem? (i := 5) rfl), lw_t4 (List.mem_of_getElem? (i := 6) rfl)⟩
theorem lw_p22 : lw_okq (⟨"FourCars", "isCar", "(I)Z"⟩, 30) := ⟨⟨by decide +kernel, by decide +kernel⟩, lw_t1 (List.mem_of_getElem? (i := 28) rfl), lw_t4 (List.mem_of_getElem? (i := 20) rfl), lw_t4 (List.mem_of_getElem? (i := 21) rfl)⟩
theorem lw_p23 : lw_okq (⟨"FourCars", "putsOut", "(IZ)V"⟩, 30) := ⟨⟨by decide +kernel, by decide +kernel⟩, lw_t1 (List.mem_of_getElem? (i := 28) rfl), lw_t4 (List.mem_of_getElem? (i := 24) rfl), lw_t4 (List.mem_of_getElem? (i := 25) rfl)⟩
theorem lw_p24 : lw_okq (⟨"FourCars$Tower", "bestCar", "(I)I"⟩, 12) := ⟨⟨by decide +kernel, by decide +kernel⟩, lw_t1 (List.mem_of_getElem? (i := 136) rfl), lw_t4 (List.mem_of_getElem? (i := 40) rfl), lw_t4 (List.mem_of_getElem? (i := 41) rfl)⟩
theorem lw_p25 : lw_okq (⟨"FourCars$Tower", "asks", "(II)V"⟩, 12) := ⟨⟨by decide +kernel, by decide +kernel⟩, lw_t1 (List.mem_of_getElem? (i := 136) rfl), lw_t4 (List.mem_of_getElem? (i := 52) rfl), lw_t4 (List.mem_of_getElem? (i := 53) rfl)⟩
theorem lw_p26 : lw_okq (⟨"FourCars$Tower", "carGoes", "(I)V"⟩, 12) := ⟨⟨by decide +kernel, by decide +kernel⟩, lw_t1 (List.mem_of_getElem? (i := 136) rfl), lw_t4 (List.mem_of_getElem? (i := 89) rfl), lw_t4 (List.mem_of_getElem? (i := 90) rfl)⟩
theorem lw_p27 : lw_okq (⟨"FourCars$Tower", "looks", "(I)V"⟩, 12) := ⟨⟨by decide +kernel, by decide +kernel⟩, lw_t1 (List.mem_of_getElem? (i := 136) rfl), lw_t4 (List.mem_of_getElem? (i := 93) rfl), lw_t4 (List.mem_of_getElem? (i := 94) rfl)⟩
theorem lw_p28 : lw_okq (⟨"FourCars$Tower", "goOut", "(I)I"⟩, 12) := ⟨⟨by decide +kernel, by decide +kernel⟩, lw_t1 (List.mem_of_getElem? (i := 136) rfl), lw_t4 (List.mem_of_getElem? (i := 97) rfl), lw_t4 (List.mem_of_getElem? (i := 98) rfl)⟩
theorem lw_p29 : lw_okq (⟨"FourCars$Tower", "findsTargets", "(I)V"⟩, 12) := ⟨⟨by decide +kernel, by decide +kernel⟩, lw_t1 (List.mem_of_getElem? (i := 136) rfl), lw_t4 (List.mem_of_getElem? (i := 109) rfl), lw_t4 (List.mem_of_getElem? (i := 110) rfl)⟩
theorem lw_p30 : lw_okq (⟨"FourCars$Tower", "aims", "(I)V"⟩, 12) := ⟨⟨by decide +kernel, by decide +kernel⟩, lw_t1 (List.mem_of_getElem? (i := 136) rfl), lw_t4 (List.mem_of_getElem? (i := 113) rfl), lw_t4 (List.mem_of_getElem? (i := 114) rfl)⟩
theorem lw_p31 : lw_okq (⟨"FourCars$Tower", "hasAhead", "(LFourCars$Car;)Z"⟩, 12) := ⟨⟨by decide +kernel, by decide +kernel⟩, lw_t1 (List.mem_of_getElem? (i := 136) rfl), lw_t4 (List.mem_of_getElem? (i := 117) rfl), lw_t4 (List.mem_of_getElem? (i := 118) rfl)⟩
def lw_privs_2 : List (MethodName × Nat) := [(⟨"FourCars", "opens", "()V"⟩, 30), (⟨"FourCars", "takesSign", "(C)V"⟩, 30), (⟨"FourCars", "readsTower", "()LFourCars$Plan;"⟩, 30), (⟨"FourCars", "number", "(II)I"⟩, 30), (⟨"FourCars", "readsCar", "(LFourCars$Plan;)V"⟩, 30), (⟨"FourCars", "isFloor", "(I)Z"⟩, 30), (⟨"FourCars", "isCar", "(I)Z"⟩, 30), (⟨"FourCars", "putsOut", "(IZ)V"⟩, 30), (⟨"FourCars$Tower", "bestCar", "(I)I"⟩, 12), (⟨"FourCars$Tower", "asks", "(II)V"⟩, 12), (⟨"FourCars$Tower", "carGoes", "(I)V"⟩, 12), (⟨"FourCars$Tower", "looks", "(I)V"⟩, 12), (⟨"FourCars$Tower", "goOut", "(I)I"⟩, 12), (⟨"FourCars$Tower", "findsTargets", "(I)V"⟩, 12), (⟨"FourCars$Tower", "aims", "(I)V"⟩, 12), (⟨"FourCars$Tower", "hasAhead", "(LFourCars$Car;)Z"⟩, 12)]
theorem lw_r2 : ∀ q ∈ lw_privs_2, lw_okq q := List.forall_mem_cons.mpr ⟨lw_p16, List.forall_mem_cons.mpr ⟨lw_p17, List.forall_mem_cons.mpr ⟨lw_p18, List.forall_mem_cons.mpr ⟨lw_p19, List.forall_mem_cons.mpr ⟨lw_p20, List.forall_mem_cons.mpr ⟨lw_p21, List.forall_mem_cons.mpr ⟨lw_p22, List.forall_mem_cons.mpr ⟨lw_p23, List.forall_mem_cons.mpr ⟨lw_p24, List.forall_mem_cons.mpr ⟨lw_p25, List.forall_mem_cons.mpr ⟨lw_p26, List.forall_mem_cons.mpr ⟨lw_p27, List.forall_mem_cons.mpr ⟨lw_p28, List.forall_mem_cons.mpr ⟨lw_p29, List.forall_mem_cons.mpr ⟨lw_p30, List.forall_mem_cons.mpr ⟨lw_p31, fun _ h => absurd h List.not_mem_nil⟩⟩⟩⟩⟩⟩⟩⟩⟩⟩⟩⟩⟩⟩⟩⟩
theorem lw_p32 : lw_okq (⟨"FourCars$Tower", "newWay", "(I)I"⟩, 12) := ⟨⟨by decide +kernel, by decide +kernel⟩, lw_t1 (List.mem_of_getElem? (i := 136) rfl), lw_t4 (List.mem_of_getElem? (i := 122) rfl), lw_t4 (List.mem_of_getElem? (i := 123) rfl)⟩
theorem lw_p33 : lw_okq (⟨"FourCars$Tower", "firstHere", "(I)I"⟩, 12) := ⟨⟨by decide +kernel, by decide +kernel⟩, lw_t1 (List.mem_of_getElem? (i := 136) rfl), lw_t4 (List.mem_of_getElem? (i := 126) rfl), lw_t4 (List.mem_of_getElem? (i := 127) rfl)⟩
theorem lw_p34 : lw_okq (⟨"FourCars$Tower", "isTarget", "(I)Z"⟩, 12) := ⟨⟨by decide +kernel, by decide +kernel⟩, lw_t1 (List.mem_of_getElem? (i := 136) rfl), lw_t4 (List.mem_of_getElem? (i := 130) rfl), lw_t4 (List.mem_of_getElem? (i := 131) rfl)⟩
theorem lw_p35 : lw_okq (⟨"FourCars$Tower", "goIn", "(I)I"⟩, 12) := ⟨⟨by decide +kernel, by decide +kernel⟩, lw_t1 (List.mem_of_getElem? (i := 136) rfl), lw_t4 (List.mem_of_getElem? (i := 137) rfl), lw_t4 (List.mem_of_getElem? (i := 138) rfl)⟩
theorem lw_p36 : lw_okq (⟨"FourCars", "isOne", "(I)Z"⟩, 30) := ⟨⟨by decide +kernel, by decide +kernel⟩, lw_t1 (List.mem_of_getElem? (i := 28) rfl), lw_t4 (List.mem_of_getElem? (i := 150) rfl), lw_t4 (List.mem_of_getElem? (i := 151) rfl)⟩
theorem lw_p37 : lw_okq (⟨"FourCars", "greatestOver", "()I"⟩, 30) := ⟨⟨by decide +kernel, by decide +kernel⟩, lw_t1 (List.mem_of_getElem? (i := 28) rfl), lw_t4 (List.mem_of_getElem? (i := 195) rfl), lw_t4 (List.mem_of_getElem? (i := 196) rfl)⟩
theorem lw_p38 : lw_okq (⟨"FourCars", "overBy", "(I)J"⟩, 30) := ⟨⟨by decide +kernel, by decide +kernel⟩, lw_t1 (List.mem_of_getElem? (i := 28) rfl), lw_t4 (List.mem_of_getElem? (i := 204) rfl), lw_t4 (List.mem_of_getElem? (i := 205) rfl)⟩
theorem lw_p39 : lw_okq (⟨"FourCars", "canGive", "()Z"⟩, 30) := ⟨⟨by decide +kernel, by decide +kernel⟩, lw_t1 (List.mem_of_getElem? (i := 28) rfl), lw_t4 (List.mem_of_getElem? (i := 213) rfl), lw_t4 (List.mem_of_getElem? (i := 214) rfl)⟩
theorem lw_p40 : lw_okq (⟨"FourCars", "findsBest", "()I"⟩, 30) := ⟨⟨by decide +kernel, by decide +kernel⟩, lw_t1 (List.mem_of_getElem? (i := 28) rfl), lw_t4 (List.mem_of_getElem? (i := 217) rfl), lw_t4 (List.mem_of_getElem? (i := 218) rfl)⟩
theorem lw_p41 : lw_okq (⟨"FourCars", "gives", "(I)Z"⟩, 30) := ⟨⟨by decide +kernel, by decide +kernel⟩, lw_t1 (List.mem_of_getElem? (i := 28) rfl), lw_t4 (List.mem_of_getElem? (i := 221) rfl), lw_t4 (List.mem_of_getElem? (i := 222) rfl)⟩
theorem lw_p42 : lw_okq (⟨"FourCars", "overOf", "(IIII)I"⟩, 30) := ⟨⟨by decide +kernel, by decide +kernel⟩, lw_t1 (List.mem_of_getElem? (i := 28) rfl), lw_t4 (List.mem_of_getElem? (i := 233) rfl), lw_t4 (List.mem_of_getElem? (i := 234) rfl)⟩
theorem lw_p43 : lw_okq (⟨"FourCars", "comes", "(II)V"⟩, 30) := ⟨⟨by decide +kernel, by decide +kernel⟩, lw_t1 (List.mem_of_getElem? (i := 28) rfl), lw_t4 (List.mem_of_getElem? (i := 237) rfl), lw_t4 (List.mem_of_getElem? (i := 238) rfl)⟩
theorem lw_p44 : lw_okq (⟨"FourCars", "findsPlaces", "(I)I"⟩, 30) := ⟨⟨by decide +kernel, by decide +kernel⟩, lw_t1 (List.mem_of_getElem? (i := 28) rfl), lw_t5 (List.mem_of_getElem? (i := 11) rfl), lw_t5 (List.mem_of_getElem? (i := 12) rfl)⟩
theorem lw_p45 : lw_okq (⟨"FourCars", "findsAbove", "(I)V"⟩, 30) := ⟨⟨by decide +kernel, by decide +kernel⟩, lw_t1 (List.mem_of_getElem? (i := 28) rfl), lw_t5 (List.mem_of_getElem? (i := 15) rfl), lw_t5 (List.mem_of_getElem? (i := 16) rfl)⟩
theorem lw_p46 : lw_okq (⟨"FourCars", "between", "(II)I"⟩, 30) := ⟨⟨by decide +kernel, by decide +kernel⟩, lw_t1 (List.mem_of_getElem? (i := 28) rfl), lw_t5 (List.mem_of_getElem? (i := 20) rfl), lw_t5 (List.mem_of_getElem? (i := 21) rfl)⟩
theorem lw_p47 : lw_okq (⟨"FourCars", "below", "(I)I"⟩, 30) := ⟨⟨by decide +kernel, by decide +kernel⟩, lw_t1 (List.mem_of_getElem? (i := 28) rfl), lw_t5 (List.mem_of_getElem? (i := 24) rfl), lw_t5 (List.mem_of_getElem? (i := 25) rfl)⟩
def lw_privs_3 : List (MethodName × Nat) := [(⟨"FourCars$Tower", "newWay", "(I)I"⟩, 12), (⟨"FourCars$Tower", "firstHere", "(I)I"⟩, 12), (⟨"FourCars$Tower", "isTarget", "(I)Z"⟩, 12), (⟨"FourCars$Tower", "goIn", "(I)I"⟩, 12), (⟨"FourCars", "isOne", "(I)Z"⟩, 30), (⟨"FourCars", "greatestOver", "()I"⟩, 30), (⟨"FourCars", "overBy", "(I)J"⟩, 30), (⟨"FourCars", "canGive", "()Z"⟩, 30), (⟨"FourCars", "findsBest", "()I"⟩, 30), (⟨"FourCars", "gives", "(I)Z"⟩, 30), (⟨"FourCars", "overOf", "(IIII)I"⟩, 30), (⟨"FourCars", "comes", "(II)V"⟩, 30), (⟨"FourCars", "findsPlaces", "(I)I"⟩, 30), (⟨"FourCars", "findsAbove", "(I)V"⟩, 30), (⟨"FourCars", "between", "(II)I"⟩, 30), (⟨"FourCars", "below", "(I)I"⟩, 30)]
theorem lw_r3 : ∀ q ∈ lw_privs_3, lw_okq q := List.forall_mem_cons.mpr ⟨lw_p32, List.forall_mem_cons.mpr ⟨lw_p33, List.forall_mem_cons.mpr ⟨lw_p34, List.forall_mem_cons.mpr ⟨lw_p35, List.forall_mem_cons.mpr ⟨lw_p36, List.forall_mem_cons.mpr ⟨lw_p37, List.forall_mem_cons.mpr ⟨lw_p38, List.forall_mem_cons.mpr ⟨lw_p39, List.forall_mem_cons.mpr ⟨lw_p40, List.forall_mem_cons.mpr ⟨lw_p41, List.forall_mem_cons.mpr ⟨lw_p42, List.forall_mem_cons.mpr ⟨lw_p43, List.forall_mem_cons.mpr ⟨lw_p44, List.forall_mem_cons.mpr ⟨lw_p45, List.forall_mem_cons.mpr ⟨lw_p46, List.forall_mem_cons.mpr ⟨lw_p47, fun _ h => absurd h List.not_mem_nil⟩⟩⟩⟩⟩⟩⟩⟩⟩⟩⟩⟩⟩⟩⟩⟩
theorem lw_p48 : lw_okq (⟨"FourCars", "cutsOn", "(III)V"⟩, 30) := ⟨⟨by decide +kernel, by decide +kernel⟩, lw_t1 (List.mem_of_getElem? (i := 28) rfl), lw_t5 (List.mem_of_getElem? (i := 32) rfl), lw_t5 (List.mem_of_getElem? (i := 33) rfl)⟩
theorem lw_p49 : lw_okq (⟨"FourCars", "zoneOf", "(II)I"⟩, 30) := ⟨⟨by decide +kernel, by decide +kernel⟩, lw_t1 (List.mem_of_getElem? (i := 28) rfl), lw_t5 (List.mem_of_getElem? (i := 36) rfl), lw_t5 (List.mem_of_getElem? (i := 37) rfl)⟩
theorem lw_p50 : lw_okq (⟨"FourCarsModel", "next0", "()V"⟩, 39) := ⟨⟨by decide +kernel, by decide +kernel⟩, lw_t5 (List.mem_of_getElem? (i := 48) rfl), lw_t5 (List.mem_of_getElem? (i := 187) rfl), lw_t5 (List.mem_of_getElem? (i := 188) rfl)⟩
theorem lw_p51 : lw_okq (⟨"FourCarsModel", "see", "(I)I"⟩, 39) := ⟨⟨by decide +kernel, by decide +kernel⟩, lw_t5 (List.mem_of_getElem? (i := 48) rfl), lw_t5 (List.mem_of_getElem? (i := 191) rfl), lw_t5 (List.mem_of_getElem? (i := 192) rfl)⟩
theorem lw_p52 : lw_okq (⟨"FourCarsModel", "word", "()I"⟩, 39) := ⟨⟨by decide +kernel, by decide +kernel⟩, lw_t5 (List.mem_of_getElem? (i := 48) rfl), lw_t5 (List.mem_of_getElem? (i := 198) rfl), lw_t5 (List.mem_of_getElem? (i := 199) rfl)⟩
theorem lw_p53 : lw_okq (⟨"FourCarsModel", "towerWord", "()I"⟩, 39) := ⟨⟨by decide +kernel, by decide +kernel⟩, lw_t5 (List.mem_of_getElem? (i := 48) rfl), lw_t5 (List.mem_of_getElem? (i := 202) rfl), lw_t5 (List.mem_of_getElem? (i := 203) rfl)⟩
theorem lw_p54 : lw_okq (⟨"FourCarsModel", "is", "(Ljava/lang/String;)Z"⟩, 39) := ⟨⟨by decide +kernel, by decide +kernel⟩, lw_t5 (List.mem_of_getElem? (i := 48) rfl), lw_t5 (List.mem_of_getElem? (i := 207) rfl), lw_t5 (List.mem_of_getElem? (i := 208) rfl)⟩
theorem lw_p55 : lw_okq (⟨"FourCarsModel", "nameWord", "()I"⟩, 39) := ⟨⟨by decide +kernel, by decide +kernel⟩, lw_t5 (List.mem_of_getElem? (i := 48) rfl), lw_t5 (List.mem_of_getElem? (i := 221) rfl), lw_t5 (List.mem_of_getElem? (i := 222) rfl)⟩
theorem lw_p56 : lw_okq (⟨"FourCarsModel", "aLine", "()Z"⟩, 39) := ⟨⟨by decide +kernel, by decide +kernel⟩, lw_t5 (List.mem_of_getElem? (i := 48) rfl), lw_t5 (List.mem_of_getElem? (i := 237) rfl), lw_t5 (List.mem_of_getElem? (i := 238) rfl)⟩
theorem lw_p57 : lw_okq (⟨"FourCarsModel", "bad", "(I)Z"⟩, 39) := ⟨⟨by decide +kernel, by decide +kernel⟩, lw_t5 (List.mem_of_getElem? (i := 48) rfl), lw_t6 (List.mem_of_getElem? (i := 1) rfl), lw_t6 (List.mem_of_getElem? (i := 2) rfl)⟩
theorem lw_p58 : lw_okq (⟨"FourCarsModel", "sumUp", "()Z"⟩, 39) := ⟨⟨by decide +kernel, by decide +kernel⟩, lw_t5 (List.mem_of_getElem? (i := 48) rfl), lw_t6 (List.mem_of_getElem? (i := 5) rfl), lw_t6 (List.mem_of_getElem? (i := 6) rfl)⟩
theorem lw_p59 : lw_okq (⟨"FourCarsModel", "product", "()Z"⟩, 39) := ⟨⟨by decide +kernel, by decide +kernel⟩, lw_t5 (List.mem_of_getElem? (i := 48) rfl), lw_t6 (List.mem_of_getElem? (i := 9) rfl), lw_t6 (List.mem_of_getElem? (i := 10) rfl)⟩
theorem lw_p60 : lw_okq (⟨"FourCarsModel", "unit", "()Z"⟩, 39) := ⟨⟨by decide +kernel, by decide +kernel⟩, lw_t5 (List.mem_of_getElem? (i := 48) rfl), lw_t6 (List.mem_of_getElem? (i := 13) rfl), lw_t6 (List.mem_of_getElem? (i := 14) rfl)⟩
theorem lw_p61 : lw_okq (⟨"FourCarsModel", "lay", "(II)V"⟩, 39) := ⟨⟨by decide +kernel, by decide +kernel⟩, lw_t5 (List.mem_of_getElem? (i := 48) rfl), lw_t6 (List.mem_of_getElem? (i := 17) rfl), lw_t6 (List.mem_of_getElem? (i := 18) rfl)⟩
theorem lw_p62 : lw_okq (⟨"FourCarsModel", "any", "()Z"⟩, 39) := ⟨⟨by decide +kernel, by decide +kernel⟩, lw_t5 (List.mem_of_getElem? (i := 48) rfl), lw_t6 (List.mem_of_getElem? (i := 21) rfl), lw_t6 (List.mem_of_getElem? (i := 22) rfl)⟩
theorem lw_p63 : lw_okq (⟨"FourCarsModel", "every", "()Z"⟩, 39) := ⟨⟨by decide +kernel, by decide +kernel⟩, lw_t5 (List.mem_of_getElem? (i := 48) rfl), lw_t6 (List.mem_of_getElem? (i := 25) rfl), lw_t6 (List.mem_of_getElem? (i := 26) rfl)⟩
def lw_privs_4 : List (MethodName × Nat) := [(⟨"FourCars", "cutsOn", "(III)V"⟩, 30), (⟨"FourCars", "zoneOf", "(II)I"⟩, 30), (⟨"FourCarsModel", "next0", "()V"⟩, 39), (⟨"FourCarsModel", "see", "(I)I"⟩, 39), (⟨"FourCarsModel", "word", "()I"⟩, 39), (⟨"FourCarsModel", "towerWord", "()I"⟩, 39), (⟨"FourCarsModel", "is", "(Ljava/lang/String;)Z"⟩, 39), (⟨"FourCarsModel", "nameWord", "()I"⟩, 39), (⟨"FourCarsModel", "aLine", "()Z"⟩, 39), (⟨"FourCarsModel", "bad", "(I)Z"⟩, 39), (⟨"FourCarsModel", "sumUp", "()Z"⟩, 39), (⟨"FourCarsModel", "product", "()Z"⟩, 39), (⟨"FourCarsModel", "unit", "()Z"⟩, 39), (⟨"FourCarsModel", "lay", "(II)V"⟩, 39), (⟨"FourCarsModel", "any", "()Z"⟩, 39), (⟨"FourCarsModel", "every", "()Z"⟩, 39)]
theorem lw_r4 : ∀ q ∈ lw_privs_4, lw_okq q := List.forall_mem_cons.mpr ⟨lw_p48, List.forall_mem_cons.mpr ⟨lw_p49, List.forall_mem_cons.mpr ⟨lw_p50, List.forall_mem_cons.mpr ⟨lw_p51, List.forall_mem_cons.mpr ⟨lw_p52, List.forall_mem_cons.mpr ⟨lw_p53, List.forall_mem_cons.mpr ⟨lw_p54, List.forall_mem_cons.mpr ⟨lw_p55, List.forall_mem_cons.mpr ⟨lw_p56, List.forall_mem_cons.mpr ⟨lw_p57, List.forall_mem_cons.mpr ⟨lw_p58, List.forall_mem_cons.mpr ⟨lw_p59, List.forall_mem_cons.mpr ⟨lw_p60, List.forall_mem_cons.mpr ⟨lw_p61, List.forall_mem_cons.mpr ⟨lw_p62, List.forall_mem_cons.mpr ⟨lw_p63, fun _ h => absurd h List.not_mem_nil⟩⟩⟩⟩⟩⟩⟩⟩⟩⟩⟩⟩⟩⟩⟩⟩
theorem lw_p64 : lw_okq (⟨"FourCarsModel", "oneTest", "()Z"⟩, 39) := ⟨⟨by decide +kernel, by decide +kernel⟩, lw_t5 (List.mem_of_getElem? (i := 48) rfl), lw_t6 (List.mem_of_getElem? (i := 29) rfl), lw_t6 (List.mem_of_getElem? (i := 30) rfl)⟩
theorem lw_p65 : lw_okq (⟨"FourCarsModel", "opens", "()Z"⟩, 39) := ⟨⟨by decide +kernel, by decide +kernel⟩, lw_t5 (List.mem_of_getElem? (i := 48) rfl), lw_t6 (List.mem_of_getElem? (i := 33) rfl), lw_t6 (List.mem_of_getElem? (i := 34) rfl)⟩
theorem lw_p66 : lw_okq (⟨"FourCarsModel", "need", "(I)Z"⟩, 39) := ⟨⟨by decide +kernel, by decide +kernel⟩, lw_t5 (List.mem_of_getElem? (i := 48) rfl), lw_t6 (List.mem_of_getElem? (i := 37) rfl), lw_t6 (List.mem_of_getElem? (i := 38) rfl)⟩
theorem lw_p67 : lw_okq (⟨"FourCarsModel", "aTowerLine", "()Z"⟩, 39) := ⟨⟨by decide +kernel, by decide +kernel⟩, lw_t5 (List.mem_of_getElem? (i := 48) rfl), lw_t6 (List.mem_of_getElem? (i := 41) rfl), lw_t6 (List.mem_of_getElem? (i := 42) rfl)⟩
theorem lw_p68 : lw_okq (⟨"FourCarsModel", "floors", "()Z"⟩, 39) := ⟨⟨by decide +kernel, by decide +kernel⟩, lw_t5 (List.mem_of_getElem? (i := 48) rfl), lw_t6 (List.mem_of_getElem? (i := 45) rfl), lw_t6 (List.mem_of_getElem? (i := 46) rfl)⟩
theorem lw_p69 : lw_okq (⟨"FourCarsModel", "number", "(II)Z"⟩, 39) := ⟨⟨by decide +kernel, by decide +kernel⟩, lw_t5 (List.mem_of_getElem? (i := 48) rfl), lw_t6 (List.mem_of_getElem? (i := 49) rfl), lw_t6 (List.mem_of_getElem? (i := 50) rfl)⟩
theorem lw_p70 : lw_okq (⟨"FourCarsModel", "aCar", "()Z"⟩, 39) := ⟨⟨by decide +kernel, by decide +kernel⟩, lw_t5 (List.mem_of_getElem? (i := 48) rfl), lw_t6 (List.mem_of_getElem? (i := 53) rfl), lw_t6 (List.mem_of_getElem? (i := 54) rfl)⟩
theorem lw_p71 : lw_okq (⟨"FourCarsModel", "skip", "()Z"⟩, 39) := ⟨⟨by decide +kernel, by decide +kernel⟩, lw_t5 (List.mem_of_getElem? (i := 48) rfl), lw_t6 (List.mem_of_getElem? (i := 57) rfl), lw_t6 (List.mem_of_getElem? (i := 58) rfl)⟩
theorem lw_p72 : lw_okq (⟨"FourCarsModel", "keepsRule", "(I)V"⟩, 39) := ⟨⟨by decide +kernel, by decide +kernel⟩, lw_t5 (List.mem_of_getElem? (i := 48) rfl), lw_t6 (List.mem_of_getElem? (i := 61) rfl), lw_t6 (List.mem_of_getElem? (i := 62) rfl)⟩
theorem lw_p73 : lw_okq (⟨"FourCarsModel", "keepsTower", "()V"⟩, 39) := ⟨⟨by decide +kernel, by decide +kernel⟩, lw_t5 (List.mem_of_getElem? (i := 48) rfl), lw_t6 (List.mem_of_getElem? (i := 65) rfl), lw_t6 (List.mem_of_getElem? (i := 66) rfl)⟩
theorem lw_p74 : lw_okq (⟨"FourCarsModel", "sets", "(III)V"⟩, 39) := ⟨⟨by decide +kernel, by decide +kernel⟩, lw_t5 (List.mem_of_getElem? (i := 48) rfl), lw_t6 (List.mem_of_getElem? (i := 69) rfl), lw_t6 (List.mem_of_getElem? (i := 70) rfl)⟩
theorem lw_p75 : lw_okq (⟨"FourCarsModel", "parks", "()V"⟩, 39) := ⟨⟨by decide +kernel, by decide +kernel⟩, lw_t5 (List.mem_of_getElem? (i := 48) rfl), lw_t6 (List.mem_of_getElem? (i := 73) rfl), lw_t6 (List.mem_of_getElem? (i := 74) rfl)⟩
theorem lw_p76 : lw_okq (⟨"FourCarsModel", "ofCar", "(II)I"⟩, 39) := ⟨⟨by decide +kernel, by decide +kernel⟩, lw_t5 (List.mem_of_getElem? (i := 48) rfl), lw_t6 (List.mem_of_getElem? (i := 77) rfl), lw_t6 (List.mem_of_getElem? (i := 78) rfl)⟩
theorem lw_p77 : lw_okq (⟨"FourCarsModel", "isFloor", "(I)Z"⟩, 39) := ⟨⟨by decide +kernel, by decide +kernel⟩, lw_t5 (List.mem_of_getElem? (i := 48) rfl), lw_t6 (List.mem_of_getElem? (i := 89) rfl), lw_t6 (List.mem_of_getElem? (i := 90) rfl)⟩
theorem lw_p78 : lw_okq (⟨"FourCarsModel", "comes", "(III)V"⟩, 39) := ⟨⟨by decide +kernel, by decide +kernel⟩, lw_t5 (List.mem_of_getElem? (i := 48) rfl), lw_t6 (List.mem_of_getElem? (i := 93) rfl), lw_t6 (List.mem_of_getElem? (i := 94) rfl)⟩
theorem lw_p79 : lw_okq (⟨"FourCarsModel", "gives", "(III)V"⟩, 39) := ⟨⟨by decide +kernel, by decide +kernel⟩, lw_t5 (List.mem_of_getElem? (i := 48) rfl), lw_t6 (List.mem_of_getElem? (i := 97) rfl), lw_t6 (List.mem_of_getElem? (i := 98) rfl)⟩
def lw_privs_5 : List (MethodName × Nat) := [(⟨"FourCarsModel", "oneTest", "()Z"⟩, 39), (⟨"FourCarsModel", "opens", "()Z"⟩, 39), (⟨"FourCarsModel", "need", "(I)Z"⟩, 39), (⟨"FourCarsModel", "aTowerLine", "()Z"⟩, 39), (⟨"FourCarsModel", "floors", "()Z"⟩, 39), (⟨"FourCarsModel", "number", "(II)Z"⟩, 39), (⟨"FourCarsModel", "aCar", "()Z"⟩, 39), (⟨"FourCarsModel", "skip", "()Z"⟩, 39), (⟨"FourCarsModel", "keepsRule", "(I)V"⟩, 39), (⟨"FourCarsModel", "keepsTower", "()V"⟩, 39), (⟨"FourCarsModel", "sets", "(III)V"⟩, 39), (⟨"FourCarsModel", "parks", "()V"⟩, 39), (⟨"FourCarsModel", "ofCar", "(II)I"⟩, 39), (⟨"FourCarsModel", "isFloor", "(I)Z"⟩, 39), (⟨"FourCarsModel", "comes", "(III)V"⟩, 39), (⟨"FourCarsModel", "gives", "(III)V"⟩, 39)]
theorem lw_r5 : ∀ q ∈ lw_privs_5, lw_okq q := List.forall_mem_cons.mpr ⟨lw_p64, List.forall_mem_cons.mpr ⟨lw_p65, List.forall_mem_cons.mpr ⟨lw_p66, List.forall_mem_cons.mpr ⟨lw_p67, List.forall_mem_cons.mpr ⟨lw_p68, List.forall_mem_cons.mpr ⟨lw_p69, List.forall_mem_cons.mpr ⟨lw_p70, List.forall_mem_cons.mpr ⟨lw_p71, List.forall_mem_cons.mpr ⟨lw_p72, List.forall_mem_cons.mpr ⟨lw_p73, List.forall_mem_cons.mpr ⟨lw_p74, List.forall_mem_cons.mpr ⟨lw_p75, List.forall_mem_cons.mpr ⟨lw_p76, List.forall_mem_cons.mpr ⟨lw_p77, List.forall_mem_cons.mpr ⟨lw_p78, List.forall_mem_cons.mpr ⟨lw_p79, fun _ h => absurd h List.not_mem_nil⟩⟩⟩⟩⟩⟩⟩⟩⟩⟩⟩⟩⟩⟩⟩⟩
theorem lw_p80 : lw_okq (⟨"FourCarsModel", "isCar", "(I)Z"⟩, 39) := ⟨⟨by decide +kernel, by decide +kernel⟩, lw_t5 (List.mem_of_getElem? (i := 48) rfl), lw_t6 (List.mem_of_getElem? (i := 105) rfl), lw_t6 (List.mem_of_getElem? (i := 106) rfl)⟩
theorem lw_p81 : lw_okq (⟨"FourCarsModel", "takesOut", "(I)V"⟩, 39) := ⟨⟨by decide +kernel, by decide +kernel⟩, lw_t5 (List.mem_of_getElem? (i := 48) rfl), lw_t6 (List.mem_of_getElem? (i := 109) rfl), lw_t6 (List.mem_of_getElem? (i := 110) rfl)⟩
theorem lw_p82 : lw_okq (⟨"FourCarsModel", "own", "(II)I"⟩, 39) := ⟨⟨by decide +kernel, by decide +kernel⟩, lw_t5 (List.mem_of_getElem? (i := 48) rfl), lw_t6 (List.mem_of_getElem? (i := 113) rfl), lw_t6 (List.mem_of_getElem? (i := 114) rfl)⟩
theorem lw_p83 : lw_okq (⟨"FourCarsModel", "isOne", "(I)Z"⟩, 39) := ⟨⟨by decide +kernel, by decide +kernel⟩, lw_t5 (List.mem_of_getElem? (i := 48) rfl), lw_t6 (List.mem_of_getElem? (i := 121) rfl), lw_t6 (List.mem_of_getElem? (i := 122) rfl)⟩
theorem lw_p84 : lw_okq (⟨"FourCarsModel", "tells", "(III)Z"⟩, 39) := ⟨⟨by decide +kernel, by decide +kernel⟩, lw_t5 (List.mem_of_getElem? (i := 48) rfl), lw_t6 (List.mem_of_getElem? (i := 125) rfl), lw_t6 (List.mem_of_getElem? (i := 126) rfl)⟩
theorem lw_p85 : lw_okq (⟨"FourCarsModel", "wayOf", "(I)I"⟩, 39) := ⟨⟨by decide +kernel, by decide +kernel⟩, lw_t5 (List.mem_of_getElem? (i := 48) rfl), lw_t6 (List.mem_of_getElem? (i := 132) rfl), lw_t6 (List.mem_of_getElem? (i := 133) rfl)⟩
theorem lw_p86 : lw_okq (⟨"FourCarsModel", "riding", "(I)I"⟩, 39) := ⟨⟨by decide +kernel, by decide +kernel⟩, lw_t5 (List.mem_of_getElem? (i := 48) rfl), lw_t6 (List.mem_of_getElem? (i := 136) rfl), lw_t6 (List.mem_of_getElem? (i := 137) rfl)⟩
theorem lw_p87 : lw_okq (⟨"FourCarsModel", "given", "(I)I"⟩, 39) := ⟨⟨by decide +kernel, by decide +kernel⟩, lw_t5 (List.mem_of_getElem? (i := 48) rfl), lw_t6 (List.mem_of_getElem? (i := 140) rfl), lw_t6 (List.mem_of_getElem? (i := 141) rfl)⟩
theorem lw_p88 : lw_okq (⟨"FourCarsModel", "comesTo", "(III)I"⟩, 39) := ⟨⟨by decide +kernel, by decide +kernel⟩, lw_t5 (List.mem_of_getElem? (i := 48) rfl), lw_t6 (List.mem_of_getElem? (i := 144) rfl), lw_t6 (List.mem_of_getElem? (i := 145) rfl)⟩
theorem lw_p89 : lw_okq (⟨"FourCarsModel", "there", "()I"⟩, 39) := ⟨⟨by decide +kernel, by decide +kernel⟩, lw_t5 (List.mem_of_getElem? (i := 48) rfl), lw_t6 (List.mem_of_getElem? (i := 156) rfl), lw_t6 (List.mem_of_getElem? (i := 157) rfl)⟩
theorem lw_p90 : lw_okq (⟨"FourCarsModel", "aSecond", "()V"⟩, 39) := ⟨⟨by decide +kernel, by decide +kernel⟩, lw_t5 (List.mem_of_getElem? (i := 48) rfl), lw_t6 (List.mem_of_getElem? (i := 160) rfl), lw_t6 (List.mem_of_getElem? (i := 161) rfl)⟩
theorem lw_p91 : lw_okq (⟨"FourCarsModel", "givesCall", "(I)V"⟩, 39) := ⟨⟨by decide +kernel, by decide +kernel⟩, lw_t5 (List.mem_of_getElem? (i := 48) rfl), lw_t6 (List.mem_of_getElem? (i := 164) rfl), lw_t6 (List.mem_of_getElem? (i := 165) rfl)⟩
theorem lw_p92 : lw_okq (⟨"FourCarsModel", "serves", "(II)Z"⟩, 39) := ⟨⟨by decide +kernel, by decide +kernel⟩, lw_t5 (List.mem_of_getElem? (i := 48) rfl), lw_t6 (List.mem_of_getElem? (i := 168) rfl), lw_t6 (List.mem_of_getElem? (i := 169) rfl)⟩
theorem lw_p93 : lw_okq (⟨"FourCarsModel", "aCarsSecond", "(I)V"⟩, 39) := ⟨⟨by decide +kernel, by decide +kernel⟩, lw_t5 (List.mem_of_getElem? (i := 48) rfl), lw_t6 (List.mem_of_getElem? (i := 172) rfl), lw_t6 (List.mem_of_getElem? (i := 173) rfl)⟩
theorem lw_p94 : lw_okq (⟨"FourCarsModel", "looks", "(I)V"⟩, 39) := ⟨⟨by decide +kernel, by decide +kernel⟩, lw_t5 (List.mem_of_getElem? (i := 48) rfl), lw_t6 (List.mem_of_getElem? (i := 176) rfl), lw_t6 (List.mem_of_getElem? (i := 177) rfl)⟩
theorem lw_p95 : lw_okq (⟨"FourCarsModel", "goOut", "(I)I"⟩, 39) := ⟨⟨by decide +kernel, by decide +kernel⟩, lw_t5 (List.mem_of_getElem? (i := 48) rfl), lw_t6 (List.mem_of_getElem? (i := 180) rfl), lw_t6 (List.mem_of_getElem? (i := 181) rfl)⟩
def lw_privs_6 : List (MethodName × Nat) := [(⟨"FourCarsModel", "isCar", "(I)Z"⟩, 39), (⟨"FourCarsModel", "takesOut", "(I)V"⟩, 39), (⟨"FourCarsModel", "own", "(II)I"⟩, 39), (⟨"FourCarsModel", "isOne", "(I)Z"⟩, 39), (⟨"FourCarsModel", "tells", "(III)Z"⟩, 39), (⟨"FourCarsModel", "wayOf", "(I)I"⟩, 39), (⟨"FourCarsModel", "riding", "(I)I"⟩, 39), (⟨"FourCarsModel", "given", "(I)I"⟩, 39), (⟨"FourCarsModel", "comesTo", "(III)I"⟩, 39), (⟨"FourCarsModel", "there", "()I"⟩, 39), (⟨"FourCarsModel", "aSecond", "()V"⟩, 39), (⟨"FourCarsModel", "givesCall", "(I)V"⟩, 39), (⟨"FourCarsModel", "serves", "(II)Z"⟩, 39), (⟨"FourCarsModel", "aCarsSecond", "(I)V"⟩, 39), (⟨"FourCarsModel", "looks", "(I)V"⟩, 39), (⟨"FourCarsModel", "goOut", "(I)I"⟩, 39)]
theorem lw_r6 : ∀ q ∈ lw_privs_6, lw_okq q := List.forall_mem_cons.mpr ⟨lw_p80, List.forall_mem_cons.mpr ⟨lw_p81, List.forall_mem_cons.mpr ⟨lw_p82, List.forall_mem_cons.mpr ⟨lw_p83, List.forall_mem_cons.mpr ⟨lw_p84, List.forall_mem_cons.mpr ⟨lw_p85, List.forall_mem_cons.mpr ⟨lw_p86, List.forall_mem_cons.mpr ⟨lw_p87, List.forall_mem_cons.mpr ⟨lw_p88, List.forall_mem_cons.mpr ⟨lw_p89, List.forall_mem_cons.mpr ⟨lw_p90, List.forall_mem_cons.mpr ⟨lw_p91, List.forall_mem_cons.mpr ⟨lw_p92, List.forall_mem_cons.mpr ⟨lw_p93, List.forall_mem_cons.mpr ⟨lw_p94, List.forall_mem_cons.mpr ⟨lw_p95, fun _ h => absurd h List.not_mem_nil⟩⟩⟩⟩⟩⟩⟩⟩⟩⟩⟩⟩⟩⟩⟩⟩
theorem lw_p96 : lw_okq (⟨"FourCarsModel", "nearest", "(II)I"⟩, 39) := ⟨⟨by decide +kernel, by decide +kernel⟩, lw_t5 (List.mem_of_getElem? (i := 48) rfl), lw_t6 (List.mem_of_getElem? (i := 184) rfl), lw_t6 (List.mem_of_getElem? (i := 185) rfl)⟩
theorem lw_p97 : lw_okq (⟨"FourCarsModel", "targetOf", "(II)I"⟩, 39) := ⟨⟨by decide +kernel, by decide +kernel⟩, lw_t5 (List.mem_of_getElem? (i := 48) rfl), lw_t6 (List.mem_of_getElem? (i := 188) rfl), lw_t6 (List.mem_of_getElem? (i := 189) rfl)⟩
theorem lw_p98 : lw_okq (⟨"FourCarsModel", "newWay", "(I)I"⟩, 39) := ⟨⟨by decide +kernel, by decide +kernel⟩, lw_t5 (List.mem_of_getElem? (i := 48) rfl), lw_t6 (List.mem_of_getElem? (i := 192) rfl), lw_t6 (List.mem_of_getElem? (i := 193) rfl)⟩
theorem lw_p99 : lw_okq (⟨"FourCarsModel", "firstHere", "(I)I"⟩, 39) := ⟨⟨by decide +kernel, by decide +kernel⟩, lw_t5 (List.mem_of_getElem? (i := 48) rfl), lw_t6 (List.mem_of_getElem? (i := 196) rfl), lw_t6 (List.mem_of_getElem? (i := 197) rfl)⟩
theorem lw_p100 : lw_okq (⟨"FourCarsModel", "goIn", "(I)I"⟩, 39) := ⟨⟨by decide +kernel, by decide +kernel⟩, lw_t5 (List.mem_of_getElem? (i := 48) rfl), lw_t6 (List.mem_of_getElem? (i := 200) rfl), lw_t6 (List.mem_of_getElem? (i := 201) rfl)⟩
theorem lw_p101 : lw_okq (⟨"FourCarsModel", "setsOut", "()V"⟩, 39) := ⟨⟨by decide +kernel, by decide +kernel⟩, lw_t5 (List.mem_of_getElem? (i := 48) rfl), lw_t6 (List.mem_of_getElem? (i := 221) rfl), lw_t6 (List.mem_of_getElem? (i := 222) rfl)⟩
theorem lw_p102 : lw_okq (⟨"FourCarsModel", "ends", "(I)Z"⟩, 39) := ⟨⟨by decide +kernel, by decide +kernel⟩, lw_t5 (List.mem_of_getElem? (i := 48) rfl), lw_t6 (List.mem_of_getElem? (i := 225) rfl), lw_t6 (List.mem_of_getElem? (i := 226) rfl)⟩
theorem lw_p103 : lw_okq (⟨"FourCarsModel", "overAll", "(I)I"⟩, 39) := ⟨⟨by decide +kernel, by decide +kernel⟩, lw_t5 (List.mem_of_getElem? (i := 48) rfl), lw_t6 (List.mem_of_getElem? (i := 229) rfl), lw_t6 (List.mem_of_getElem? (i := 230) rfl)⟩
theorem lw_p104 : lw_okq (⟨"FourCarsModel", "over", "(I)I"⟩, 39) := ⟨⟨by decide +kernel, by decide +kernel⟩, lw_t5 (List.mem_of_getElem? (i := 48) rfl), lw_t6 (List.mem_of_getElem? (i := 233) rfl), lw_t6 (List.mem_of_getElem? (i := 234) rfl)⟩
theorem lw_p105 : lw_okq (⟨"FourCarsModel", "comesBack", "()V"⟩, 39) := ⟨⟨by decide +kernel, by decide +kernel⟩, lw_t5 (List.mem_of_getElem? (i := 48) rfl), lw_t6 (List.mem_of_getElem? (i := 237) rfl), lw_t6 (List.mem_of_getElem? (i := 238) rfl)⟩
theorem lw_p106 : lw_okq (⟨"FourCarsModel", "canGive", "()Z"⟩, 39) := ⟨⟨by decide +kernel, by decide +kernel⟩, lw_t5 (List.mem_of_getElem? (i := 48) rfl), lw_t7 (List.mem_of_getElem? (i := 10) rfl), lw_t7 (List.mem_of_getElem? (i := 11) rfl)⟩
theorem lw_p107 : lw_okq (⟨"FourCarsModel", "triesGiving", "(I)V"⟩, 39) := ⟨⟨by decide +kernel, by decide +kernel⟩, lw_t5 (List.mem_of_getElem? (i := 48) rfl), lw_t7 (List.mem_of_getElem? (i := 14) rfl), lw_t7 (List.mem_of_getElem? (i := 15) rfl)⟩
theorem lw_p108 : lw_okq (⟨"FourCarsModel", "overOf", "(IIII)I"⟩, 39) := ⟨⟨by decide +kernel, by decide +kernel⟩, lw_t5 (List.mem_of_getElem? (i := 48) rfl), lw_t7 (List.mem_of_getElem? (i := 22) rfl), lw_t7 (List.mem_of_getElem? (i := 23) rfl)⟩
theorem lw_p109 : lw_okq (⟨"FourCarsModel", "laysCall", "(I)V"⟩, 39) := ⟨⟨by decide +kernel, by decide +kernel⟩, lw_t5 (List.mem_of_getElem? (i := 48) rfl), lw_t7 (List.mem_of_getElem? (i := 26) rfl), lw_t7 (List.mem_of_getElem? (i := 27) rfl)⟩
theorem lw_p110 : lw_okq (⟨"FourCarsModel", "laysAbove", "(I)V"⟩, 39) := ⟨⟨by decide +kernel, by decide +kernel⟩, lw_t5 (List.mem_of_getElem? (i := 48) rfl), lw_t7 (List.mem_of_getElem? (i := 40) rfl), lw_t7 (List.mem_of_getElem? (i := 41) rfl)⟩
theorem lw_p111 : lw_okq (⟨"FourCarsModel", "between", "(II)I"⟩, 39) := ⟨⟨by decide +kernel, by decide +kernel⟩, lw_t5 (List.mem_of_getElem? (i := 48) rfl), lw_t7 (List.mem_of_getElem? (i := 44) rfl), lw_t7 (List.mem_of_getElem? (i := 45) rfl)⟩
def lw_privs_7 : List (MethodName × Nat) := [(⟨"FourCarsModel", "nearest", "(II)I"⟩, 39), (⟨"FourCarsModel", "targetOf", "(II)I"⟩, 39), (⟨"FourCarsModel", "newWay", "(I)I"⟩, 39), (⟨"FourCarsModel", "firstHere", "(I)I"⟩, 39), (⟨"FourCarsModel", "goIn", "(I)I"⟩, 39), (⟨"FourCarsModel", "setsOut", "()V"⟩, 39), (⟨"FourCarsModel", "ends", "(I)Z"⟩, 39), (⟨"FourCarsModel", "overAll", "(I)I"⟩, 39), (⟨"FourCarsModel", "over", "(I)I"⟩, 39), (⟨"FourCarsModel", "comesBack", "()V"⟩, 39), (⟨"FourCarsModel", "canGive", "()Z"⟩, 39), (⟨"FourCarsModel", "triesGiving", "(I)V"⟩, 39), (⟨"FourCarsModel", "overOf", "(IIII)I"⟩, 39), (⟨"FourCarsModel", "laysCall", "(I)V"⟩, 39), (⟨"FourCarsModel", "laysAbove", "(I)V"⟩, 39), (⟨"FourCarsModel", "between", "(II)I"⟩, 39)]
theorem lw_r7 : ∀ q ∈ lw_privs_7, lw_okq q := List.forall_mem_cons.mpr ⟨lw_p96, List.forall_mem_cons.mpr ⟨lw_p97, List.forall_mem_cons.mpr ⟨lw_p98, List.forall_mem_cons.mpr ⟨lw_p99, List.forall_mem_cons.mpr ⟨lw_p100, List.forall_mem_cons.mpr ⟨lw_p101, List.forall_mem_cons.mpr ⟨lw_p102, List.forall_mem_cons.mpr ⟨lw_p103, List.forall_mem_cons.mpr ⟨lw_p104, List.forall_mem_cons.mpr ⟨lw_p105, List.forall_mem_cons.mpr ⟨lw_p106, List.forall_mem_cons.mpr ⟨lw_p107, List.forall_mem_cons.mpr ⟨lw_p108, List.forall_mem_cons.mpr ⟨lw_p109, List.forall_mem_cons.mpr ⟨lw_p110, List.forall_mem_cons.mpr ⟨lw_p111, fun _ h => absurd h List.not_mem_nil⟩⟩⟩⟩⟩⟩⟩⟩⟩⟩⟩⟩⟩⟩⟩⟩
theorem lw_p112 : lw_okq (⟨"FourCarsModel", "weight", "(I)I"⟩, 39) := ⟨⟨by decide +kernel, by decide +kernel⟩, lw_t5 (List.mem_of_getElem? (i := 48) rfl), lw_t7 (List.mem_of_getElem? (i := 48) rfl), lw_t7 (List.mem_of_getElem? (i := 49) rfl)⟩
theorem lw_p113 : lw_okq (⟨"FourCarsModel", "below", "(I)I"⟩, 39) := ⟨⟨by decide +kernel, by decide +kernel⟩, lw_t5 (List.mem_of_getElem? (i := 48) rfl), lw_t7 (List.mem_of_getElem? (i := 52) rfl), lw_t7 (List.mem_of_getElem? (i := 53) rfl)⟩
theorem lw_p114 : lw_okq (⟨"FourCarsModel", "triesCuts", "(IIII)V"⟩, 39) := ⟨⟨by decide +kernel, by decide +kernel⟩, lw_t5 (List.mem_of_getElem? (i := 48) rfl), lw_t7 (List.mem_of_getElem? (i := 60) rfl), lw_t7 (List.mem_of_getElem? (i := 61) rfl)⟩
theorem lw_p115 : lw_okq (⟨"FourCarsModel", "zone", "(II)I"⟩, 39) := ⟨⟨by decide +kernel, by decide +kernel⟩, lw_t5 (List.mem_of_getElem? (i := 48) rfl), lw_t7 (List.mem_of_getElem? (i := 64) rfl), lw_t7 (List.mem_of_getElem? (i := 65) rfl)⟩
theorem lw_p116 : lw_okq (⟨"FourCarsModel", "inState", "(I)I"⟩, 39) := ⟨⟨by decide +kernel, by decide +kernel⟩, lw_t5 (List.mem_of_getElem? (i := 48) rfl), lw_t7 (List.mem_of_getElem? (i := 76) rfl), lw_t7 (List.mem_of_getElem? (i := 77) rfl)⟩
def lw_privs_8 : List (MethodName × Nat) := [(⟨"FourCarsModel", "weight", "(I)I"⟩, 39), (⟨"FourCarsModel", "below", "(I)I"⟩, 39), (⟨"FourCarsModel", "triesCuts", "(IIII)V"⟩, 39), (⟨"FourCarsModel", "zone", "(II)I"⟩, 39), (⟨"FourCarsModel", "inState", "(I)I"⟩, 39)]
theorem lw_r8 : ∀ q ∈ lw_privs_8, lw_okq q := List.forall_mem_cons.mpr ⟨lw_p112, List.forall_mem_cons.mpr ⟨lw_p113, List.forall_mem_cons.mpr ⟨lw_p114, List.forall_mem_cons.mpr ⟨lw_p115, List.forall_mem_cons.mpr ⟨lw_p116, fun _ h => absurd h List.not_mem_nil⟩⟩⟩⟩⟩
def lw_privs : List (MethodName × Nat) := lw_privs_1 ++ (lw_privs_2 ++ (lw_privs_3 ++ (lw_privs_4 ++ (lw_privs_5 ++ (lw_privs_6 ++ (lw_privs_7 ++ (lw_privs_8)))))))
def lw_tbl : List Cond := k2_sels lw_privs ++ tables_1
theorem lw_privs_ok : ∀ q ∈ lw_privs, lw_okq q := by
  show ∀ q ∈ lw_privs_1 ++ (lw_privs_2 ++ (lw_privs_3 ++ (lw_privs_4 ++ (lw_privs_5 ++ (lw_privs_6 ++ (lw_privs_7 ++ (lw_privs_8))))))), lw_okq q
  exact List.forall_mem_append.mpr ⟨lw_r1, List.forall_mem_append.mpr ⟨lw_r2, List.forall_mem_append.mpr ⟨lw_r3, List.forall_mem_append.mpr ⟨lw_r4, List.forall_mem_append.mpr ⟨lw_r5, List.forall_mem_append.mpr ⟨lw_r6, List.forall_mem_append.mpr ⟨lw_r7, lw_r8⟩⟩⟩⟩⟩⟩⟩
-- ===== ONE list of words for every method: the tables' words that hold all through a run =====
def lw_all : List Cond := lw_tbl.filter goodWord
/-- a word of the tables by its place: claim/WORDS.tsv -/
theorem lw_w {w : Cond} (i : Nat) (h : lw_tbl[i]? = some w) (g : goodWord w = true) : w ∈ lw_all := List.mem_filter.mpr ⟨List.mem_of_getElem? h, g⟩
theorem lw_all_tbl {w : Cond} (h : w ∈ lw_all) : w ∈ lw_tbl := (List.mem_filter.mp h).1
theorem lw_self : GoodIn lw_all lw_all := fun w h => ⟨h, good_of_word (List.mem_filter.mp h).2⟩
/-- a class's field words, by their places -/
theorem lw_in (ws : List Cond) (ps : List Nat) (hp : ws = ps.filterMap (fun i => lw_tbl[i]?)) (hg : ws.all goodWord = true) : ∀ w ∈ ws, w ∈ lw_all := by
  intro w h
  have h1 := List.all_eq_true.mp hg w h
  rw [hp] at h
  obtain ⟨i, -, hi⟩ := List.mem_filterMap.mp h
  exact lw_w i hi h1
/-- the words of a contract for the method y with code b, L locals, answer r -/
abbrev ws_ (y : MethodName) (b : ByteArray) (L : Nat) (r : Option FieldType) : List Cond := Cond.code y b L r :: lw_all
theorem lw_meth {y : MethodName} {b : ByteArray} {L : Nat} {r : Option FieldType} (h : Cond.code y b L r ∈ lw_all) : GoodIn lw_all (ws_ y b L r) := by
  intro w hw
  rcases List.mem_cons.mp hw with e | e
  · rw [e]
    exact lw_self _ h
  · exact lw_self _ e
theorem lw_app {a c : List Cond} (ha : ∀ w ∈ a, w ∈ lw_all) (hc : GoodIn lw_all c) : GoodIn lw_all (a ++ c) := by
  intro w hw
  rcases List.mem_append.mp hw with e | e
  · exact lw_self w (ha w e)
  · exact hc w e
/-- what a call through an object asks: cwV n hts (lw_V ..) -/
theorem lw_V {own : String} {idx : Nat} {C : String} {y : MethodName} {b : ByteArray} {L : Nat} {r : Option FieldType} (h1 : Cond.methodLink own idx y ∈ lw_all) (h2 : Cond.instanceMethod y ∈ lw_all) (h3 : Cond.selects C y y ∈ lw_all) (h4 : Cond.initialized C ∈ lw_all) (h5 : Cond.code y b L r ∈ lw_all) : GoodIn lw_all (wsV own idx C y (ws_ y b L r)) := by
  refine lw_app ?_ (lw_meth h5)
  intro w hw
  simp only [List.mem_cons, List.not_mem_nil, or_false] at hw
  rcases hw with e | e | e | e
  · rw [e]; exact h1
  · rw [e]; exact h2
  · rw [e]; exact h3
  · rw [e]; exact h4
/-- what a static call asks: va_cwS n hts (lw_S ..) -/
theorem lw_S {own : String} {idx : Nat} {y : MethodName} {b : ByteArray} {L : Nat} {r : Option FieldType} (h1 : Cond.methodLink own idx y ∈ lw_all) (h2 : Cond.static y ∈ lw_all) (h3 : Cond.initialized y.cls ∈ lw_all) (h4 : Cond.code y b L r ∈ lw_all) : GoodIn lw_all (va_wsS own idx y (ws_ y b L r)) := by
  refine lw_app ?_ (lw_meth h4)
  intro w hw
  simp only [List.mem_cons, List.not_mem_nil, or_false] at hw
  rcases hw with e | e | e
  · rw [e]; exact h1
  · rw [e]; exact h2
  · rw [e]; exact h3
/-- the words of a contract for a method WITH HANDLERS (hh: its table) -/
abbrev wsW_ (y : MethodName) (b : ByteArray) (L : Nat) (r : Option FieldType) (hh : List (Nat × Nat × Nat × Nat)) : List Cond := Cond.codeWith y b L r hh :: lw_all
theorem lw_methW {y : MethodName} {b : ByteArray} {L : Nat} {r : Option FieldType} {hh : List (Nat × Nat × Nat × Nat)} (h : Cond.codeWith y b L r hh ∈ lw_all) : GoodIn lw_all (wsW_ y b L r hh) := by
  intro w hw
  rcases List.mem_cons.mp hw with e | e
  · rw [e]
    exact lw_self _ h
  · exact lw_self _ e
/-- any list of words by their places (lw_in), good -/
theorem lw_good {ws : List Cond} (h : ∀ w ∈ ws, w ∈ lw_all) : GoodIn lw_all ws := fun w hw => lw_self w (h w hw)
/-- what a call of a method with handlers asks: vx_cwVW n hts (lw_VW ..), vx_cwSW n hts (lw_SW ..) -/
theorem lw_VW {own : String} {idx : Nat} {C : String} {y : MethodName} {b : ByteArray} {L : Nat} {r : Option FieldType} {hh : List (Nat × Nat × Nat × Nat)} (h1 : Cond.methodLink own idx y ∈ lw_all) (h2 : Cond.instanceMethod y ∈ lw_all) (h3 : Cond.selects C y y ∈ lw_all) (h4 : Cond.initialized C ∈ lw_all) (h5 : Cond.codeWith y b L r hh ∈ lw_all) : GoodIn lw_all (wsV own idx C y (wsW_ y b L r hh)) := by
  refine lw_app ?_ (lw_methW h5)
  intro w hw
  simp only [List.mem_cons, List.not_mem_nil, or_false] at hw
  rcases hw with e | e | e | e
  · rw [e]; exact h1
  · rw [e]; exact h2
  · rw [e]; exact h3
  · rw [e]; exact h4
theorem lw_SW {own : String} {idx : Nat} {y : MethodName} {b : ByteArray} {L : Nat} {r : Option FieldType} {hh : List (Nat × Nat × Nat × Nat)} (h1 : Cond.methodLink own idx y ∈ lw_all) (h2 : Cond.static y ∈ lw_all) (h3 : Cond.initialized y.cls ∈ lw_all) (h4 : Cond.codeWith y b L r hh ∈ lw_all) : GoodIn lw_all (va_wsS own idx y (wsW_ y b L r hh)) := by
  refine lw_app ?_ (lw_methW h4)
  intro w hw
  simp only [List.mem_cons, List.not_mem_nil, or_false] at hw
  rcases hw with e | e | e
  · rw [e]; exact h1
  · rw [e]; exact h2
  · rw [e]; exact h3
/-- a word by its place in its run of the tables -/
theorem lw_at {r : List Cond} (hr : ∀ w ∈ r, w ∈ lw_tbl) {w : Cond} (i : Nat) (h : r[i]? = some w) : w ∈ lw_tbl := hr w (List.mem_of_getElem? h)
theorem lw_g {w : Cond} (h : w ∈ lw_tbl) (g : goodWord w = true) : w ∈ lw_all := List.mem_filter.mpr ⟨h, g⟩
theorem lw_ms : ∀ w ∈ k2_sels lw_privs, w ∈ lw_tbl := fun w h => show w ∈ k2_sels lw_privs ++ tables_1 from List.mem_append_left _ h
theorem lw_m1 : ∀ w ∈ tables_1_1, w ∈ lw_tbl := fun w h => show w ∈ k2_sels lw_privs ++ tables_1 from List.mem_append_right (k2_sels lw_privs) (show w ∈ tables_1 from List.mem_append_left _ h)
theorem lw_m2 : ∀ w ∈ tables_1_2, w ∈ lw_tbl := fun w h => show w ∈ k2_sels lw_privs ++ tables_1 from List.mem_append_right (k2_sels lw_privs) (show w ∈ tables_1 from List.mem_append_right _ (List.mem_append_left _ h))
theorem lw_m3 : ∀ w ∈ tables_1_3, w ∈ lw_tbl := fun w h => show w ∈ k2_sels lw_privs ++ tables_1 from List.mem_append_right (k2_sels lw_privs) (show w ∈ tables_1 from List.mem_append_right _ (List.mem_append_right _ (List.mem_append_left _ h)))
theorem lw_m4 : ∀ w ∈ tables_1_4, w ∈ lw_tbl := fun w h => show w ∈ k2_sels lw_privs ++ tables_1 from List.mem_append_right (k2_sels lw_privs) (show w ∈ tables_1 from List.mem_append_right _ (List.mem_append_right _ (List.mem_append_right _ (List.mem_append_left _ h))))
theorem lw_m5 : ∀ w ∈ tables_1_5, w ∈ lw_tbl := fun w h => show w ∈ k2_sels lw_privs ++ tables_1 from List.mem_append_right (k2_sels lw_privs) (show w ∈ tables_1 from List.mem_append_right _ (List.mem_append_right _ (List.mem_append_right _ (List.mem_append_right _ (List.mem_append_left _ h)))))
theorem lw_m6 : ∀ w ∈ tables_1_6, w ∈ lw_tbl := fun w h => show w ∈ k2_sels lw_privs ++ tables_1 from List.mem_append_right (k2_sels lw_privs) (show w ∈ tables_1 from List.mem_append_right _ (List.mem_append_right _ (List.mem_append_right _ (List.mem_append_right _ (List.mem_append_right _ (List.mem_append_left _ h))))))
theorem lw_m7 : ∀ w ∈ tables_1_7, w ∈ lw_tbl := fun w h => show w ∈ k2_sels lw_privs ++ tables_1 from List.mem_append_right (k2_sels lw_privs) (show w ∈ tables_1 from List.mem_append_right _ (List.mem_append_right _ (List.mem_append_right _ (List.mem_append_right _ (List.mem_append_right _ (List.mem_append_right _ h))))))
theorem qs0 : (Cond.selects "FourCars" ⟨"FourCars", "puts", "(I)V"⟩ ⟨"FourCars", "puts", "(I)V"⟩) ∈ lw_all := lw_g (lw_at lw_ms 0 rfl) rfl
theorem qs1 : (Cond.selects "FourCars" ⟨"FourCars", "readsRule", "()LFourCars$Text;"⟩ ⟨"FourCars", "readsRule", "()LFourCars$Text;"⟩) ∈ lw_all := lw_g (lw_at lw_ms 1 rfl) rfl
theorem qs2 : (Cond.selects "FourCars" ⟨"FourCars", "readNext", "()V"⟩ ⟨"FourCars", "readNext", "()V"⟩) ∈ lw_all := lw_g (lw_at lw_ms 2 rfl) rfl
theorem qs3 : (Cond.selects "FourCars" ⟨"FourCars", "raw", "(I)I"⟩ ⟨"FourCars", "raw", "(I)I"⟩) ∈ lw_all := lw_g (lw_at lw_ms 3 rfl) rfl
theorem qs4 : (Cond.selects "FourCars" ⟨"FourCars", "wordOf", "([Ljava/lang/String;)I"⟩ ⟨"FourCars", "wordOf", "([Ljava/lang/String;)I"⟩) ∈ lw_all := lw_g (lw_at lw_ms 4 rfl) rfl
theorem qs5 : (Cond.selects "FourCars" ⟨"FourCars", "spells", "(Ljava/lang/String;)Z"⟩ ⟨"FourCars", "spells", "(Ljava/lang/String;)Z"⟩) ∈ lw_all := lw_g (lw_at lw_ms 5 rfl) rfl
theorem qs6 : (Cond.selects "FourCars" ⟨"FourCars", "must", "(Z)V"⟩ ⟨"FourCars", "must", "(Z)V"⟩) ∈ lw_all := lw_g (lw_at lw_ms 6 rfl) rfl
theorem qs7 : (Cond.selects "java/lang/Throwable" ⟨"java/lang/Throwable", "fillInStackTrace", "(I)Ljava/lang/Throwable;"⟩ ⟨"java/lang/Throwable", "fillInStackTrace", "(I)Ljava/lang/Throwable;"⟩) ∈ lw_all := lw_g (lw_at lw_ms 7 rfl) rfl
theorem qs8 : (Cond.selects "FourCars" ⟨"FourCars", "sum", "()LFourCars$Term;"⟩ ⟨"FourCars", "sum", "()LFourCars$Term;"⟩) ∈ lw_all := lw_g (lw_at lw_ms 8 rfl) rfl
theorem qs9 : (Cond.selects "FourCars" ⟨"FourCars", "product", "()LFourCars$Term;"⟩ ⟨"FourCars", "product", "()LFourCars$Term;"⟩) ∈ lw_all := lw_g (lw_at lw_ms 9 rfl) rfl
theorem qs10 : (Cond.selects "FourCars" ⟨"FourCars", "unit", "()LFourCars$Term;"⟩ ⟨"FourCars", "unit", "()LFourCars$Term;"⟩) ∈ lw_all := lw_g (lw_at lw_ms 10 rfl) rfl
theorem qs11 : (Cond.selects "FourCars" ⟨"FourCars", "isSign", "(C)Z"⟩ ⟨"FourCars", "isSign", "(C)Z"⟩) ∈ lw_all := lw_g (lw_at lw_ms 11 rfl) rfl
theorem qs12 : (Cond.selects "FourCars" ⟨"FourCars", "isWord", "(Ljava/lang/String;)Z"⟩ ⟨"FourCars", "isWord", "(Ljava/lang/String;)Z"⟩) ∈ lw_all := lw_g (lw_at lw_ms 12 rfl) rfl
theorem qs13 : (Cond.selects "FourCars" ⟨"FourCars", "any", "()LFourCars$Term;"⟩ ⟨"FourCars", "any", "()LFourCars$Term;"⟩) ∈ lw_all := lw_g (lw_at lw_ms 13 rfl) rfl
theorem qs14 : (Cond.selects "FourCars" ⟨"FourCars", "both", "()LFourCars$Term;"⟩ ⟨"FourCars", "both", "()LFourCars$Term;"⟩) ∈ lw_all := lw_g (lw_at lw_ms 14 rfl) rfl
theorem qs15 : (Cond.selects "FourCars" ⟨"FourCars", "oneOf", "()LFourCars$Term;"⟩ ⟨"FourCars", "oneOf", "()LFourCars$Term;"⟩) ∈ lw_all := lw_g (lw_at lw_ms 15 rfl) rfl
theorem qs16 : (Cond.selects "FourCars" ⟨"FourCars", "opens", "()V"⟩ ⟨"FourCars", "opens", "()V"⟩) ∈ lw_all := lw_g (lw_at lw_ms 16 rfl) rfl
theorem qs17 : (Cond.selects "FourCars" ⟨"FourCars", "takesSign", "(C)V"⟩ ⟨"FourCars", "takesSign", "(C)V"⟩) ∈ lw_all := lw_g (lw_at lw_ms 17 rfl) rfl
theorem qs18 : (Cond.selects "FourCars" ⟨"FourCars", "readsTower", "()LFourCars$Plan;"⟩ ⟨"FourCars", "readsTower", "()LFourCars$Plan;"⟩) ∈ lw_all := lw_g (lw_at lw_ms 18 rfl) rfl
theorem qs19 : (Cond.selects "FourCars" ⟨"FourCars", "number", "(II)I"⟩ ⟨"FourCars", "number", "(II)I"⟩) ∈ lw_all := lw_g (lw_at lw_ms 19 rfl) rfl
theorem qs20 : (Cond.selects "FourCars" ⟨"FourCars", "readsCar", "(LFourCars$Plan;)V"⟩ ⟨"FourCars", "readsCar", "(LFourCars$Plan;)V"⟩) ∈ lw_all := lw_g (lw_at lw_ms 20 rfl) rfl
theorem qs21 : (Cond.selects "FourCars" ⟨"FourCars", "isFloor", "(I)Z"⟩ ⟨"FourCars", "isFloor", "(I)Z"⟩) ∈ lw_all := lw_g (lw_at lw_ms 21 rfl) rfl
theorem qs22 : (Cond.selects "FourCars" ⟨"FourCars", "isCar", "(I)Z"⟩ ⟨"FourCars", "isCar", "(I)Z"⟩) ∈ lw_all := lw_g (lw_at lw_ms 22 rfl) rfl
theorem qs23 : (Cond.selects "FourCars" ⟨"FourCars", "putsOut", "(IZ)V"⟩ ⟨"FourCars", "putsOut", "(IZ)V"⟩) ∈ lw_all := lw_g (lw_at lw_ms 23 rfl) rfl
theorem qs24 : (Cond.selects "FourCars$Tower" ⟨"FourCars$Tower", "bestCar", "(I)I"⟩ ⟨"FourCars$Tower", "bestCar", "(I)I"⟩) ∈ lw_all := lw_g (lw_at lw_ms 24 rfl) rfl
theorem qs25 : (Cond.selects "FourCars$Tower" ⟨"FourCars$Tower", "asks", "(II)V"⟩ ⟨"FourCars$Tower", "asks", "(II)V"⟩) ∈ lw_all := lw_g (lw_at lw_ms 25 rfl) rfl
theorem qs26 : (Cond.selects "FourCars$Tower" ⟨"FourCars$Tower", "carGoes", "(I)V"⟩ ⟨"FourCars$Tower", "carGoes", "(I)V"⟩) ∈ lw_all := lw_g (lw_at lw_ms 26 rfl) rfl
theorem qs27 : (Cond.selects "FourCars$Tower" ⟨"FourCars$Tower", "looks", "(I)V"⟩ ⟨"FourCars$Tower", "looks", "(I)V"⟩) ∈ lw_all := lw_g (lw_at lw_ms 27 rfl) rfl
theorem qs28 : (Cond.selects "FourCars$Tower" ⟨"FourCars$Tower", "goOut", "(I)I"⟩ ⟨"FourCars$Tower", "goOut", "(I)I"⟩) ∈ lw_all := lw_g (lw_at lw_ms 28 rfl) rfl
theorem qs29 : (Cond.selects "FourCars$Tower" ⟨"FourCars$Tower", "findsTargets", "(I)V"⟩ ⟨"FourCars$Tower", "findsTargets", "(I)V"⟩) ∈ lw_all := lw_g (lw_at lw_ms 29 rfl) rfl
theorem qs30 : (Cond.selects "FourCars$Tower" ⟨"FourCars$Tower", "aims", "(I)V"⟩ ⟨"FourCars$Tower", "aims", "(I)V"⟩) ∈ lw_all := lw_g (lw_at lw_ms 30 rfl) rfl
theorem qs31 : (Cond.selects "FourCars$Tower" ⟨"FourCars$Tower", "hasAhead", "(LFourCars$Car;)Z"⟩ ⟨"FourCars$Tower", "hasAhead", "(LFourCars$Car;)Z"⟩) ∈ lw_all := lw_g (lw_at lw_ms 31 rfl) rfl
theorem qs32 : (Cond.selects "FourCars$Tower" ⟨"FourCars$Tower", "newWay", "(I)I"⟩ ⟨"FourCars$Tower", "newWay", "(I)I"⟩) ∈ lw_all := lw_g (lw_at lw_ms 32 rfl) rfl
theorem qs33 : (Cond.selects "FourCars$Tower" ⟨"FourCars$Tower", "firstHere", "(I)I"⟩ ⟨"FourCars$Tower", "firstHere", "(I)I"⟩) ∈ lw_all := lw_g (lw_at lw_ms 33 rfl) rfl
theorem qs34 : (Cond.selects "FourCars$Tower" ⟨"FourCars$Tower", "isTarget", "(I)Z"⟩ ⟨"FourCars$Tower", "isTarget", "(I)Z"⟩) ∈ lw_all := lw_g (lw_at lw_ms 34 rfl) rfl
theorem qs35 : (Cond.selects "FourCars$Tower" ⟨"FourCars$Tower", "goIn", "(I)I"⟩ ⟨"FourCars$Tower", "goIn", "(I)I"⟩) ∈ lw_all := lw_g (lw_at lw_ms 35 rfl) rfl
theorem qs36 : (Cond.selects "FourCars" ⟨"FourCars", "isOne", "(I)Z"⟩ ⟨"FourCars", "isOne", "(I)Z"⟩) ∈ lw_all := lw_g (lw_at lw_ms 36 rfl) rfl
theorem qs37 : (Cond.selects "FourCars" ⟨"FourCars", "greatestOver", "()I"⟩ ⟨"FourCars", "greatestOver", "()I"⟩) ∈ lw_all := lw_g (lw_at lw_ms 37 rfl) rfl
theorem qs38 : (Cond.selects "FourCars" ⟨"FourCars", "overBy", "(I)J"⟩ ⟨"FourCars", "overBy", "(I)J"⟩) ∈ lw_all := lw_g (lw_at lw_ms 38 rfl) rfl
theorem qs39 : (Cond.selects "FourCars" ⟨"FourCars", "canGive", "()Z"⟩ ⟨"FourCars", "canGive", "()Z"⟩) ∈ lw_all := lw_g (lw_at lw_ms 39 rfl) rfl
theorem qs40 : (Cond.selects "FourCars" ⟨"FourCars", "findsBest", "()I"⟩ ⟨"FourCars", "findsBest", "()I"⟩) ∈ lw_all := lw_g (lw_at lw_ms 40 rfl) rfl
theorem qs41 : (Cond.selects "FourCars" ⟨"FourCars", "gives", "(I)Z"⟩ ⟨"FourCars", "gives", "(I)Z"⟩) ∈ lw_all := lw_g (lw_at lw_ms 41 rfl) rfl
theorem qs42 : (Cond.selects "FourCars" ⟨"FourCars", "overOf", "(IIII)I"⟩ ⟨"FourCars", "overOf", "(IIII)I"⟩) ∈ lw_all := lw_g (lw_at lw_ms 42 rfl) rfl
theorem qs43 : (Cond.selects "FourCars" ⟨"FourCars", "comes", "(II)V"⟩ ⟨"FourCars", "comes", "(II)V"⟩) ∈ lw_all := lw_g (lw_at lw_ms 43 rfl) rfl
theorem qs44 : (Cond.selects "FourCars" ⟨"FourCars", "findsPlaces", "(I)I"⟩ ⟨"FourCars", "findsPlaces", "(I)I"⟩) ∈ lw_all := lw_g (lw_at lw_ms 44 rfl) rfl
theorem qs45 : (Cond.selects "FourCars" ⟨"FourCars", "findsAbove", "(I)V"⟩ ⟨"FourCars", "findsAbove", "(I)V"⟩) ∈ lw_all := lw_g (lw_at lw_ms 45 rfl) rfl
theorem qs46 : (Cond.selects "FourCars" ⟨"FourCars", "between", "(II)I"⟩ ⟨"FourCars", "between", "(II)I"⟩) ∈ lw_all := lw_g (lw_at lw_ms 46 rfl) rfl
theorem qs47 : (Cond.selects "FourCars" ⟨"FourCars", "below", "(I)I"⟩ ⟨"FourCars", "below", "(I)I"⟩) ∈ lw_all := lw_g (lw_at lw_ms 47 rfl) rfl
theorem qs48 : (Cond.selects "FourCars" ⟨"FourCars", "cutsOn", "(III)V"⟩ ⟨"FourCars", "cutsOn", "(III)V"⟩) ∈ lw_all := lw_g (lw_at lw_ms 48 rfl) rfl
theorem qs49 : (Cond.selects "FourCars" ⟨"FourCars", "zoneOf", "(II)I"⟩ ⟨"FourCars", "zoneOf", "(II)I"⟩) ∈ lw_all := lw_g (lw_at lw_ms 49 rfl) rfl
theorem qs50 : (Cond.selects "FourCarsModel" ⟨"FourCarsModel", "next0", "()V"⟩ ⟨"FourCarsModel", "next0", "()V"⟩) ∈ lw_all := lw_g (lw_at lw_ms 50 rfl) rfl
theorem qs51 : (Cond.selects "FourCarsModel" ⟨"FourCarsModel", "see", "(I)I"⟩ ⟨"FourCarsModel", "see", "(I)I"⟩) ∈ lw_all := lw_g (lw_at lw_ms 51 rfl) rfl
theorem qs52 : (Cond.selects "FourCarsModel" ⟨"FourCarsModel", "word", "()I"⟩ ⟨"FourCarsModel", "word", "()I"⟩) ∈ lw_all := lw_g (lw_at lw_ms 52 rfl) rfl
theorem qs53 : (Cond.selects "FourCarsModel" ⟨"FourCarsModel", "towerWord", "()I"⟩ ⟨"FourCarsModel", "towerWord", "()I"⟩) ∈ lw_all := lw_g (lw_at lw_ms 53 rfl) rfl
theorem qs54 : (Cond.selects "FourCarsModel" ⟨"FourCarsModel", "is", "(Ljava/lang/String;)Z"⟩ ⟨"FourCarsModel", "is", "(Ljava/lang/String;)Z"⟩) ∈ lw_all := lw_g (lw_at lw_ms 54 rfl) rfl
theorem qs55 : (Cond.selects "FourCarsModel" ⟨"FourCarsModel", "nameWord", "()I"⟩ ⟨"FourCarsModel", "nameWord", "()I"⟩) ∈ lw_all := lw_g (lw_at lw_ms 55 rfl) rfl
theorem qs56 : (Cond.selects "FourCarsModel" ⟨"FourCarsModel", "aLine", "()Z"⟩ ⟨"FourCarsModel", "aLine", "()Z"⟩) ∈ lw_all := lw_g (lw_at lw_ms 56 rfl) rfl
theorem qs57 : (Cond.selects "FourCarsModel" ⟨"FourCarsModel", "bad", "(I)Z"⟩ ⟨"FourCarsModel", "bad", "(I)Z"⟩) ∈ lw_all := lw_g (lw_at lw_ms 57 rfl) rfl
theorem qs58 : (Cond.selects "FourCarsModel" ⟨"FourCarsModel", "sumUp", "()Z"⟩ ⟨"FourCarsModel", "sumUp", "()Z"⟩) ∈ lw_all := lw_g (lw_at lw_ms 58 rfl) rfl
theorem qs59 : (Cond.selects "FourCarsModel" ⟨"FourCarsModel", "product", "()Z"⟩ ⟨"FourCarsModel", "product", "()Z"⟩) ∈ lw_all := lw_g (lw_at lw_ms 59 rfl) rfl
theorem qs60 : (Cond.selects "FourCarsModel" ⟨"FourCarsModel", "unit", "()Z"⟩ ⟨"FourCarsModel", "unit", "()Z"⟩) ∈ lw_all := lw_g (lw_at lw_ms 60 rfl) rfl
theorem qs61 : (Cond.selects "FourCarsModel" ⟨"FourCarsModel", "lay", "(II)V"⟩ ⟨"FourCarsModel", "lay", "(II)V"⟩) ∈ lw_all := lw_g (lw_at lw_ms 61 rfl) rfl
theorem qs62 : (Cond.selects "FourCarsModel" ⟨"FourCarsModel", "any", "()Z"⟩ ⟨"FourCarsModel", "any", "()Z"⟩) ∈ lw_all := lw_g (lw_at lw_ms 62 rfl) rfl
theorem qs63 : (Cond.selects "FourCarsModel" ⟨"FourCarsModel", "every", "()Z"⟩ ⟨"FourCarsModel", "every", "()Z"⟩) ∈ lw_all := lw_g (lw_at lw_ms 63 rfl) rfl
theorem qs64 : (Cond.selects "FourCarsModel" ⟨"FourCarsModel", "oneTest", "()Z"⟩ ⟨"FourCarsModel", "oneTest", "()Z"⟩) ∈ lw_all := lw_g (lw_at lw_ms 64 rfl) rfl
theorem qs65 : (Cond.selects "FourCarsModel" ⟨"FourCarsModel", "opens", "()Z"⟩ ⟨"FourCarsModel", "opens", "()Z"⟩) ∈ lw_all := lw_g (lw_at lw_ms 65 rfl) rfl
theorem qs66 : (Cond.selects "FourCarsModel" ⟨"FourCarsModel", "need", "(I)Z"⟩ ⟨"FourCarsModel", "need", "(I)Z"⟩) ∈ lw_all := lw_g (lw_at lw_ms 66 rfl) rfl
theorem qs67 : (Cond.selects "FourCarsModel" ⟨"FourCarsModel", "aTowerLine", "()Z"⟩ ⟨"FourCarsModel", "aTowerLine", "()Z"⟩) ∈ lw_all := lw_g (lw_at lw_ms 67 rfl) rfl
theorem qs68 : (Cond.selects "FourCarsModel" ⟨"FourCarsModel", "floors", "()Z"⟩ ⟨"FourCarsModel", "floors", "()Z"⟩) ∈ lw_all := lw_g (lw_at lw_ms 68 rfl) rfl
theorem qs69 : (Cond.selects "FourCarsModel" ⟨"FourCarsModel", "number", "(II)Z"⟩ ⟨"FourCarsModel", "number", "(II)Z"⟩) ∈ lw_all := lw_g (lw_at lw_ms 69 rfl) rfl
theorem qs70 : (Cond.selects "FourCarsModel" ⟨"FourCarsModel", "aCar", "()Z"⟩ ⟨"FourCarsModel", "aCar", "()Z"⟩) ∈ lw_all := lw_g (lw_at lw_ms 70 rfl) rfl
theorem qs71 : (Cond.selects "FourCarsModel" ⟨"FourCarsModel", "skip", "()Z"⟩ ⟨"FourCarsModel", "skip", "()Z"⟩) ∈ lw_all := lw_g (lw_at lw_ms 71 rfl) rfl
theorem qs72 : (Cond.selects "FourCarsModel" ⟨"FourCarsModel", "keepsRule", "(I)V"⟩ ⟨"FourCarsModel", "keepsRule", "(I)V"⟩) ∈ lw_all := lw_g (lw_at lw_ms 72 rfl) rfl
theorem qs73 : (Cond.selects "FourCarsModel" ⟨"FourCarsModel", "keepsTower", "()V"⟩ ⟨"FourCarsModel", "keepsTower", "()V"⟩) ∈ lw_all := lw_g (lw_at lw_ms 73 rfl) rfl
theorem qs74 : (Cond.selects "FourCarsModel" ⟨"FourCarsModel", "sets", "(III)V"⟩ ⟨"FourCarsModel", "sets", "(III)V"⟩) ∈ lw_all := lw_g (lw_at lw_ms 74 rfl) rfl
theorem qs75 : (Cond.selects "FourCarsModel" ⟨"FourCarsModel", "parks", "()V"⟩ ⟨"FourCarsModel", "parks", "()V"⟩) ∈ lw_all := lw_g (lw_at lw_ms 75 rfl) rfl
theorem qs76 : (Cond.selects "FourCarsModel" ⟨"FourCarsModel", "ofCar", "(II)I"⟩ ⟨"FourCarsModel", "ofCar", "(II)I"⟩) ∈ lw_all := lw_g (lw_at lw_ms 76 rfl) rfl
theorem qs77 : (Cond.selects "FourCarsModel" ⟨"FourCarsModel", "isFloor", "(I)Z"⟩ ⟨"FourCarsModel", "isFloor", "(I)Z"⟩) ∈ lw_all := lw_g (lw_at lw_ms 77 rfl) rfl
theorem qs78 : (Cond.selects "FourCarsModel" ⟨"FourCarsModel", "comes", "(III)V"⟩ ⟨"FourCarsModel", "comes", "(III)V"⟩) ∈ lw_all := lw_g (lw_at lw_ms 78 rfl) rfl
theorem qs79 : (Cond.selects "FourCarsModel" ⟨"FourCarsModel", "gives", "(III)V"⟩ ⟨"FourCarsModel", "gives", "(III)V"⟩) ∈ lw_all := lw_g (lw_at lw_ms 79 rfl) rfl
theorem qs80 : (Cond.selects "FourCarsModel" ⟨"FourCarsModel", "isCar", "(I)Z"⟩ ⟨"FourCarsModel", "isCar", "(I)Z"⟩) ∈ lw_all := lw_g (lw_at lw_ms 80 rfl) rfl
theorem qs81 : (Cond.selects "FourCarsModel" ⟨"FourCarsModel", "takesOut", "(I)V"⟩ ⟨"FourCarsModel", "takesOut", "(I)V"⟩) ∈ lw_all := lw_g (lw_at lw_ms 81 rfl) rfl
theorem qs82 : (Cond.selects "FourCarsModel" ⟨"FourCarsModel", "own", "(II)I"⟩ ⟨"FourCarsModel", "own", "(II)I"⟩) ∈ lw_all := lw_g (lw_at lw_ms 82 rfl) rfl
theorem qs83 : (Cond.selects "FourCarsModel" ⟨"FourCarsModel", "isOne", "(I)Z"⟩ ⟨"FourCarsModel", "isOne", "(I)Z"⟩) ∈ lw_all := lw_g (lw_at lw_ms 83 rfl) rfl
theorem qs84 : (Cond.selects "FourCarsModel" ⟨"FourCarsModel", "tells", "(III)Z"⟩ ⟨"FourCarsModel", "tells", "(III)Z"⟩) ∈ lw_all := lw_g (lw_at lw_ms 84 rfl) rfl
theorem qs85 : (Cond.selects "FourCarsModel" ⟨"FourCarsModel", "wayOf", "(I)I"⟩ ⟨"FourCarsModel", "wayOf", "(I)I"⟩) ∈ lw_all := lw_g (lw_at lw_ms 85 rfl) rfl
theorem qs86 : (Cond.selects "FourCarsModel" ⟨"FourCarsModel", "riding", "(I)I"⟩ ⟨"FourCarsModel", "riding", "(I)I"⟩) ∈ lw_all := lw_g (lw_at lw_ms 86 rfl) rfl
theorem qs87 : (Cond.selects "FourCarsModel" ⟨"FourCarsModel", "given", "(I)I"⟩ ⟨"FourCarsModel", "given", "(I)I"⟩) ∈ lw_all := lw_g (lw_at lw_ms 87 rfl) rfl
theorem qs88 : (Cond.selects "FourCarsModel" ⟨"FourCarsModel", "comesTo", "(III)I"⟩ ⟨"FourCarsModel", "comesTo", "(III)I"⟩) ∈ lw_all := lw_g (lw_at lw_ms 88 rfl) rfl
theorem qs89 : (Cond.selects "FourCarsModel" ⟨"FourCarsModel", "there", "()I"⟩ ⟨"FourCarsModel", "there", "()I"⟩) ∈ lw_all := lw_g (lw_at lw_ms 89 rfl) rfl
theorem qs90 : (Cond.selects "FourCarsModel" ⟨"FourCarsModel", "aSecond", "()V"⟩ ⟨"FourCarsModel", "aSecond", "()V"⟩) ∈ lw_all := lw_g (lw_at lw_ms 90 rfl) rfl
theorem qs91 : (Cond.selects "FourCarsModel" ⟨"FourCarsModel", "givesCall", "(I)V"⟩ ⟨"FourCarsModel", "givesCall", "(I)V"⟩) ∈ lw_all := lw_g (lw_at lw_ms 91 rfl) rfl
theorem qs92 : (Cond.selects "FourCarsModel" ⟨"FourCarsModel", "serves", "(II)Z"⟩ ⟨"FourCarsModel", "serves", "(II)Z"⟩) ∈ lw_all := lw_g (lw_at lw_ms 92 rfl) rfl
theorem qs93 : (Cond.selects "FourCarsModel" ⟨"FourCarsModel", "aCarsSecond", "(I)V"⟩ ⟨"FourCarsModel", "aCarsSecond", "(I)V"⟩) ∈ lw_all := lw_g (lw_at lw_ms 93 rfl) rfl
theorem qs94 : (Cond.selects "FourCarsModel" ⟨"FourCarsModel", "looks", "(I)V"⟩ ⟨"FourCarsModel", "looks", "(I)V"⟩) ∈ lw_all := lw_g (lw_at lw_ms 94 rfl) rfl
theorem qs95 : (Cond.selects "FourCarsModel" ⟨"FourCarsModel", "goOut", "(I)I"⟩ ⟨"FourCarsModel", "goOut", "(I)I"⟩) ∈ lw_all := lw_g (lw_at lw_ms 95 rfl) rfl
theorem qs96 : (Cond.selects "FourCarsModel" ⟨"FourCarsModel", "nearest", "(II)I"⟩ ⟨"FourCarsModel", "nearest", "(II)I"⟩) ∈ lw_all := lw_g (lw_at lw_ms 96 rfl) rfl
theorem qs97 : (Cond.selects "FourCarsModel" ⟨"FourCarsModel", "targetOf", "(II)I"⟩ ⟨"FourCarsModel", "targetOf", "(II)I"⟩) ∈ lw_all := lw_g (lw_at lw_ms 97 rfl) rfl
theorem qs98 : (Cond.selects "FourCarsModel" ⟨"FourCarsModel", "newWay", "(I)I"⟩ ⟨"FourCarsModel", "newWay", "(I)I"⟩) ∈ lw_all := lw_g (lw_at lw_ms 98 rfl) rfl
theorem qs99 : (Cond.selects "FourCarsModel" ⟨"FourCarsModel", "firstHere", "(I)I"⟩ ⟨"FourCarsModel", "firstHere", "(I)I"⟩) ∈ lw_all := lw_g (lw_at lw_ms 99 rfl) rfl
theorem qs100 : (Cond.selects "FourCarsModel" ⟨"FourCarsModel", "goIn", "(I)I"⟩ ⟨"FourCarsModel", "goIn", "(I)I"⟩) ∈ lw_all := lw_g (lw_at lw_ms 100 rfl) rfl
theorem qs101 : (Cond.selects "FourCarsModel" ⟨"FourCarsModel", "setsOut", "()V"⟩ ⟨"FourCarsModel", "setsOut", "()V"⟩) ∈ lw_all := lw_g (lw_at lw_ms 101 rfl) rfl
theorem qs102 : (Cond.selects "FourCarsModel" ⟨"FourCarsModel", "ends", "(I)Z"⟩ ⟨"FourCarsModel", "ends", "(I)Z"⟩) ∈ lw_all := lw_g (lw_at lw_ms 102 rfl) rfl
theorem qs103 : (Cond.selects "FourCarsModel" ⟨"FourCarsModel", "overAll", "(I)I"⟩ ⟨"FourCarsModel", "overAll", "(I)I"⟩) ∈ lw_all := lw_g (lw_at lw_ms 103 rfl) rfl
theorem qs104 : (Cond.selects "FourCarsModel" ⟨"FourCarsModel", "over", "(I)I"⟩ ⟨"FourCarsModel", "over", "(I)I"⟩) ∈ lw_all := lw_g (lw_at lw_ms 104 rfl) rfl
theorem qs105 : (Cond.selects "FourCarsModel" ⟨"FourCarsModel", "comesBack", "()V"⟩ ⟨"FourCarsModel", "comesBack", "()V"⟩) ∈ lw_all := lw_g (lw_at lw_ms 105 rfl) rfl
theorem qs106 : (Cond.selects "FourCarsModel" ⟨"FourCarsModel", "canGive", "()Z"⟩ ⟨"FourCarsModel", "canGive", "()Z"⟩) ∈ lw_all := lw_g (lw_at lw_ms 106 rfl) rfl
theorem qs107 : (Cond.selects "FourCarsModel" ⟨"FourCarsModel", "triesGiving", "(I)V"⟩ ⟨"FourCarsModel", "triesGiving", "(I)V"⟩) ∈ lw_all := lw_g (lw_at lw_ms 107 rfl) rfl
theorem qs108 : (Cond.selects "FourCarsModel" ⟨"FourCarsModel", "overOf", "(IIII)I"⟩ ⟨"FourCarsModel", "overOf", "(IIII)I"⟩) ∈ lw_all := lw_g (lw_at lw_ms 108 rfl) rfl
theorem qs109 : (Cond.selects "FourCarsModel" ⟨"FourCarsModel", "laysCall", "(I)V"⟩ ⟨"FourCarsModel", "laysCall", "(I)V"⟩) ∈ lw_all := lw_g (lw_at lw_ms 109 rfl) rfl
theorem qs110 : (Cond.selects "FourCarsModel" ⟨"FourCarsModel", "laysAbove", "(I)V"⟩ ⟨"FourCarsModel", "laysAbove", "(I)V"⟩) ∈ lw_all := lw_g (lw_at lw_ms 110 rfl) rfl
theorem qs111 : (Cond.selects "FourCarsModel" ⟨"FourCarsModel", "between", "(II)I"⟩ ⟨"FourCarsModel", "between", "(II)I"⟩) ∈ lw_all := lw_g (lw_at lw_ms 111 rfl) rfl
theorem qs112 : (Cond.selects "FourCarsModel" ⟨"FourCarsModel", "weight", "(I)I"⟩ ⟨"FourCarsModel", "weight", "(I)I"⟩) ∈ lw_all := lw_g (lw_at lw_ms 112 rfl) rfl
theorem qs113 : (Cond.selects "FourCarsModel" ⟨"FourCarsModel", "below", "(I)I"⟩ ⟨"FourCarsModel", "below", "(I)I"⟩) ∈ lw_all := lw_g (lw_at lw_ms 113 rfl) rfl
theorem qs114 : (Cond.selects "FourCarsModel" ⟨"FourCarsModel", "triesCuts", "(IIII)V"⟩ ⟨"FourCarsModel", "triesCuts", "(IIII)V"⟩) ∈ lw_all := lw_g (lw_at lw_ms 114 rfl) rfl
theorem qs115 : (Cond.selects "FourCarsModel" ⟨"FourCarsModel", "zone", "(II)I"⟩ ⟨"FourCarsModel", "zone", "(II)I"⟩) ∈ lw_all := lw_g (lw_at lw_ms 115 rfl) rfl
theorem qs116 : (Cond.selects "FourCarsModel" ⟨"FourCarsModel", "inState", "(I)I"⟩ ⟨"FourCarsModel", "inState", "(I)I"⟩) ∈ lw_all := lw_g (lw_at lw_ms 116 rfl) rfl
-- ===== end of PART A; then your names; then what follows =====
