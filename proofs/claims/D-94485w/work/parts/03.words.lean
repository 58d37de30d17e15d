theorem q153 : (Jvm.Cond.arrayOver (Jvm.ClassFile.FieldType.object "java/lang/String")) ∈ lw_tbl := lw_at lw_m1 36 rfl
set_option maxRecDepth 100000
theorem q173 : (Jvm.Cond.arrayOver (Jvm.ClassFile.FieldType.object "FourCars$Text")) ∈ lw_tbl := lw_at lw_m1 56 rfl
theorem q180 : (Jvm.Cond.arrayOver (Jvm.ClassFile.FieldType.object "FourCars$Term")) ∈ lw_tbl := lw_at lw_m1 63 rfl
theorem q200 : (Jvm.Cond.arrayClass Jvm.ClassFile.FieldType.byte) ∈ lw_all := lw_g (lw_at lw_m1 83 rfl) rfl
theorem q201 : (Jvm.Cond.arrayClass Jvm.ClassFile.FieldType.int) ∈ lw_all := lw_g (lw_at lw_m1 84 rfl) rfl
theorem q209 : (Jvm.Cond.arrayOver (Jvm.ClassFile.FieldType.array Jvm.ClassFile.FieldType.boolean)) ∈ lw_tbl := lw_at lw_m1 92 rfl
theorem q251 : (Jvm.Cond.arrayClass Jvm.ClassFile.FieldType.boolean) ∈ lw_all := lw_g (lw_at lw_m1 134 rfl) rfl
theorem q259 : (Jvm.Cond.arrayOver (Jvm.ClassFile.FieldType.object "FourCars$Person")) ∈ lw_tbl := lw_at lw_m1 142 rfl
theorem q261 : (Jvm.Cond.arrayOver (Jvm.ClassFile.FieldType.object "FourCars$Car")) ∈ lw_tbl := lw_at lw_m1 144 rfl
theorem q394 : (Jvm.Cond.arrayOver (Jvm.ClassFile.FieldType.array Jvm.ClassFile.FieldType.int)) ∈ lw_tbl := lw_at lw_m2 37 rfl
theorem q117 : (Jvm.Cond.initialized "FourCarsLaw") ∈ lw_all := lw_g (lw_at lw_m1 0 rfl) rfl
set_option maxRecDepth 100000
theorem q144 : (Jvm.Cond.classLink "FourCarsLaw" (7 : Nat) "FourCars") ∈ lw_all := lw_g (lw_at lw_m1 27 rfl) rfl
theorem q146 : (Jvm.Cond.methodLink "FourCarsLaw" (9 : Nat) ({ cls := "FourCars", name := "<init>", desc := "()V" } : Jvm.MethodName)) ∈ lw_all := lw_g (lw_at lw_m1 29 rfl) rfl
theorem q489 : (Jvm.Cond.methodLink "FourCarsLaw" (13 : Nat) ({ cls := "FourCars", name := "feed", desc := "(IIIII)I" } : Jvm.MethodName)) ∈ lw_all := lw_g (lw_at lw_m2 132 rfl) rfl
theorem q497 : (Jvm.Cond.methodLink "FourCarsLaw" (18 : Nat) ({ cls := "FourCars", name := "end", desc := "(I)Z" } : Jvm.MethodName)) ∈ lw_all := lw_g (lw_at lw_m2 140 rfl) rfl
theorem q504 : (Jvm.Cond.methodLink "FourCarsLaw" (23 : Nat) ({ cls := "FourCars", name := "text", desc := "(I)I" } : Jvm.MethodName)) ∈ lw_all := lw_g (lw_at lw_m2 147 rfl) rfl
theorem q833 : (Jvm.Cond.methodLink "FourCarsLaw" (28 : Nat) ({ cls := "FourCars", name := "fault", desc := "(I)I" } : Jvm.MethodName)) ∈ lw_all := lw_g (lw_at lw_m3 236 rfl) rfl
theorem q837 : (Jvm.Cond.methodLink "FourCarsLaw" (32 : Nat) ({ cls := "FourCars", name := "one", desc := "(III)I" } : Jvm.MethodName)) ∈ lw_all := lw_g (lw_at lw_m4 0 rfl) rfl
theorem q849 : (Jvm.Cond.methodLink "FourCarsLaw" (37 : Nat) ({ cls := "FourCars", name := "set", desc := "(III)Z" } : Jvm.MethodName)) ∈ lw_all := lw_g (lw_at lw_m4 12 rfl) rfl
theorem q864 : (Jvm.Cond.methodLink "FourCarsLaw" (42 : Nat) ({ cls := "FourCars", name := "seconds", desc := "(I)I" } : Jvm.MethodName)) ∈ lw_all := lw_g (lw_at lw_m4 27 rfl) rfl
theorem q977 : (Jvm.Cond.methodLink "FourCarsLaw" (46 : Nat) ({ cls := "FourCars", name := "car", desc := "(II)I" } : Jvm.MethodName)) ∈ lw_all := lw_g (lw_at lw_m4 140 rfl) rfl
theorem q982 : (Jvm.Cond.methodLink "FourCarsLaw" (51 : Nat) ({ cls := "FourCars", name := "person", desc := "(II)I" } : Jvm.MethodName)) ∈ lw_all := lw_g (lw_at lw_m4 145 rfl) rfl
theorem q990 : (Jvm.Cond.methodLink "FourCarsLaw" (55 : Nat) ({ cls := "FourCars", name := "cost", desc := "(III)I" } : Jvm.MethodName)) ∈ lw_all := lw_g (lw_at lw_m4 153 rfl) rfl
theorem q996 : (Jvm.Cond.methodLink "FourCarsLaw" (59 : Nat) ({ cls := "FourCars", name := "sums", desc := "(I)I" } : Jvm.MethodName)) ∈ lw_all := lw_g (lw_at lw_m4 159 rfl) rfl
theorem q1001 : (Jvm.Cond.methodLink "FourCarsLaw" (63 : Nat) ({ cls := "FourCars", name := "thought", desc := "(II)I" } : Jvm.MethodName)) ∈ lw_all := lw_g (lw_at lw_m4 164 rfl) rfl
theorem q1036 : (Jvm.Cond.methodLink "FourCarsLaw" (67 : Nat) ({ cls := "FourCars", name := "better", desc := "(II)I" } : Jvm.MethodName)) ∈ lw_all := lw_g (lw_at lw_m4 199 rfl) rfl
theorem q1045 : (Jvm.Cond.methodLink "FourCarsLaw" (71 : Nat) ({ cls := "FourCars", name := "best", desc := "(I)I" } : Jvm.MethodName)) ∈ lw_all := lw_g (lw_at lw_m4 208 rfl) rfl
theorem q1065 : (Jvm.Cond.methodLink "FourCarsLaw" (75 : Nat) ({ cls := "FourCars", name := "mornings", desc := "(IIII)I" } : Jvm.MethodName)) ∈ lw_all := lw_g (lw_at lw_m4 228 rfl) rfl
theorem q1078 : (Jvm.Cond.methodLink "FourCarsLaw" (80 : Nat) ({ cls := "FourCars", name := "fun", desc := "(II)I" } : Jvm.MethodName)) ∈ lw_all := lw_g (lw_at lw_m5 1 rfl) rfl
theorem q1083 : (Jvm.Cond.methodLink "FourCarsLaw" (84 : Nat) ({ cls := "FourCars", name := "places", desc := "(II)I" } : Jvm.MethodName)) ∈ lw_all := lw_g (lw_at lw_m5 6 rfl) rfl
theorem q1104 : (Jvm.Cond.methodLink "FourCarsLaw" (88 : Nat) ({ cls := "FourCars", name := "zones", desc := "(II)I" } : Jvm.MethodName)) ∈ lw_all := lw_g (lw_at lw_m5 27 rfl) rfl
theorem q1116 : (Jvm.Cond.methodLink "FourCarsLaw" (92 : Nat) ({ cls := "FourCars", name := "image", desc := "(Z)Z" } : Jvm.MethodName)) ∈ lw_all := lw_g (lw_at lw_m5 39 rfl) rfl
theorem q1120 : (Jvm.Cond.methodLink "FourCarsLaw" (97 : Nat) ({ cls := "FourCars", name := "look", desc := "(I)I" } : Jvm.MethodName)) ∈ lw_all := lw_g (lw_at lw_m5 43 rfl) rfl
theorem q1124 : (Jvm.Cond.classLink "FourCarsLaw" (10 : Nat) "FourCarsModel") ∈ lw_all := lw_g (lw_at lw_m5 47 rfl) rfl
theorem q1126 : (Jvm.Cond.methodLink "FourCarsLaw" (12 : Nat) ({ cls := "FourCarsModel", name := "<init>", desc := "()V" } : Jvm.MethodName)) ∈ lw_all := lw_g (lw_at lw_m5 49 rfl) rfl
theorem q1248 : (Jvm.Cond.methodLink "FourCarsLaw" (17 : Nat) ({ cls := "FourCarsModel", name := "feed", desc := "(IIIII)I" } : Jvm.MethodName)) ∈ lw_all := lw_g (lw_at lw_m5 171 rfl) rfl
theorem q1252 : (Jvm.Cond.methodLink "FourCarsLaw" (22 : Nat) ({ cls := "FourCarsModel", name := "end", desc := "(I)Z" } : Jvm.MethodName)) ∈ lw_all := lw_g (lw_at lw_m5 175 rfl) rfl
theorem q1259 : (Jvm.Cond.methodLink "FourCarsLaw" (27 : Nat) ({ cls := "FourCarsModel", name := "text", desc := "(I)I" } : Jvm.MethodName)) ∈ lw_all := lw_g (lw_at lw_m5 182 rfl) rfl
theorem q1397 : (Jvm.Cond.methodLink "FourCarsLaw" (31 : Nat) ({ cls := "FourCarsModel", name := "fault", desc := "(I)I" } : Jvm.MethodName)) ∈ lw_all := lw_g (lw_at lw_m6 80 rfl) rfl
theorem q1401 : (Jvm.Cond.methodLink "FourCarsLaw" (36 : Nat) ({ cls := "FourCarsModel", name := "one", desc := "(III)I" } : Jvm.MethodName)) ∈ lw_all := lw_g (lw_at lw_m6 84 rfl) rfl
theorem q1417 : (Jvm.Cond.methodLink "FourCarsLaw" (41 : Nat) ({ cls := "FourCarsModel", name := "set", desc := "(III)Z" } : Jvm.MethodName)) ∈ lw_all := lw_g (lw_at lw_m6 100 rfl) rfl
theorem q1433 : (Jvm.Cond.methodLink "FourCarsLaw" (58 : Nat) ({ cls := "FourCarsModel", name := "cost", desc := "(III)I" } : Jvm.MethodName)) ∈ lw_all := lw_g (lw_at lw_m6 116 rfl) rfl
theorem q1468 : (Jvm.Cond.methodLink "FourCarsLaw" (45 : Nat) ({ cls := "FourCarsModel", name := "seconds", desc := "(I)I" } : Jvm.MethodName)) ∈ lw_all := lw_g (lw_at lw_m6 151 rfl) rfl
theorem q1520 : (Jvm.Cond.methodLink "FourCarsLaw" (50 : Nat) ({ cls := "FourCarsModel", name := "car", desc := "(II)I" } : Jvm.MethodName)) ∈ lw_all := lw_g (lw_at lw_m6 203 rfl) rfl
theorem q1524 : (Jvm.Cond.methodLink "FourCarsLaw" (54 : Nat) ({ cls := "FourCarsModel", name := "person", desc := "(II)I" } : Jvm.MethodName)) ∈ lw_all := lw_g (lw_at lw_m6 207 rfl) rfl
theorem q1528 : (Jvm.Cond.methodLink "FourCarsLaw" (62 : Nat) ({ cls := "FourCarsModel", name := "sums", desc := "(I)I" } : Jvm.MethodName)) ∈ lw_all := lw_g (lw_at lw_m6 211 rfl) rfl
theorem q1533 : (Jvm.Cond.methodLink "FourCarsLaw" (66 : Nat) ({ cls := "FourCarsModel", name := "thought", desc := "(II)I" } : Jvm.MethodName)) ∈ lw_all := lw_g (lw_at lw_m6 216 rfl) rfl
theorem q1557 : (Jvm.Cond.methodLink "FourCarsLaw" (70 : Nat) ({ cls := "FourCarsModel", name := "better", desc := "(II)I" } : Jvm.MethodName)) ∈ lw_all := lw_g (lw_at lw_m7 0 rfl) rfl
theorem q1562 : (Jvm.Cond.methodLink "FourCarsLaw" (74 : Nat) ({ cls := "FourCarsModel", name := "best", desc := "(I)I" } : Jvm.MethodName)) ∈ lw_all := lw_g (lw_at lw_m7 5 rfl) rfl
theorem q1574 : (Jvm.Cond.methodLink "FourCarsLaw" (79 : Nat) ({ cls := "FourCarsModel", name := "mornings", desc := "(IIII)I" } : Jvm.MethodName)) ∈ lw_all := lw_g (lw_at lw_m7 17 rfl) rfl
theorem q1587 : (Jvm.Cond.methodLink "FourCarsLaw" (83 : Nat) ({ cls := "FourCarsModel", name := "fun", desc := "(II)I" } : Jvm.MethodName)) ∈ lw_all := lw_g (lw_at lw_m7 30 rfl) rfl
theorem q1592 : (Jvm.Cond.methodLink "FourCarsLaw" (87 : Nat) ({ cls := "FourCarsModel", name := "places", desc := "(II)I" } : Jvm.MethodName)) ∈ lw_all := lw_g (lw_at lw_m7 35 rfl) rfl
theorem q1612 : (Jvm.Cond.methodLink "FourCarsLaw" (91 : Nat) ({ cls := "FourCarsModel", name := "zones", desc := "(II)I" } : Jvm.MethodName)) ∈ lw_all := lw_g (lw_at lw_m7 55 rfl) rfl
theorem q1624 : (Jvm.Cond.methodLink "FourCarsLaw" (96 : Nat) ({ cls := "FourCarsModel", name := "image", desc := "(Z)Z" } : Jvm.MethodName)) ∈ lw_all := lw_g (lw_at lw_m7 67 rfl) rfl
theorem q1628 : (Jvm.Cond.methodLink "FourCarsLaw" (100 : Nat) ({ cls := "FourCarsModel", name := "look", desc := "(I)I" } : Jvm.MethodName)) ∈ lw_all := lw_g (lw_at lw_m7 71 rfl) rfl
theorem q125 : (Jvm.Cond.initialized "java/lang/Enum") ∈ lw_all := lw_g (lw_at lw_m1 8 rfl) rfl
set_option maxRecDepth 100000
theorem q126 : (Jvm.Cond.initialized "FourCars$Token") ∈ lw_all := lw_g (lw_at lw_m1 9 rfl) rfl
set_option maxRecDepth 100000
theorem q522 : (Jvm.Cond.laysStatic "FourCars$Token" "END" "LFourCars$Token;") ∈ lw_tbl := lw_at lw_m2 165 rfl
theorem q524 : (Jvm.Cond.laysStatic "FourCars$Token" "NONE" "LFourCars$Token;") ∈ lw_tbl := lw_at lw_m2 167 rfl
theorem q529 : (Jvm.Cond.laysStatic "FourCars$Token" "WORD" "LFourCars$Token;") ∈ lw_tbl := lw_at lw_m2 172 rfl
theorem q594 : (Jvm.Cond.laysStatic "FourCars$Token" "NUMBER" "LFourCars$Token;") ∈ lw_tbl := lw_at lw_m2 237 rfl
theorem q654 : (Jvm.Cond.laysStatic "FourCars$Token" "SIGN" "LFourCars$Token;") ∈ lw_tbl := lw_at lw_m3 57 rfl
theorem q143 : (Jvm.Cond.initialized "java/lang/System") ∈ lw_all := lw_g (lw_at lw_m1 26 rfl) rfl
set_option maxRecDepth 100000
theorem q1063 : (Jvm.Cond.static ({ cls := "java/lang/System", name := "arraycopy", desc := "(Ljava/lang/Object;ILjava/lang/Object;II)V" } : Jvm.MethodName)) ∈ lw_all := lw_g (lw_at lw_m4 226 rfl) rfl
theorem q1064 : (Jvm.Cond.native ({ cls := "java/lang/System", name := "arraycopy", desc := "(Ljava/lang/Object;ILjava/lang/Object;II)V" } : Jvm.MethodName)) ∈ lw_all := lw_g (lw_at lw_m4 227 rfl) rfl
