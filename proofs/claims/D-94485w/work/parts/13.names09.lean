set_option maxRecDepth 100000
theorem dJ3_indexOfSupplementary_7 : decode cJ3_indexOfSupplementary 7 = .ok (.iload_n 1, 1) := dk_27 (dk_at dksJ3_indexOfSupplementary_0 7 rfl rfl)
theorem dJ3_indexOfSupplementary_8 : decode cJ3_indexOfSupplementary 8 = .ok (.invokestatic 157, 3) := dk_184 0 157 (dk_at dksJ3_indexOfSupplementary_0 8 rfl rfl)
theorem dJ3_indexOfSupplementary_11 : decode cJ3_indexOfSupplementary 11 = .ok (.istore 4, 2) := dk_54 4 (dk_at dksJ3_indexOfSupplementary_0 11 rfl rfl)
theorem dJ3_indexOfSupplementary_13 : decode cJ3_indexOfSupplementary 13 = .ok (.iload_n 1, 1) := dk_27 (dk_at dksJ3_indexOfSupplementary_0 13 rfl rfl)
theorem dJ3_indexOfSupplementary_14 : decode cJ3_indexOfSupplementary 14 = .ok (.invokestatic 161, 3) := dk_184 0 161 (dk_at dksJ3_indexOfSupplementary_0 14 rfl rfl)
theorem dJ3_indexOfSupplementary_17 : decode cJ3_indexOfSupplementary 17 = .ok (.istore 5, 2) := dk_54 5 (dk_at dksJ3_indexOfSupplementary_0 17 rfl rfl)
theorem dJ3_indexOfSupplementary_19 : decode cJ3_indexOfSupplementary 19 = .ok (.iload_n 2, 1) := dk_28 (dk_at dksJ3_indexOfSupplementary_0 19 rfl rfl)
theorem dJ3_indexOfSupplementary_20 : decode cJ3_indexOfSupplementary 20 = .ok (.iload_n 3, 1) := dk_29 (dk_at dksJ3_indexOfSupplementary_0 20 rfl rfl)
theorem dJ3_indexOfSupplementary_21 : decode cJ3_indexOfSupplementary 21 = .ok (.aload_n 0, 1) := dk_42 (dk_at dksJ3_indexOfSupplementary_0 21 rfl rfl)
theorem dJ3_indexOfSupplementary_22 : decode cJ3_indexOfSupplementary 22 = .ok (.invokestatic 96, 3) := dk_184 0 96 (dk_at dksJ3_indexOfSupplementary_1 0 rfl rfl)
theorem dJ3_indexOfSupplementary_25 : decode cJ3_indexOfSupplementary 25 = .ok (.iload_n 2, 1) := dk_28 (dk_at dksJ3_indexOfSupplementary_1 3 rfl rfl)
theorem dJ3_indexOfSupplementary_26 : decode cJ3_indexOfSupplementary 26 = .ok (.istore 6, 2) := dk_54 6 (dk_at dksJ3_indexOfSupplementary_1 4 rfl rfl)
theorem dJ3_indexOfSupplementary_28 : decode cJ3_indexOfSupplementary 28 = .ok (.iload 6, 2) := dk_21 6 (dk_at dksJ3_indexOfSupplementary_1 6 rfl rfl)
theorem dJ3_indexOfSupplementary_30 : decode cJ3_indexOfSupplementary 30 = .ok (.iload_n 3, 1) := dk_29 (dk_at dksJ3_indexOfSupplementary_1 8 rfl rfl)
theorem dJ3_indexOfSupplementary_31 : decode cJ3_indexOfSupplementary 31 = .ok (.iconst 1, 1) := dk_4 (dk_at dksJ3_indexOfSupplementary_1 9 rfl rfl)
theorem dJ3_indexOfSupplementary_32 : decode cJ3_indexOfSupplementary 32 = .ok (.isub, 1) := dk_100 (dk_at dksJ3_indexOfSupplementary_1 10 rfl rfl)
theorem dJ3_indexOfSupplementary_33 : decode cJ3_indexOfSupplementary 33 = .ok (.if_icmp .ge 36, 3) := dk_162 0 36 (dk_at dksJ3_indexOfSupplementary_1 11 rfl rfl)
theorem dJ3_indexOfSupplementary_36 : decode cJ3_indexOfSupplementary 36 = .ok (.aload_n 0, 1) := dk_42 (dk_at dksJ3_indexOfSupplementary_1 14 rfl rfl)
theorem dJ3_indexOfSupplementary_37 : decode cJ3_indexOfSupplementary 37 = .ok (.iload 6, 2) := dk_21 6 (dk_at dksJ3_indexOfSupplementary_1 15 rfl rfl)
theorem dJ3_indexOfSupplementary_39 : decode cJ3_indexOfSupplementary 39 = .ok (.invokestatic 71, 3) := dk_184 0 71 (dk_at dksJ3_indexOfSupplementary_1 17 rfl rfl)
theorem dJ3_indexOfSupplementary_42 : decode cJ3_indexOfSupplementary 42 = .ok (.iload 4, 2) := dk_21 4 (dk_at dksJ3_indexOfSupplementary_1 20 rfl rfl)
theorem dJ3_indexOfSupplementary_44 : decode cJ3_indexOfSupplementary 44 = .ok (.if_icmp .ne 19, 3) := dk_160 0 19 (dk_at dksJ3_indexOfSupplementary_2 0 rfl rfl)
theorem dJ3_indexOfSupplementary_47 : decode cJ3_indexOfSupplementary 47 = .ok (.aload_n 0, 1) := dk_42 (dk_at dksJ3_indexOfSupplementary_2 3 rfl rfl)
theorem dJ3_indexOfSupplementary_48 : decode cJ3_indexOfSupplementary 48 = .ok (.iload 6, 2) := dk_21 6 (dk_at dksJ3_indexOfSupplementary_2 4 rfl rfl)
theorem dJ3_indexOfSupplementary_50 : decode cJ3_indexOfSupplementary 50 = .ok (.iconst 1, 1) := dk_4 (dk_at dksJ3_indexOfSupplementary_2 6 rfl rfl)
theorem dJ3_indexOfSupplementary_51 : decode cJ3_indexOfSupplementary 51 = .ok (.iadd, 1) := dk_96 (dk_at dksJ3_indexOfSupplementary_2 7 rfl rfl)
theorem dJ3_indexOfSupplementary_52 : decode cJ3_indexOfSupplementary 52 = .ok (.invokestatic 71, 3) := dk_184 0 71 (dk_at dksJ3_indexOfSupplementary_2 8 rfl rfl)
theorem dJ3_indexOfSupplementary_55 : decode cJ3_indexOfSupplementary 55 = .ok (.iload 5, 2) := dk_21 5 (dk_at dksJ3_indexOfSupplementary_2 11 rfl rfl)
theorem dJ3_indexOfSupplementary_57 : decode cJ3_indexOfSupplementary 57 = .ok (.if_icmp .ne 6, 3) := dk_160 0 6 (dk_at dksJ3_indexOfSupplementary_2 13 rfl rfl)
theorem dJ3_indexOfSupplementary_60 : decode cJ3_indexOfSupplementary 60 = .ok (.iload 6, 2) := dk_21 6 (dk_at dksJ3_indexOfSupplementary_2 16 rfl rfl)
theorem dJ3_indexOfSupplementary_62 : decode cJ3_indexOfSupplementary 62 = .ok (.ireturn, 1) := dk_172 (dk_at dksJ3_indexOfSupplementary_2 18 rfl rfl)
theorem dJ3_indexOfSupplementary_63 : decode cJ3_indexOfSupplementary 63 = .ok (.iinc 6 1, 3) := dk_132 6 1 (dk_at dksJ3_indexOfSupplementary_2 19 rfl rfl)
theorem dJ3_indexOfSupplementary_66 : decode cJ3_indexOfSupplementary 66 = .ok (.goto (-38), 3) := dk_167 255 218 (dk_at dksJ3_indexOfSupplementary_3 0 rfl rfl)
theorem dJ3_indexOfSupplementary_69 : decode cJ3_indexOfSupplementary 69 = .ok (.iconst (-1), 1) := dk_2 (dk_at dksJ3_indexOfSupplementary_3 3 rfl rfl)
theorem dJ3_indexOfSupplementary_70 : decode cJ3_indexOfSupplementary 70 = .ok (.ireturn, 1) := dk_172 (dk_at dksJ3_indexOfSupplementary_3 4 rfl rfl)
theorem q130 : (Jvm.Cond.initialized "java/lang/StringUTF16") ∈ lw_all := lw_g (lw_at lw_m1 13 rfl) rfl
theorem q568 : (Jvm.Cond.static ({ cls := "java/lang/StringUTF16", name := "charAt", desc := "([BI)C" } : Jvm.MethodName)) ∈ lw_all := lw_g (lw_at lw_m2 211 rfl) rfl
theorem q569 : (Jvm.Cond.code ({ cls := "java/lang/StringUTF16", name := "charAt", desc := "([BI)C" } : Jvm.MethodName) prog_23_method_83_code (2 : Nat) (Option.some Jvm.ClassFile.FieldType.char)) ∈ lw_all := lw_g (lw_at lw_m2 212 rfl) rfl
theorem q570 : (Jvm.Cond.methodLink "java/lang/StringUTF16" (67 : Nat) ({ cls := "java/lang/StringUTF16", name := "checkIndex", desc := "(I[B)V" } : Jvm.MethodName)) ∈ lw_all := lw_g (lw_at lw_m2 213 rfl) rfl
theorem q571 : (Jvm.Cond.static ({ cls := "java/lang/StringUTF16", name := "checkIndex", desc := "(I[B)V" } : Jvm.MethodName)) ∈ lw_all := lw_g (lw_at lw_m2 214 rfl) rfl
theorem q572 : (Jvm.Cond.code ({ cls := "java/lang/StringUTF16", name := "checkIndex", desc := "(I[B)V" } : Jvm.MethodName) prog_23_method_91_code (2 : Nat) (Option.none : Option Jvm.ClassFile.FieldType)) ∈ lw_all := lw_g (lw_at lw_m2 215 rfl) rfl
theorem q573 : (Jvm.Cond.methodLink "java/lang/StringUTF16" (48 : Nat) ({ cls := "java/lang/StringUTF16", name := "length", desc := "([B)I" } : Jvm.MethodName)) ∈ lw_all := lw_g (lw_at lw_m2 216 rfl) rfl
theorem q574 : (Jvm.Cond.static ({ cls := "java/lang/StringUTF16", name := "length", desc := "([B)I" } : Jvm.MethodName)) ∈ lw_all := lw_g (lw_at lw_m2 217 rfl) rfl
theorem q575 : (Jvm.Cond.code ({ cls := "java/lang/StringUTF16", name := "length", desc := "([B)I" } : Jvm.MethodName) prog_23_method_6_code (1 : Nat) (Option.some Jvm.ClassFile.FieldType.int)) ∈ lw_all := lw_g (lw_at lw_m2 218 rfl) rfl
theorem q576 : (Jvm.Cond.methodLink "java/lang/StringUTF16" (414 : Nat) ({ cls := "java/lang/String", name := "checkIndex", desc := "(II)V" } : Jvm.MethodName)) ∈ lw_all := lw_g (lw_at lw_m2 219 rfl) rfl
theorem q577 : (Jvm.Cond.methodLink "java/lang/StringUTF16" (71 : Nat) ({ cls := "java/lang/StringUTF16", name := "getChar", desc := "([BI)C" } : Jvm.MethodName)) ∈ lw_all := lw_g (lw_at lw_m2 220 rfl) rfl
theorem q578 : (Jvm.Cond.static ({ cls := "java/lang/StringUTF16", name := "getChar", desc := "([BI)C" } : Jvm.MethodName)) ∈ lw_all := lw_g (lw_at lw_m2 221 rfl) rfl
theorem q579 : (Jvm.Cond.code ({ cls := "java/lang/StringUTF16", name := "getChar", desc := "([BI)C" } : Jvm.MethodName) prog_23_method_5_code (2 : Nat) (Option.some Jvm.ClassFile.FieldType.char)) ∈ lw_all := lw_g (lw_at lw_m2 222 rfl) rfl
theorem q580 : (Jvm.Cond.fieldLink "java/lang/StringUTF16" (44 : Nat) "java/lang/StringUTF16" "$assertionsDisabled" "Z") ∈ lw_all := lw_g (lw_at lw_m2 223 rfl) rfl
theorem q581 : (Jvm.Cond.laysStatic "java/lang/StringUTF16" "$assertionsDisabled" "Z") ∈ lw_tbl := lw_at lw_m2 224 rfl
theorem q582 : (Jvm.Cond.fieldLink "java/lang/StringUTF16" (59 : Nat) "java/lang/StringUTF16" "HI_BYTE_SHIFT" "I") ∈ lw_all := lw_g (lw_at lw_m2 225 rfl) rfl
theorem q583 : (Jvm.Cond.laysStatic "java/lang/StringUTF16" "HI_BYTE_SHIFT" "I") ∈ lw_tbl := lw_at lw_m2 226 rfl
theorem q584 : (Jvm.Cond.fieldLink "java/lang/StringUTF16" (63 : Nat) "java/lang/StringUTF16" "LO_BYTE_SHIFT" "I") ∈ lw_all := lw_g (lw_at lw_m2 227 rfl) rfl
theorem q585 : (Jvm.Cond.laysStatic "java/lang/StringUTF16" "LO_BYTE_SHIFT" "I") ∈ lw_tbl := lw_at lw_m2 228 rfl
theorem q619 : (Jvm.Cond.static ({ cls := "java/lang/StringUTF16", name := "indexOf", desc := "([BIII)I" } : Jvm.MethodName)) ∈ lw_all := lw_g (lw_at lw_m3 22 rfl) rfl
theorem q620 : (Jvm.Cond.code ({ cls := "java/lang/StringUTF16", name := "indexOf", desc := "([BIII)I" } : Jvm.MethodName) prog_23_method_40_code (4 : Nat) (Option.some Jvm.ClassFile.FieldType.int)) ∈ lw_all := lw_g (lw_at lw_m3 23 rfl) rfl
theorem q621 : (Jvm.Cond.methodLink "java/lang/StringUTF16" (224 : Nat) ({ cls := "java/lang/Math", name := "max", desc := "(II)I" } : Jvm.MethodName)) ∈ lw_all := lw_g (lw_at lw_m3 24 rfl) rfl
theorem q622 : (Jvm.Cond.methodLink "java/lang/StringUTF16" (183 : Nat) ({ cls := "java/lang/Math", name := "min", desc := "(II)I" } : Jvm.MethodName)) ∈ lw_all := lw_g (lw_at lw_m3 25 rfl) rfl
theorem q623 : (Jvm.Cond.constant "java/lang/StringUTF16" (227 : Nat) (65536 : Int32)) ∈ lw_all := lw_g (lw_at lw_m3 26 rfl) rfl
theorem q624 : (Jvm.Cond.methodLink "java/lang/StringUTF16" (228 : Nat) ({ cls := "java/lang/StringUTF16", name := "indexOfChar", desc := "([BIII)I" } : Jvm.MethodName)) ∈ lw_all := lw_g (lw_at lw_m3 27 rfl) rfl
theorem q625 : (Jvm.Cond.static ({ cls := "java/lang/StringUTF16", name := "indexOfChar", desc := "([BIII)I" } : Jvm.MethodName)) ∈ lw_all := lw_g (lw_at lw_m3 28 rfl) rfl
theorem q626 : (Jvm.Cond.code ({ cls := "java/lang/StringUTF16", name := "indexOfChar", desc := "([BIII)I" } : Jvm.MethodName) prog_23_method_47_code (4 : Nat) (Option.some Jvm.ClassFile.FieldType.int)) ∈ lw_all := lw_g (lw_at lw_m3 29 rfl) rfl
theorem q627 : (Jvm.Cond.methodLink "java/lang/StringUTF16" (96 : Nat) ({ cls := "java/lang/StringUTF16", name := "checkBoundsBeginEnd", desc := "(II[B)V" } : Jvm.MethodName)) ∈ lw_all := lw_g (lw_at lw_m3 30 rfl) rfl
theorem q628 : (Jvm.Cond.static ({ cls := "java/lang/StringUTF16", name := "checkBoundsBeginEnd", desc := "(II[B)V" } : Jvm.MethodName)) ∈ lw_all := lw_g (lw_at lw_m3 31 rfl) rfl
theorem q629 : (Jvm.Cond.code ({ cls := "java/lang/StringUTF16", name := "checkBoundsBeginEnd", desc := "(II[B)V" } : Jvm.MethodName) prog_23_method_93_code (3 : Nat) (Option.none : Option Jvm.ClassFile.FieldType)) ∈ lw_all := lw_g (lw_at lw_m3 32 rfl) rfl
theorem q630 : (Jvm.Cond.methodLink "java/lang/StringUTF16" (241 : Nat) ({ cls := "java/lang/String", name := "checkBoundsBeginEnd", desc := "(III)V" } : Jvm.MethodName)) ∈ lw_all := lw_g (lw_at lw_m3 33 rfl) rfl
theorem q636 : (Jvm.Cond.methodLink "java/lang/StringUTF16" (244 : Nat) ({ cls := "java/lang/StringUTF16", name := "indexOfCharUnsafe", desc := "([BIII)I" } : Jvm.MethodName)) ∈ lw_all := lw_g (lw_at lw_m3 39 rfl) rfl
theorem q637 : (Jvm.Cond.static ({ cls := "java/lang/StringUTF16", name := "indexOfCharUnsafe", desc := "([BIII)I" } : Jvm.MethodName)) ∈ lw_all := lw_g (lw_at lw_m3 40 rfl) rfl
theorem q638 : (Jvm.Cond.code ({ cls := "java/lang/StringUTF16", name := "indexOfCharUnsafe", desc := "([BIII)I" } : Jvm.MethodName) prog_23_method_48_code (5 : Nat) (Option.some Jvm.ClassFile.FieldType.int)) ∈ lw_all := lw_g (lw_at lw_m3 41 rfl) rfl
theorem q639 : (Jvm.Cond.methodLink "java/lang/StringUTF16" (232 : Nat) ({ cls := "java/lang/StringUTF16", name := "indexOfSupplementary", desc := "([BIII)I" } : Jvm.MethodName)) ∈ lw_all := lw_g (lw_at lw_m3 42 rfl) rfl
theorem q640 : (Jvm.Cond.static ({ cls := "java/lang/StringUTF16", name := "indexOfSupplementary", desc := "([BIII)I" } : Jvm.MethodName)) ∈ lw_all := lw_g (lw_at lw_m3 43 rfl) rfl
theorem q641 : (Jvm.Cond.code ({ cls := "java/lang/StringUTF16", name := "indexOfSupplementary", desc := "([BIII)I" } : Jvm.MethodName) prog_23_method_49_code (7 : Nat) (Option.some Jvm.ClassFile.FieldType.int)) ∈ lw_all := lw_g (lw_at lw_m3 44 rfl) rfl
theorem q642 : (Jvm.Cond.methodLink "java/lang/StringUTF16" (164 : Nat) ({ cls := "java/lang/Character", name := "isValidCodePoint", desc := "(I)Z" } : Jvm.MethodName)) ∈ lw_all := lw_g (lw_at lw_m3 45 rfl) rfl
theorem q645 : (Jvm.Cond.methodLink "java/lang/StringUTF16" (157 : Nat) ({ cls := "java/lang/Character", name := "highSurrogate", desc := "(I)C" } : Jvm.MethodName)) ∈ lw_all := lw_g (lw_at lw_m3 48 rfl) rfl
theorem q649 : (Jvm.Cond.methodLink "java/lang/StringUTF16" (161 : Nat) ({ cls := "java/lang/Character", name := "lowSurrogate", desc := "(I)C" } : Jvm.MethodName)) ∈ lw_all := lw_g (lw_at lw_m3 52 rfl) rfl
/-! java/lang/Math -/
def RJ4 : String := "java/lang/Math"
abbrev cJ4_min : ByteArray := prog_20_method_69_code
def yJ4_min : MethodName := ⟨RJ4, "min", "(II)I"⟩
def dkwJ4_min_0 : List UInt8 := [26, 27, 163, 0, 7, 26, 167, 0, 4, 27, 172]
abbrev dktJ4_min_0 : List UInt8 := dkwJ4_min_0 ++ []
theorem dksJ4_min_0 : cJ4_min.data.toList.drop 0 = dktJ4_min_0 := by decide +kernel
theorem dJ4_min_0 : decode cJ4_min 0 = .ok (.iload_n 0, 1) := dk_26 (dk_at dksJ4_min_0 0 rfl rfl)
theorem dJ4_min_1 : decode cJ4_min 1 = .ok (.iload_n 1, 1) := dk_27 (dk_at dksJ4_min_0 1 rfl rfl)
theorem dJ4_min_2 : decode cJ4_min 2 = .ok (.if_icmp .gt 7, 3) := dk_163 0 7 (dk_at dksJ4_min_0 2 rfl rfl)
theorem dJ4_min_5 : decode cJ4_min 5 = .ok (.iload_n 0, 1) := dk_26 (dk_at dksJ4_min_0 5 rfl rfl)
theorem dJ4_min_6 : decode cJ4_min 6 = .ok (.goto 4, 3) := dk_167 0 4 (dk_at dksJ4_min_0 6 rfl rfl)
theorem dJ4_min_9 : decode cJ4_min 9 = .ok (.iload_n 1, 1) := dk_27 (dk_at dksJ4_min_0 9 rfl rfl)
theorem dJ4_min_10 : decode cJ4_min 10 = .ok (.ireturn, 1) := dk_172 (dk_at dksJ4_min_0 10 rfl rfl)
abbrev cJ4_max : ByteArray := prog_20_method_65_code
def yJ4_max : MethodName := ⟨RJ4, "max", "(II)I"⟩
def dkwJ4_max_0 : List UInt8 := [26, 27, 161, 0, 7, 26, 167, 0, 4, 27, 172]
abbrev dktJ4_max_0 : List UInt8 := dkwJ4_max_0 ++ []
theorem dksJ4_max_0 : cJ4_max.data.toList.drop 0 = dktJ4_max_0 := by decide +kernel
theorem dJ4_max_0 : decode cJ4_max 0 = .ok (.iload_n 0, 1) := dk_26 (dk_at dksJ4_max_0 0 rfl rfl)
theorem dJ4_max_1 : decode cJ4_max 1 = .ok (.iload_n 1, 1) := dk_27 (dk_at dksJ4_max_0 1 rfl rfl)
theorem dJ4_max_2 : decode cJ4_max 2 = .ok (.if_icmp .lt 7, 3) := dk_161 0 7 (dk_at dksJ4_max_0 2 rfl rfl)
theorem dJ4_max_5 : decode cJ4_max 5 = .ok (.iload_n 0, 1) := dk_26 (dk_at dksJ4_max_0 5 rfl rfl)
theorem dJ4_max_6 : decode cJ4_max 6 = .ok (.goto 4, 3) := dk_167 0 4 (dk_at dksJ4_max_0 6 rfl rfl)
theorem dJ4_max_9 : decode cJ4_max 9 = .ok (.iload_n 1, 1) := dk_27 (dk_at dksJ4_max_0 9 rfl rfl)
theorem dJ4_max_10 : decode cJ4_max 10 = .ok (.ireturn, 1) := dk_172 (dk_at dksJ4_max_0 10 rfl rfl)
abbrev cJ4_abs : ByteArray := prog_20_method_59_code
def yJ4_abs : MethodName := ⟨RJ4, "abs", "(I)I"⟩
def dkwJ4_abs_0 : List UInt8 := [26, 156, 0, 8, 26, 116, 167, 0, 4, 26, 172]
abbrev dktJ4_abs_0 : List UInt8 := dkwJ4_abs_0 ++ []
theorem dksJ4_abs_0 : cJ4_abs.data.toList.drop 0 = dktJ4_abs_0 := by decide +kernel
theorem dJ4_abs_0 : decode cJ4_abs 0 = .ok (.iload_n 0, 1) := dk_26 (dk_at dksJ4_abs_0 0 rfl rfl)
theorem dJ4_abs_1 : decode cJ4_abs 1 = .ok (.ifCond .ge 8, 3) := dk_156 0 8 (dk_at dksJ4_abs_0 1 rfl rfl)
theorem dJ4_abs_4 : decode cJ4_abs 4 = .ok (.iload_n 0, 1) := dk_26 (dk_at dksJ4_abs_0 4 rfl rfl)
theorem dJ4_abs_5 : decode cJ4_abs 5 = .ok (.ineg, 1) := dk_116 (dk_at dksJ4_abs_0 5 rfl rfl)
theorem dJ4_abs_6 : decode cJ4_abs 6 = .ok (.goto 4, 3) := dk_167 0 4 (dk_at dksJ4_abs_0 6 rfl rfl)
theorem dJ4_abs_9 : decode cJ4_abs 9 = .ok (.iload_n 0, 1) := dk_26 (dk_at dksJ4_abs_0 9 rfl rfl)
theorem dJ4_abs_10 : decode cJ4_abs 10 = .ok (.ireturn, 1) := dk_172 (dk_at dksJ4_abs_0 10 rfl rfl)
theorem q131 : (Jvm.Cond.initialized "java/lang/Math") ∈ lw_all := lw_g (lw_at lw_m1 14 rfl) rfl
theorem q591 : (Jvm.Cond.static ({ cls := "java/lang/Math", name := "min", desc := "(II)I" } : Jvm.MethodName)) ∈ lw_all := lw_g (lw_at lw_m2 234 rfl) rfl
theorem q592 : (Jvm.Cond.code ({ cls := "java/lang/Math", name := "min", desc := "(II)I" } : Jvm.MethodName) prog_20_method_69_code (2 : Nat) (Option.some Jvm.ClassFile.FieldType.int)) ∈ lw_all := lw_g (lw_at lw_m2 235 rfl) rfl
theorem q612 : (Jvm.Cond.static ({ cls := "java/lang/Math", name := "max", desc := "(II)I" } : Jvm.MethodName)) ∈ lw_all := lw_g (lw_at lw_m3 15 rfl) rfl
theorem q613 : (Jvm.Cond.code ({ cls := "java/lang/Math", name := "max", desc := "(II)I" } : Jvm.MethodName) prog_20_method_65_code (2 : Nat) (Option.some Jvm.ClassFile.FieldType.int)) ∈ lw_all := lw_g (lw_at lw_m3 16 rfl) rfl
theorem q897 : (Jvm.Cond.static ({ cls := "java/lang/Math", name := "abs", desc := "(I)I" } : Jvm.MethodName)) ∈ lw_all := lw_g (lw_at lw_m4 60 rfl) rfl
theorem q898 : (Jvm.Cond.code ({ cls := "java/lang/Math", name := "abs", desc := "(I)I" } : Jvm.MethodName) prog_20_method_59_code (1 : Nat) (Option.some Jvm.ClassFile.FieldType.int)) ∈ lw_all := lw_g (lw_at lw_m4 61 rfl) rfl
/-! java/lang/Character -/
def RJ5 : String := "java/lang/Character"
abbrev cJ5_isValidCodePoint : ByteArray := prog_16_method_11_code
def yJ5_isValidCodePoint : MethodName := ⟨RJ5, "isValidCodePoint", "(I)Z"⟩
def dkwJ5_isValidCodePoint_0 : List UInt8 := [26, 16, 16, 124, 60, 27, 16, 17, 162, 0, 7, 4, 167, 0, 4, 3, 172]
abbrev dktJ5_isValidCodePoint_0 : List UInt8 := dkwJ5_isValidCodePoint_0 ++ []
theorem dksJ5_isValidCodePoint_0 : cJ5_isValidCodePoint.data.toList.drop 0 = dktJ5_isValidCodePoint_0 := by decide +kernel
theorem dJ5_isValidCodePoint_0 : decode cJ5_isValidCodePoint 0 = .ok (.iload_n 0, 1) := dk_26 (dk_at dksJ5_isValidCodePoint_0 0 rfl rfl)
theorem dJ5_isValidCodePoint_1 : decode cJ5_isValidCodePoint 1 = .ok (.bipush 16, 2) := dk_16 16 (dk_at dksJ5_isValidCodePoint_0 1 rfl rfl)
theorem dJ5_isValidCodePoint_3 : decode cJ5_isValidCodePoint 3 = .ok (.iushr, 1) := dk_124 (dk_at dksJ5_isValidCodePoint_0 3 rfl rfl)
theorem dJ5_isValidCodePoint_4 : decode cJ5_isValidCodePoint 4 = .ok (.istore_n 1, 1) := dk_60 (dk_at dksJ5_isValidCodePoint_0 4 rfl rfl)
theorem dJ5_isValidCodePoint_5 : decode cJ5_isValidCodePoint 5 = .ok (.iload_n 1, 1) := dk_27 (dk_at dksJ5_isValidCodePoint_0 5 rfl rfl)
theorem dJ5_isValidCodePoint_6 : decode cJ5_isValidCodePoint 6 = .ok (.bipush 17, 2) := dk_16 17 (dk_at dksJ5_isValidCodePoint_0 6 rfl rfl)
theorem dJ5_isValidCodePoint_8 : decode cJ5_isValidCodePoint 8 = .ok (.if_icmp .ge 7, 3) := dk_162 0 7 (dk_at dksJ5_isValidCodePoint_0 8 rfl rfl)
theorem dJ5_isValidCodePoint_11 : decode cJ5_isValidCodePoint 11 = .ok (.iconst 1, 1) := dk_4 (dk_at dksJ5_isValidCodePoint_0 11 rfl rfl)
theorem dJ5_isValidCodePoint_12 : decode cJ5_isValidCodePoint 12 = .ok (.goto 4, 3) := dk_167 0 4 (dk_at dksJ5_isValidCodePoint_0 12 rfl rfl)
theorem dJ5_isValidCodePoint_15 : decode cJ5_isValidCodePoint 15 = .ok (.iconst 0, 1) := dk_3 (dk_at dksJ5_isValidCodePoint_0 15 rfl rfl)
theorem dJ5_isValidCodePoint_16 : decode cJ5_isValidCodePoint 16 = .ok (.ireturn, 1) := dk_172 (dk_at dksJ5_isValidCodePoint_0 16 rfl rfl)
abbrev cJ5_highSurrogate : ByteArray := prog_16_method_28_code
def yJ5_highSurrogate : MethodName := ⟨RJ5, "highSurrogate", "(I)C"⟩
def dkwJ5_highSurrogate_0 : List UInt8 := [26, 16, 10, 124, 18, 110, 96, 146, 172]
abbrev dktJ5_highSurrogate_0 : List UInt8 := dkwJ5_highSurrogate_0 ++ []
theorem dksJ5_highSurrogate_0 : cJ5_highSurrogate.data.toList.drop 0 = dktJ5_highSurrogate_0 := by decide +kernel
theorem dJ5_highSurrogate_0 : decode cJ5_highSurrogate 0 = .ok (.iload_n 0, 1) := dk_26 (dk_at dksJ5_highSurrogate_0 0 rfl rfl)
theorem dJ5_highSurrogate_1 : decode cJ5_highSurrogate 1 = .ok (.bipush 10, 2) := dk_16 10 (dk_at dksJ5_highSurrogate_0 1 rfl rfl)
theorem dJ5_highSurrogate_3 : decode cJ5_highSurrogate 3 = .ok (.iushr, 1) := dk_124 (dk_at dksJ5_highSurrogate_0 3 rfl rfl)
theorem dJ5_highSurrogate_4 : decode cJ5_highSurrogate 4 = .ok (.ldc 110, 2) := dk_18 110 (dk_at dksJ5_highSurrogate_0 4 rfl rfl)
theorem dJ5_highSurrogate_6 : decode cJ5_highSurrogate 6 = .ok (.iadd, 1) := dk_96 (dk_at dksJ5_highSurrogate_0 6 rfl rfl)
theorem dJ5_highSurrogate_7 : decode cJ5_highSurrogate 7 = .ok (.i2c, 1) := dk_146 (dk_at dksJ5_highSurrogate_0 7 rfl rfl)
theorem dJ5_highSurrogate_8 : decode cJ5_highSurrogate 8 = .ok (.ireturn, 1) := dk_172 (dk_at dksJ5_highSurrogate_0 8 rfl rfl)
abbrev cJ5_lowSurrogate : ByteArray := prog_16_method_29_code
def yJ5_lowSurrogate : MethodName := ⟨RJ5, "lowSurrogate", "(I)C"⟩
def dkwJ5_lowSurrogate_0 : List UInt8 := [26, 17, 3, 255, 126, 18, 76, 96, 146, 172]
abbrev dktJ5_lowSurrogate_0 : List UInt8 := dkwJ5_lowSurrogate_0 ++ []
theorem dksJ5_lowSurrogate_0 : cJ5_lowSurrogate.data.toList.drop 0 = dktJ5_lowSurrogate_0 := by decide +kernel
theorem dJ5_lowSurrogate_0 : decode cJ5_lowSurrogate 0 = .ok (.iload_n 0, 1) := dk_26 (dk_at dksJ5_lowSurrogate_0 0 rfl rfl)
theorem dJ5_lowSurrogate_1 : decode cJ5_lowSurrogate 1 = .ok (.sipush 1023, 3) := dk_17 3 255 (dk_at dksJ5_lowSurrogate_0 1 rfl rfl)
theorem dJ5_lowSurrogate_4 : decode cJ5_lowSurrogate 4 = .ok (.iand, 1) := dk_126 (dk_at dksJ5_lowSurrogate_0 4 rfl rfl)
theorem dJ5_lowSurrogate_5 : decode cJ5_lowSurrogate 5 = .ok (.ldc 76, 2) := dk_18 76 (dk_at dksJ5_lowSurrogate_0 5 rfl rfl)
theorem dJ5_lowSurrogate_7 : decode cJ5_lowSurrogate 7 = .ok (.iadd, 1) := dk_96 (dk_at dksJ5_lowSurrogate_0 7 rfl rfl)
theorem dJ5_lowSurrogate_8 : decode cJ5_lowSurrogate 8 = .ok (.i2c, 1) := dk_146 (dk_at dksJ5_lowSurrogate_0 8 rfl rfl)
theorem dJ5_lowSurrogate_9 : decode cJ5_lowSurrogate 9 = .ok (.ireturn, 1) := dk_172 (dk_at dksJ5_lowSurrogate_0 9 rfl rfl)
theorem q132 : (Jvm.Cond.initialized "java/lang/Character") ∈ lw_all := lw_g (lw_at lw_m1 15 rfl) rfl
theorem q643 : (Jvm.Cond.static ({ cls := "java/lang/Character", name := "isValidCodePoint", desc := "(I)Z" } : Jvm.MethodName)) ∈ lw_all := lw_g (lw_at lw_m3 46 rfl) rfl
theorem q644 : (Jvm.Cond.code ({ cls := "java/lang/Character", name := "isValidCodePoint", desc := "(I)Z" } : Jvm.MethodName) prog_16_method_11_code (2 : Nat) (Option.some Jvm.ClassFile.FieldType.boolean)) ∈ lw_all := lw_g (lw_at lw_m3 47 rfl) rfl
theorem q646 : (Jvm.Cond.static ({ cls := "java/lang/Character", name := "highSurrogate", desc := "(I)C" } : Jvm.MethodName)) ∈ lw_all := lw_g (lw_at lw_m3 49 rfl) rfl
theorem q647 : (Jvm.Cond.code ({ cls := "java/lang/Character", name := "highSurrogate", desc := "(I)C" } : Jvm.MethodName) prog_16_method_28_code (1 : Nat) (Option.some Jvm.ClassFile.FieldType.char)) ∈ lw_all := lw_g (lw_at lw_m3 50 rfl) rfl
theorem q648 : (Jvm.Cond.constant "java/lang/Character" (110 : Nat) (55232 : Int32)) ∈ lw_all := lw_g (lw_at lw_m3 51 rfl) rfl
theorem q650 : (Jvm.Cond.static ({ cls := "java/lang/Character", name := "lowSurrogate", desc := "(I)C" } : Jvm.MethodName)) ∈ lw_all := lw_g (lw_at lw_m3 53 rfl) rfl
theorem q651 : (Jvm.Cond.code ({ cls := "java/lang/Character", name := "lowSurrogate", desc := "(I)C" } : Jvm.MethodName) prog_16_method_29_code (1 : Nat) (Option.some Jvm.ClassFile.FieldType.char)) ∈ lw_all := lw_g (lw_at lw_m3 54 rfl) rfl
theorem q652 : (Jvm.Cond.constant "java/lang/Character" (76 : Nat) (56320 : Int32)) ∈ lw_all := lw_g (lw_at lw_m3 55 rfl) rfl
/-! java/lang/Throwable -/
def RJ6 : String := "java/lang/Throwable"
def TJ6 : u_T := fun k => match k with
  | 0 => ("java/lang/Throwable", "cause", "Ljava/lang/Throwable;", false)
  | 1 => ("java/lang/Throwable", "stackTrace", "[Ljava/lang/StackTraceElement;", false)
  | 2 => ("java/lang/Throwable", "suppressedExceptions", "Ljava/util/List;", false)
  | 3 => ("java/lang/Throwable", "detailMessage", "Ljava/lang/String;", false)
  | _ => ("java/lang/Throwable", "backtrace", "Ljava/lang/Object;", false)
def tyJ6 : Nat → FieldType := fun k => match k with
  | 0 => .object "java/lang/Throwable"
  | 1 => .array (.object "java/lang/StackTraceElement")
  | 2 => .object "java/util/List"
  | 3 => .object "java/lang/String"
  | _ => .object "java/lang/Object"
abbrev wsJ60 : List Cond := u_ws RJ6 TJ6 5
theorem nmJ6 : ∀ a, a < 5 → ∀ b, b < 5 → a ≠ b → (TJ6 a).2.1 ≠ (TJ6 b).2.1 := by decide +kernel
theorem tyJ6_ok : ∀ k, k < 5 → parseFieldDescriptor (TJ6 k).2.2.1 = some (tyJ6 k) := by decide +kernel
abbrev cJ6_init : ByteArray := prog_25_method_1_code
def yJ6_init : MethodName := ⟨RJ6, "<init>", "()V"⟩
def dkwJ6_init_1 : List UInt8 := [182, 0, 27, 87, 177]
abbrev dktJ6_init_1 : List UInt8 := dkwJ6_init_1 ++ []
def dkwJ6_init_0 : List UInt8 := [42, 183, 0, 1, 42, 42, 181, 0, 7, 42, 178, 0, 13, 181, 0, 17, 42, 178, 0, 20, 181, 0, 24, 42]
abbrev dktJ6_init_0 : List UInt8 := dkwJ6_init_0 ++ dktJ6_init_1
theorem dksJ6_init_0 : cJ6_init.data.toList.drop 0 = dktJ6_init_0 := by decide +kernel
theorem dksJ6_init_1 : cJ6_init.data.toList.drop 24 = dktJ6_init_1 := dk_seg dksJ6_init_0 24 rfl rfl
theorem dJ6_init_0 : decode cJ6_init 0 = .ok (.aload_n 0, 1) := dk_42 (dk_at dksJ6_init_0 0 rfl rfl)
theorem dJ6_init_1 : decode cJ6_init 1 = .ok (.invokespecial 1, 3) := dk_183 0 1 (dk_at dksJ6_init_0 1 rfl rfl)
theorem dJ6_init_4 : decode cJ6_init 4 = .ok (.aload_n 0, 1) := dk_42 (dk_at dksJ6_init_0 4 rfl rfl)
theorem dJ6_init_5 : decode cJ6_init 5 = .ok (.aload_n 0, 1) := dk_42 (dk_at dksJ6_init_0 5 rfl rfl)
theorem dJ6_init_6 : decode cJ6_init 6 = .ok (.putfield 7, 3) := dk_181 0 7 (dk_at dksJ6_init_0 6 rfl rfl)
theorem dJ6_init_9 : decode cJ6_init 9 = .ok (.aload_n 0, 1) := dk_42 (dk_at dksJ6_init_0 9 rfl rfl)
theorem dJ6_init_10 : decode cJ6_init 10 = .ok (.getstatic 13, 3) := dk_178 0 13 (dk_at dksJ6_init_0 10 rfl rfl)
theorem dJ6_init_13 : decode cJ6_init 13 = .ok (.putfield 17, 3) := dk_181 0 17 (dk_at dksJ6_init_0 13 rfl rfl)
theorem dJ6_init_16 : decode cJ6_init 16 = .ok (.aload_n 0, 1) := dk_42 (dk_at dksJ6_init_0 16 rfl rfl)
theorem dJ6_init_17 : decode cJ6_init 17 = .ok (.getstatic 20, 3) := dk_178 0 20 (dk_at dksJ6_init_0 17 rfl rfl)
theorem dJ6_init_20 : decode cJ6_init 20 = .ok (.putfield 24, 3) := dk_181 0 24 (dk_at dksJ6_init_0 20 rfl rfl)
theorem dJ6_init_23 : decode cJ6_init 23 = .ok (.aload_n 0, 1) := dk_42 (dk_at dksJ6_init_0 23 rfl rfl)
theorem dJ6_init_24 : decode cJ6_init 24 = .ok (.invokevirtual 27, 3) := dk_182 0 27 (dk_at dksJ6_init_1 0 rfl rfl)
theorem dJ6_init_27 : decode cJ6_init 27 = .ok (.pop, 1) := dk_87 (dk_at dksJ6_init_1 3 rfl rfl)
theorem dJ6_init_28 : decode cJ6_init 28 = .ok (.return_, 1) := dk_177 (dk_at dksJ6_init_1 4 rfl rfl)
abbrev cJ6_init_2 : ByteArray := prog_25_method_5_code
def yJ6_init_2 : MethodName := ⟨RJ6, "<init>", "(Ljava/lang/String;Ljava/lang/Throwable;ZZ)V"⟩
def dkwJ6_init_2_2 : List UInt8 := [44, 181, 0, 7, 29, 154, 0, 8, 42, 1, 181, 0, 24, 177]
abbrev dktJ6_init_2_2 : List UInt8 := dkwJ6_init_2_2 ++ []
def dkwJ6_init_2_1 : List UInt8 := [21, 4, 153, 0, 11, 42, 182, 0, 27, 87, 167, 0, 8, 42, 1, 181, 0, 17, 42, 43, 181, 0, 31, 42]
abbrev dktJ6_init_2_1 : List UInt8 := dkwJ6_init_2_1 ++ dktJ6_init_2_2
def dkwJ6_init_2_0 : List UInt8 := [42, 183, 0, 1, 42, 42, 181, 0, 7, 42, 178, 0, 13, 181, 0, 17, 42, 178, 0, 20, 181, 0, 24]
abbrev dktJ6_init_2_0 : List UInt8 := dkwJ6_init_2_0 ++ dktJ6_init_2_1
theorem dksJ6_init_2_0 : cJ6_init_2.data.toList.drop 0 = dktJ6_init_2_0 := by decide +kernel
theorem dksJ6_init_2_1 : cJ6_init_2.data.toList.drop 23 = dktJ6_init_2_1 := dk_seg dksJ6_init_2_0 23 rfl rfl
theorem dksJ6_init_2_2 : cJ6_init_2.data.toList.drop 47 = dktJ6_init_2_2 := dk_seg dksJ6_init_2_1 24 rfl rfl
theorem dJ6_init_2_0 : decode cJ6_init_2 0 = .ok (.aload_n 0, 1) := dk_42 (dk_at dksJ6_init_2_0 0 rfl rfl)
theorem dJ6_init_2_1 : decode cJ6_init_2 1 = .ok (.invokespecial 1, 3) := dk_183 0 1 (dk_at dksJ6_init_2_0 1 rfl rfl)
theorem dJ6_init_2_4 : decode cJ6_init_2 4 = .ok (.aload_n 0, 1) := dk_42 (dk_at dksJ6_init_2_0 4 rfl rfl)
theorem dJ6_init_2_5 : decode cJ6_init_2 5 = .ok (.aload_n 0, 1) := dk_42 (dk_at dksJ6_init_2_0 5 rfl rfl)
theorem dJ6_init_2_6 : decode cJ6_init_2 6 = .ok (.putfield 7, 3) := dk_181 0 7 (dk_at dksJ6_init_2_0 6 rfl rfl)
theorem dJ6_init_2_9 : decode cJ6_init_2 9 = .ok (.aload_n 0, 1) := dk_42 (dk_at dksJ6_init_2_0 9 rfl rfl)
theorem dJ6_init_2_10 : decode cJ6_init_2 10 = .ok (.getstatic 13, 3) := dk_178 0 13 (dk_at dksJ6_init_2_0 10 rfl rfl)
theorem dJ6_init_2_13 : decode cJ6_init_2 13 = .ok (.putfield 17, 3) := dk_181 0 17 (dk_at dksJ6_init_2_0 13 rfl rfl)
theorem dJ6_init_2_16 : decode cJ6_init_2 16 = .ok (.aload_n 0, 1) := dk_42 (dk_at dksJ6_init_2_0 16 rfl rfl)
theorem dJ6_init_2_17 : decode cJ6_init_2 17 = .ok (.getstatic 20, 3) := dk_178 0 20 (dk_at dksJ6_init_2_0 17 rfl rfl)
theorem dJ6_init_2_20 : decode cJ6_init_2 20 = .ok (.putfield 24, 3) := dk_181 0 24 (dk_at dksJ6_init_2_0 20 rfl rfl)
theorem dJ6_init_2_23 : decode cJ6_init_2 23 = .ok (.iload 4, 2) := dk_21 4 (dk_at dksJ6_init_2_1 0 rfl rfl)
theorem dJ6_init_2_25 : decode cJ6_init_2 25 = .ok (.ifCond .eq 11, 3) := dk_153 0 11 (dk_at dksJ6_init_2_1 2 rfl rfl)
theorem dJ6_init_2_28 : decode cJ6_init_2 28 = .ok (.aload_n 0, 1) := dk_42 (dk_at dksJ6_init_2_1 5 rfl rfl)
theorem dJ6_init_2_29 : decode cJ6_init_2 29 = .ok (.invokevirtual 27, 3) := dk_182 0 27 (dk_at dksJ6_init_2_1 6 rfl rfl)
theorem dJ6_init_2_32 : decode cJ6_init_2 32 = .ok (.pop, 1) := dk_87 (dk_at dksJ6_init_2_1 9 rfl rfl)
theorem dJ6_init_2_33 : decode cJ6_init_2 33 = .ok (.goto 8, 3) := dk_167 0 8 (dk_at dksJ6_init_2_1 10 rfl rfl)
theorem dJ6_init_2_36 : decode cJ6_init_2 36 = .ok (.aload_n 0, 1) := dk_42 (dk_at dksJ6_init_2_1 13 rfl rfl)
theorem dJ6_init_2_37 : decode cJ6_init_2 37 = .ok (.aconst_null, 1) := dk_1 (dk_at dksJ6_init_2_1 14 rfl rfl)
theorem dJ6_init_2_38 : decode cJ6_init_2 38 = .ok (.putfield 17, 3) := dk_181 0 17 (dk_at dksJ6_init_2_1 15 rfl rfl)
theorem dJ6_init_2_41 : decode cJ6_init_2 41 = .ok (.aload_n 0, 1) := dk_42 (dk_at dksJ6_init_2_1 18 rfl rfl)
theorem dJ6_init_2_42 : decode cJ6_init_2 42 = .ok (.aload_n 1, 1) := dk_43 (dk_at dksJ6_init_2_1 19 rfl rfl)
theorem dJ6_init_2_43 : decode cJ6_init_2 43 = .ok (.putfield 31, 3) := dk_181 0 31 (dk_at dksJ6_init_2_1 20 rfl rfl)
theorem dJ6_init_2_46 : decode cJ6_init_2 46 = .ok (.aload_n 0, 1) := dk_42 (dk_at dksJ6_init_2_1 23 rfl rfl)
theorem dJ6_init_2_47 : decode cJ6_init_2 47 = .ok (.aload_n 2, 1) := dk_44 (dk_at dksJ6_init_2_2 0 rfl rfl)
theorem dJ6_init_2_48 : decode cJ6_init_2 48 = .ok (.putfield 7, 3) := dk_181 0 7 (dk_at dksJ6_init_2_2 1 rfl rfl)
theorem dJ6_init_2_51 : decode cJ6_init_2 51 = .ok (.iload_n 3, 1) := dk_29 (dk_at dksJ6_init_2_2 4 rfl rfl)
theorem dJ6_init_2_52 : decode cJ6_init_2 52 = .ok (.ifCond .ne 8, 3) := dk_154 0 8 (dk_at dksJ6_init_2_2 5 rfl rfl)
theorem dJ6_init_2_55 : decode cJ6_init_2 55 = .ok (.aload_n 0, 1) := dk_42 (dk_at dksJ6_init_2_2 8 rfl rfl)
theorem dJ6_init_2_56 : decode cJ6_init_2 56 = .ok (.aconst_null, 1) := dk_1 (dk_at dksJ6_init_2_2 9 rfl rfl)
theorem dJ6_init_2_57 : decode cJ6_init_2 57 = .ok (.putfield 24, 3) := dk_181 0 24 (dk_at dksJ6_init_2_2 10 rfl rfl)
theorem dJ6_init_2_60 : decode cJ6_init_2 60 = .ok (.return_, 1) := dk_177 (dk_at dksJ6_init_2_2 13 rfl rfl)
theorem q133 : (Jvm.Cond.initialized "java/lang/Throwable") ∈ lw_all := lw_g (lw_at lw_m1 16 rfl) rfl
theorem q663 : (Jvm.Cond.declares ({ cls := "java/lang/Throwable", name := "<init>", desc := "()V" } : Jvm.MethodName)) ∈ lw_tbl := lw_at lw_m3 66 rfl
theorem q664 : (Jvm.Cond.declares ({ cls := "java/lang/Throwable", name := "<init>", desc := "(Ljava/lang/String;)V" } : Jvm.MethodName)) ∈ lw_tbl := lw_at lw_m3 67 rfl
theorem q668 : (Jvm.Cond.lays "java/lang/Throwable" "java/lang/Throwable" "cause" "Ljava/lang/Throwable;") ∈ lw_all := lw_g (lw_at lw_m3 71 rfl) rfl
theorem q670 : (Jvm.Cond.lays "java/lang/Throwable" "java/lang/Throwable" "stackTrace" "[Ljava/lang/StackTraceElement;") ∈ lw_all := lw_g (lw_at lw_m3 73 rfl) rfl
theorem q672 : (Jvm.Cond.lays "java/lang/Throwable" "java/lang/Throwable" "suppressedExceptions" "Ljava/util/List;") ∈ lw_all := lw_g (lw_at lw_m3 75 rfl) rfl
theorem q674 : (Jvm.Cond.lays "java/lang/Throwable" "java/lang/Throwable" "detailMessage" "Ljava/lang/String;") ∈ lw_all := lw_g (lw_at lw_m3 77 rfl) rfl
theorem q676 : (Jvm.Cond.lays "java/lang/Throwable" "java/lang/Throwable" "backtrace" "Ljava/lang/Object;") ∈ lw_all := lw_g (lw_at lw_m3 79 rfl) rfl
theorem q677 : (Jvm.Cond.fieldLink "java/lang/Throwable" (198 : Nat) "java/lang/Throwable" "backtrace" "Ljava/lang/Object;") ∈ lw_all := lw_g (lw_at lw_m3 80 rfl) rfl
theorem q678 : (Jvm.Cond.superclass "java/lang/Throwable" "java/lang/Object") ∈ lw_all := lw_g (lw_at lw_m3 81 rfl) rfl
theorem q679 : (Jvm.Cond.instanceMethod ({ cls := "java/lang/Throwable", name := "<init>", desc := "()V" } : Jvm.MethodName)) ∈ lw_all := lw_g (lw_at lw_m3 82 rfl) rfl
theorem q680 : (Jvm.Cond.code ({ cls := "java/lang/Throwable", name := "<init>", desc := "()V" } : Jvm.MethodName) prog_25_method_1_code (1 : Nat) (Option.none : Option Jvm.ClassFile.FieldType)) ∈ lw_all := lw_g (lw_at lw_m3 83 rfl) rfl
theorem q681 : (Jvm.Cond.methodLink "java/lang/Throwable" (1 : Nat) ({ cls := "java/lang/Object", name := "<init>", desc := "()V" } : Jvm.MethodName)) ∈ lw_all := lw_g (lw_at lw_m3 84 rfl) rfl
theorem q682 : (Jvm.Cond.fieldLink "java/lang/Throwable" (13 : Nat) "java/lang/Throwable" "UNASSIGNED_STACK" "[Ljava/lang/StackTraceElement;") ∈ lw_all := lw_g (lw_at lw_m3 85 rfl) rfl
theorem q683 : (Jvm.Cond.laysStatic "java/lang/Throwable" "UNASSIGNED_STACK" "[Ljava/lang/StackTraceElement;") ∈ lw_tbl := lw_at lw_m3 86 rfl
theorem q684 : (Jvm.Cond.fieldLink "java/lang/Throwable" (20 : Nat) "java/lang/Throwable" "SUPPRESSED_SENTINEL" "Ljava/util/List;") ∈ lw_all := lw_g (lw_at lw_m3 87 rfl) rfl
theorem q685 : (Jvm.Cond.laysStatic "java/lang/Throwable" "SUPPRESSED_SENTINEL" "Ljava/util/List;") ∈ lw_tbl := lw_at lw_m3 88 rfl
theorem q686 : (Jvm.Cond.methodLink "java/lang/Throwable" (27 : Nat) ({ cls := "java/lang/Throwable", name := "fillInStackTrace", desc := "()Ljava/lang/Throwable;" } : Jvm.MethodName)) ∈ lw_all := lw_g (lw_at lw_m3 89 rfl) rfl
theorem q687 : (Jvm.Cond.instanceMethod ({ cls := "java/lang/Throwable", name := "fillInStackTrace", desc := "()Ljava/lang/Throwable;" } : Jvm.MethodName)) ∈ lw_all := lw_g (lw_at lw_m3 90 rfl) rfl
theorem q688 : (Jvm.Cond.sameMethod "java/lang/Throwable" "java/lang/Throwable" "fillInStackTrace" "()Ljava/lang/Throwable;") ∈ lw_all := lw_g (lw_at lw_m3 91 rfl) rfl
theorem q689 : (Jvm.Cond.codeSync ({ cls := "java/lang/Throwable", name := "fillInStackTrace", desc := "()Ljava/lang/Throwable;" } : Jvm.MethodName) prog_25_method_18_code (1 : Nat) (Option.some (Jvm.ClassFile.FieldType.object "java/lang/Throwable"))) ∈ lw_all := lw_g (lw_at lw_m3 92 rfl) rfl
theorem q690 : (Jvm.Cond.methodLink "java/lang/Throwable" (202 : Nat) ({ cls := "java/lang/Throwable", name := "fillInStackTrace", desc := "(I)Ljava/lang/Throwable;" } : Jvm.MethodName)) ∈ lw_all := lw_g (lw_at lw_m3 93 rfl) rfl
theorem q691 : (Jvm.Cond.privateMethod ({ cls := "java/lang/Throwable", name := "fillInStackTrace", desc := "(I)Ljava/lang/Throwable;" } : Jvm.MethodName)) ∈ lw_tbl := lw_at lw_m3 94 rfl
theorem q692 : (Jvm.Cond.instanceMethod ({ cls := "java/lang/Throwable", name := "fillInStackTrace", desc := "(I)Ljava/lang/Throwable;" } : Jvm.MethodName)) ∈ lw_all := lw_g (lw_at lw_m3 95 rfl) rfl
theorem q693 : (Jvm.Cond.instantiable "java/lang/Throwable" (6 : Nat)) ∈ lw_all := lw_g (lw_at lw_m3 96 rfl) rfl
theorem q694 : (Jvm.Cond.native ({ cls := "java/lang/Throwable", name := "fillInStackTrace", desc := "(I)Ljava/lang/Throwable;" } : Jvm.MethodName)) ∈ lw_all := lw_g (lw_at lw_m3 97 rfl) rfl
theorem q702 : (Jvm.Cond.instanceMethod ({ cls := "java/lang/Throwable", name := "<init>", desc := "(Ljava/lang/String;Ljava/lang/Throwable;ZZ)V" } : Jvm.MethodName)) ∈ lw_all := lw_g (lw_at lw_m3 105 rfl) rfl
theorem q703 : (Jvm.Cond.code ({ cls := "java/lang/Throwable", name := "<init>", desc := "(Ljava/lang/String;Ljava/lang/Throwable;ZZ)V" } : Jvm.MethodName) prog_25_method_5_code (5 : Nat) (Option.none : Option Jvm.ClassFile.FieldType)) ∈ lw_all := lw_g (lw_at lw_m3 106 rfl) rfl
theorem q708 : (Jvm.Cond.fieldLink "java/lang/Throwable" (198 : Nat) "java/lang/Throwable" "backtrace" "Ljava/lang/Object;") ∈ lw_all := lw_g (lw_at lw_m3 111 rfl) rfl
theorem q709 : (Jvm.Cond.fieldLink "java/lang/Throwable" (31 : Nat) "java/lang/Throwable" "detailMessage" "Ljava/lang/String;") ∈ lw_all := lw_g (lw_at lw_m3 112 rfl) rfl
theorem q710 : (Jvm.Cond.fieldLink "java/lang/Throwable" (7 : Nat) "java/lang/Throwable" "cause" "Ljava/lang/Throwable;") ∈ lw_all := lw_g (lw_at lw_m3 113 rfl) rfl
theorem q711 : (Jvm.Cond.fieldLink "java/lang/Throwable" (17 : Nat) "java/lang/Throwable" "stackTrace" "[Ljava/lang/StackTraceElement;") ∈ lw_all := lw_g (lw_at lw_m3 114 rfl) rfl
theorem q712 : (Jvm.Cond.fieldLink "java/lang/Throwable" (24 : Nat) "java/lang/Throwable" "suppressedExceptions" "Ljava/util/List;") ∈ lw_all := lw_g (lw_at lw_m3 115 rfl) rfl
theorem q717 : (Jvm.Cond.soleField "java/lang/Throwable" "backtrace") ∈ lw_all := lw_g (lw_at lw_m3 120 rfl) rfl
theorem q718 : (Jvm.Cond.soleField "java/lang/Throwable" "detailMessage") ∈ lw_all := lw_g (lw_at lw_m3 121 rfl) rfl
theorem q719 : (Jvm.Cond.soleField "java/lang/Throwable" "cause") ∈ lw_all := lw_g (lw_at lw_m3 122 rfl) rfl
theorem q720 : (Jvm.Cond.soleField "java/lang/Throwable" "stackTrace") ∈ lw_all := lw_g (lw_at lw_m3 123 rfl) rfl
theorem q722 : (Jvm.Cond.soleField "java/lang/Throwable" "depth") ∈ lw_all := lw_g (lw_at lw_m3 125 rfl) rfl
theorem q723 : (Jvm.Cond.soleField "java/lang/Throwable" "suppressedExceptions") ∈ lw_all := lw_g (lw_at lw_m3 126 rfl) rfl
theorem q1636 : (Jvm.Cond.sameMethod "java/lang/Throwable" "java/lang/Throwable" "fillInStackTrace" "(I)Ljava/lang/Throwable;") ∈ lw_all := lw_g (lw_at lw_m7 79 rfl) rfl
theorem in_J6 : ∀ w ∈ wsJ60, w ∈ lw_all := lw_in wsJ60 [668, 670, 672, 674, 676] (by decide +kernel) (by decide +kernel)
/-! java/lang/Exception -/
def RJ7 : String := "java/lang/Exception"
abbrev cJ7_init : ByteArray := prog_18_method_5_code
def yJ7_init : MethodName := ⟨RJ7, "<init>", "(Ljava/lang/String;Ljava/lang/Throwable;ZZ)V"⟩
def dkwJ7_init_0 : List UInt8 := [42, 43, 44, 29, 21, 4, 183, 0, 16, 177]
abbrev dktJ7_init_0 : List UInt8 := dkwJ7_init_0 ++ []
theorem dksJ7_init_0 : cJ7_init.data.toList.drop 0 = dktJ7_init_0 := by decide +kernel
theorem dJ7_init_0 : decode cJ7_init 0 = .ok (.aload_n 0, 1) := dk_42 (dk_at dksJ7_init_0 0 rfl rfl)
theorem dJ7_init_1 : decode cJ7_init 1 = .ok (.aload_n 1, 1) := dk_43 (dk_at dksJ7_init_0 1 rfl rfl)
theorem dJ7_init_2 : decode cJ7_init 2 = .ok (.aload_n 2, 1) := dk_44 (dk_at dksJ7_init_0 2 rfl rfl)
theorem dJ7_init_3 : decode cJ7_init 3 = .ok (.iload_n 3, 1) := dk_29 (dk_at dksJ7_init_0 3 rfl rfl)
theorem dJ7_init_4 : decode cJ7_init 4 = .ok (.iload 4, 2) := dk_21 4 (dk_at dksJ7_init_0 4 rfl rfl)
theorem dJ7_init_6 : decode cJ7_init 6 = .ok (.invokespecial 16, 3) := dk_183 0 16 (dk_at dksJ7_init_0 6 rfl rfl)
theorem dJ7_init_9 : decode cJ7_init 9 = .ok (.return_, 1) := dk_177 (dk_at dksJ7_init_0 9 rfl rfl)
theorem q134 : (Jvm.Cond.initialized "java/lang/Exception") ∈ lw_all := lw_g (lw_at lw_m1 17 rfl) rfl
theorem q661 : (Jvm.Cond.declares ({ cls := "java/lang/Exception", name := "<init>", desc := "()V" } : Jvm.MethodName)) ∈ lw_tbl := lw_at lw_m3 64 rfl
theorem q662 : (Jvm.Cond.declares ({ cls := "java/lang/Exception", name := "<init>", desc := "(Ljava/lang/String;)V" } : Jvm.MethodName)) ∈ lw_tbl := lw_at lw_m3 65 rfl
theorem q699 : (Jvm.Cond.instanceMethod ({ cls := "java/lang/Exception", name := "<init>", desc := "(Ljava/lang/String;Ljava/lang/Throwable;ZZ)V" } : Jvm.MethodName)) ∈ lw_all := lw_g (lw_at lw_m3 102 rfl) rfl
theorem q700 : (Jvm.Cond.code ({ cls := "java/lang/Exception", name := "<init>", desc := "(Ljava/lang/String;Ljava/lang/Throwable;ZZ)V" } : Jvm.MethodName) prog_18_method_5_code (5 : Nat) (Option.none : Option Jvm.ClassFile.FieldType)) ∈ lw_all := lw_g (lw_at lw_m3 103 rfl) rfl
theorem q701 : (Jvm.Cond.methodLink "java/lang/Exception" (16 : Nat) ({ cls := "java/lang/Throwable", name := "<init>", desc := "(Ljava/lang/String;Ljava/lang/Throwable;ZZ)V" } : Jvm.MethodName)) ∈ lw_all := lw_g (lw_at lw_m3 104 rfl) rfl
/-! java/util/Arrays -/
def RJ8 : String := "java/util/Arrays"
abbrev cJ8_fill : ByteArray := prog_26_method_103_code
def yJ8_fill : MethodName := ⟨RJ8, "fill", "([II)V"⟩
def dkwJ8_fill_0 : List UInt8 := [3, 61, 42, 190, 62, 28, 29, 162, 0, 13, 42, 28, 27, 79, 132, 2, 1, 167, 255, 244, 177]
abbrev dktJ8_fill_0 : List UInt8 := dkwJ8_fill_0 ++ []
theorem dksJ8_fill_0 : cJ8_fill.data.toList.drop 0 = dktJ8_fill_0 := by decide +kernel
theorem dJ8_fill_0 : decode cJ8_fill 0 = .ok (.iconst 0, 1) := dk_3 (dk_at dksJ8_fill_0 0 rfl rfl)
theorem dJ8_fill_1 : decode cJ8_fill 1 = .ok (.istore_n 2, 1) := dk_61 (dk_at dksJ8_fill_0 1 rfl rfl)
theorem dJ8_fill_2 : decode cJ8_fill 2 = .ok (.aload_n 0, 1) := dk_42 (dk_at dksJ8_fill_0 2 rfl rfl)
theorem dJ8_fill_3 : decode cJ8_fill 3 = .ok (.arraylength, 1) := dk_190 (dk_at dksJ8_fill_0 3 rfl rfl)
theorem dJ8_fill_4 : decode cJ8_fill 4 = .ok (.istore_n 3, 1) := dk_62 (dk_at dksJ8_fill_0 4 rfl rfl)
theorem dJ8_fill_5 : decode cJ8_fill 5 = .ok (.iload_n 2, 1) := dk_28 (dk_at dksJ8_fill_0 5 rfl rfl)
theorem dJ8_fill_6 : decode cJ8_fill 6 = .ok (.iload_n 3, 1) := dk_29 (dk_at dksJ8_fill_0 6 rfl rfl)
theorem dJ8_fill_7 : decode cJ8_fill 7 = .ok (.if_icmp .ge 13, 3) := dk_162 0 13 (dk_at dksJ8_fill_0 7 rfl rfl)
theorem dJ8_fill_10 : decode cJ8_fill 10 = .ok (.aload_n 0, 1) := dk_42 (dk_at dksJ8_fill_0 10 rfl rfl)
theorem dJ8_fill_11 : decode cJ8_fill 11 = .ok (.iload_n 2, 1) := dk_28 (dk_at dksJ8_fill_0 11 rfl rfl)
theorem dJ8_fill_12 : decode cJ8_fill 12 = .ok (.iload_n 1, 1) := dk_27 (dk_at dksJ8_fill_0 12 rfl rfl)
theorem dJ8_fill_13 : decode cJ8_fill 13 = .ok (.iastore, 1) := dk_79 (dk_at dksJ8_fill_0 13 rfl rfl)
theorem dJ8_fill_14 : decode cJ8_fill 14 = .ok (.iinc 2 1, 3) := dk_132 2 1 (dk_at dksJ8_fill_0 14 rfl rfl)
theorem dJ8_fill_17 : decode cJ8_fill 17 = .ok (.goto (-12), 3) := dk_167 255 244 (dk_at dksJ8_fill_0 17 rfl rfl)
theorem dJ8_fill_20 : decode cJ8_fill 20 = .ok (.return_, 1) := dk_177 (dk_at dksJ8_fill_0 20 rfl rfl)
theorem q141 : (Jvm.Cond.initialized "java/util/Arrays") ∈ lw_all := lw_g (lw_at lw_m1 24 rfl) rfl
theorem q831 : (Jvm.Cond.static ({ cls := "java/util/Arrays", name := "fill", desc := "([II)V" } : Jvm.MethodName)) ∈ lw_all := lw_g (lw_at lw_m3 234 rfl) rfl
theorem q832 : (Jvm.Cond.code ({ cls := "java/util/Arrays", name := "fill", desc := "([II)V" } : Jvm.MethodName) prog_26_method_103_code (4 : Nat) (Option.none : Option Jvm.ClassFile.FieldType)) ∈ lw_all := lw_g (lw_at lw_m3 235 rfl) rfl
/-! java/lang/Integer -/
def RJ9 : String := "java/lang/Integer"
abbrev cJ9_compare : ByteArray := prog_19_method_40_code
def yJ9_compare : MethodName := ⟨RJ9, "compare", "(II)I"⟩
def dkwJ9_compare_0 : List UInt8 := [26, 27, 162, 0, 7, 2, 167, 0, 13, 26, 27, 160, 0, 7, 3, 167, 0, 4, 4, 172]
abbrev dktJ9_compare_0 : List UInt8 := dkwJ9_compare_0 ++ []
theorem dksJ9_compare_0 : cJ9_compare.data.toList.drop 0 = dktJ9_compare_0 := by decide +kernel
theorem dJ9_compare_0 : decode cJ9_compare 0 = .ok (.iload_n 0, 1) := dk_26 (dk_at dksJ9_compare_0 0 rfl rfl)
theorem dJ9_compare_1 : decode cJ9_compare 1 = .ok (.iload_n 1, 1) := dk_27 (dk_at dksJ9_compare_0 1 rfl rfl)
theorem dJ9_compare_2 : decode cJ9_compare 2 = .ok (.if_icmp .ge 7, 3) := dk_162 0 7 (dk_at dksJ9_compare_0 2 rfl rfl)
theorem dJ9_compare_5 : decode cJ9_compare 5 = .ok (.iconst (-1), 1) := dk_2 (dk_at dksJ9_compare_0 5 rfl rfl)
theorem dJ9_compare_6 : decode cJ9_compare 6 = .ok (.goto 13, 3) := dk_167 0 13 (dk_at dksJ9_compare_0 6 rfl rfl)
theorem dJ9_compare_9 : decode cJ9_compare 9 = .ok (.iload_n 0, 1) := dk_26 (dk_at dksJ9_compare_0 9 rfl rfl)
theorem dJ9_compare_10 : decode cJ9_compare 10 = .ok (.iload_n 1, 1) := dk_27 (dk_at dksJ9_compare_0 10 rfl rfl)
theorem dJ9_compare_11 : decode cJ9_compare 11 = .ok (.if_icmp .ne 7, 3) := dk_160 0 7 (dk_at dksJ9_compare_0 11 rfl rfl)
theorem dJ9_compare_14 : decode cJ9_compare 14 = .ok (.iconst 0, 1) := dk_3 (dk_at dksJ9_compare_0 14 rfl rfl)
theorem dJ9_compare_15 : decode cJ9_compare 15 = .ok (.goto 4, 3) := dk_167 0 4 (dk_at dksJ9_compare_0 15 rfl rfl)
theorem dJ9_compare_18 : decode cJ9_compare 18 = .ok (.iconst 1, 1) := dk_4 (dk_at dksJ9_compare_0 18 rfl rfl)
theorem dJ9_compare_19 : decode cJ9_compare 19 = .ok (.ireturn, 1) := dk_172 (dk_at dksJ9_compare_0 19 rfl rfl)
theorem q142 : (Jvm.Cond.initialized "java/lang/Integer") ∈ lw_all := lw_g (lw_at lw_m1 25 rfl) rfl
theorem q971 : (Jvm.Cond.static ({ cls := "java/lang/Integer", name := "compare", desc := "(II)I" } : Jvm.MethodName)) ∈ lw_all := lw_g (lw_at lw_m4 134 rfl) rfl
theorem q972 : (Jvm.Cond.code ({ cls := "java/lang/Integer", name := "compare", desc := "(II)I" } : Jvm.MethodName) prog_19_method_40_code (2 : Nat) (Option.some Jvm.ClassFile.FieldType.int)) ∈ lw_all := lw_g (lw_at lw_m4 135 rfl) rfl
/-! java/lang/Object -/
def RJ10 : String := "java/lang/Object"
abbrev cJ10_init : ByteArray := object_method_1_code
def yJ10_init : MethodName := ⟨RJ10, "<init>", "()V"⟩
theorem dJ10_init_0 : decode cJ10_init 0 = .ok (.return_, 1) := by decide +kernel
theorem q150 : (Jvm.Cond.instanceMethod ({ cls := "java/lang/Object", name := "<init>", desc := "()V" } : Jvm.MethodName)) ∈ lw_all := lw_g (lw_at lw_m1 33 rfl) rfl
theorem q151 : (Jvm.Cond.code ({ cls := "java/lang/Object", name := "<init>", desc := "()V" } : Jvm.MethodName) object_method_1_code (1 : Nat) (Option.none : Option Jvm.ClassFile.FieldType)) ∈ lw_all := lw_g (lw_at lw_m1 34 rfl) rfl
/-! the law's own entry -/
abbrev cL_law : ByteArray := code
def dkwL_law_31 : List UInt8 := [182, 0, 100, 159, 0, 5, 3, 172, 132, 3, 6, 167, 252, 235, 4, 172]
abbrev dktL_law_31 : List UInt8 := dkwL_law_31 ++ []
def dkwL_law_30 : List UInt8 := [3, 182, 0, 96, 159, 0, 28, 3, 172, 43, 42, 29, 4, 96, 46, 182, 0, 97, 44, 42, 29, 4, 96, 46]
abbrev dktL_law_30 : List UInt8 := dkwL_law_30 ++ dktL_law_31
def dkwL_law_29 : List UInt8 := [153, 0, 7, 4, 167, 0, 4, 3, 182, 0, 92, 44, 42, 29, 4, 96, 46, 153, 0, 7, 4, 167, 0, 4]
abbrev dktL_law_29 : List UInt8 := dkwL_law_29 ++ dktL_law_30
def dkwL_law_28 : List UInt8 := [42, 29, 4, 96, 46, 42, 29, 5, 96, 46, 182, 0, 91, 159, 0, 67, 3, 172, 43, 42, 29, 4, 96, 46]
abbrev dktL_law_28 : List UInt8 := dkwL_law_28 ++ dktL_law_29
def dkwL_law_27 : List UInt8 := [46, 182, 0, 87, 159, 0, 100, 3, 172, 43, 42, 29, 4, 96, 46, 42, 29, 5, 96, 46, 182, 0, 88, 44]
abbrev dktL_law_27 : List UInt8 := dkwL_law_27 ++ dktL_law_28
def dkwL_law_26 : List UInt8 := [43, 42, 29, 4, 96, 46, 42, 29, 5, 96, 46, 182, 0, 84, 44, 42, 29, 4, 96, 46, 42, 29, 5, 96]
abbrev dktL_law_26 : List UInt8 := dkwL_law_26 ++ dktL_law_27
def dkwL_law_25 : List UInt8 := [96, 46, 182, 0, 80, 44, 42, 29, 4, 96, 46, 42, 29, 5, 96, 46, 182, 0, 83, 159, 0, 133, 3, 172]
abbrev dktL_law_25 : List UInt8 := dkwL_law_25 ++ dktL_law_26
def dkwL_law_24 : List UInt8 := [96, 46, 42, 29, 7, 96, 46, 182, 0, 79, 159, 0, 166, 3, 172, 43, 42, 29, 4, 96, 46, 42, 29, 5]
abbrev dktL_law_24 : List UInt8 := dkwL_law_24 ++ dktL_law_25
def dkwL_law_23 : List UInt8 := [96, 46, 42, 29, 7, 96, 46, 182, 0, 75, 44, 42, 29, 4, 96, 46, 42, 29, 5, 96, 46, 42, 29, 6]
abbrev dktL_law_23 : List UInt8 := dkwL_law_23 ++ dktL_law_24
def dkwL_law_22 : List UInt8 := [96, 46, 182, 0, 74, 159, 0, 219, 3, 172, 43, 42, 29, 4, 96, 46, 42, 29, 5, 96, 46, 42, 29, 6]
abbrev dktL_law_22 : List UInt8 := dkwL_law_22 ++ dktL_law_23
def dkwL_law_21 : List UInt8 := [5, 96, 46, 182, 0, 70, 159, 0, 242, 3, 172, 43, 42, 29, 4, 96, 46, 182, 0, 71, 44, 42, 29, 4]
abbrev dktL_law_21 : List UInt8 := dkwL_law_21 ++ dktL_law_22
def dkwL_law_20 : List UInt8 := [3, 172, 43, 42, 29, 4, 96, 46, 42, 29, 5, 96, 46, 182, 0, 67, 44, 42, 29, 4, 96, 46, 42, 29]
abbrev dktL_law_20 : List UInt8 := dkwL_law_20 ++ dktL_law_21
def dkwL_law_19 : List UInt8 := [29, 5, 96, 46, 182, 0, 63, 44, 42, 29, 4, 96, 46, 42, 29, 5, 96, 46, 182, 0, 66, 159, 1, 19]
abbrev dktL_law_19 : List UInt8 := dkwL_law_19 ++ dktL_law_20
def dkwL_law_18 : List UInt8 := [182, 0, 59, 44, 42, 29, 4, 96, 46, 182, 0, 62, 159, 1, 52, 3, 172, 43, 42, 29, 4, 96, 46, 42]
abbrev dktL_law_18 : List UInt8 := dkwL_law_18 ++ dktL_law_19
def dkwL_law_17 : List UInt8 := [42, 29, 5, 96, 46, 42, 29, 6, 96, 46, 182, 0, 58, 159, 1, 75, 3, 172, 43, 42, 29, 4, 96, 46]
abbrev dktL_law_17 : List UInt8 := dkwL_law_17 ++ dktL_law_18
def dkwL_law_16 : List UInt8 := [42, 29, 4, 96, 46, 42, 29, 5, 96, 46, 42, 29, 6, 96, 46, 182, 0, 55, 44, 42, 29, 4, 96, 46]
abbrev dktL_law_16 : List UInt8 := dkwL_law_16 ++ dktL_law_17
def dkwL_law_15 : List UInt8 := [46, 182, 0, 51, 44, 42, 29, 4, 96, 46, 42, 29, 5, 96, 46, 182, 0, 54, 159, 1, 118, 3, 172, 43]
abbrev dktL_law_15 : List UInt8 := dkwL_law_15 ++ dktL_law_16
def dkwL_law_14 : List UInt8 := [46, 42, 29, 5, 96, 46, 182, 0, 50, 159, 1, 151, 3, 172, 43, 42, 29, 4, 96, 46, 42, 29, 5, 96]
abbrev dktL_law_14 : List UInt8 := dkwL_law_14 ++ dktL_law_15
def dkwL_law_13 : List UInt8 := [159, 1, 184, 3, 172, 43, 42, 29, 4, 96, 46, 42, 29, 5, 96, 46, 182, 0, 46, 44, 42, 29, 4, 96]
abbrev dktL_law_13 : List UInt8 := dkwL_law_13 ++ dktL_law_14
def dkwL_law_12 : List UInt8 := [159, 1, 207, 3, 172, 43, 42, 29, 4, 96, 46, 182, 0, 42, 44, 42, 29, 4, 96, 46, 182, 0, 45]
abbrev dktL_law_12 : List UInt8 := dkwL_law_12 ++ dktL_law_13
def dkwL_law_11 : List UInt8 := [182, 0, 37, 44, 42, 29, 4, 96, 46, 42, 29, 5, 96, 46, 42, 29, 6, 96, 46, 182, 0, 41]
abbrev dktL_law_11 : List UInt8 := dkwL_law_11 ++ dktL_law_12
def dkwL_law_10 : List UInt8 := [182, 0, 36, 159, 1, 250, 3, 172, 43, 42, 29, 4, 96, 46, 42, 29, 5, 96, 46, 42, 29, 6, 96, 46]
abbrev dktL_law_10 : List UInt8 := dkwL_law_10 ++ dktL_law_11
def dkwL_law_9 : List UInt8 := [29, 6, 96, 46, 182, 0, 32, 44, 42, 29, 4, 96, 46, 42, 29, 5, 96, 46, 42, 29, 6, 96, 46]
abbrev dktL_law_9 : List UInt8 := dkwL_law_9 ++ dktL_law_10
def dkwL_law_8 : List UInt8 := [29, 4, 96, 46, 182, 0, 31, 159, 2, 37, 3, 172, 43, 42, 29, 4, 96, 46, 42, 29, 5, 96, 46, 42]
abbrev dktL_law_8 : List UInt8 := dkwL_law_8 ++ dktL_law_9
def dkwL_law_7 : List UInt8 := [42, 29, 4, 96, 46, 182, 0, 27, 159, 2, 60, 3, 172, 43, 42, 29, 4, 96, 46, 182, 0, 28, 44, 42]
abbrev dktL_law_7 : List UInt8 := dkwL_law_7 ++ dktL_law_8
def dkwL_law_6 : List UInt8 := [44, 42, 29, 4, 96, 46, 182, 0, 22, 159, 2, 83, 3, 172, 43, 42, 29, 4, 96, 46, 182, 0, 23, 44]
abbrev dktL_law_6 : List UInt8 := dkwL_law_6 ++ dktL_law_7
def dkwL_law_5 : List UInt8 := [96, 46, 42, 29, 8, 96, 46, 182, 0, 17, 159, 2, 106, 3, 172, 43, 42, 29, 4, 96, 46, 182, 0, 18]
abbrev dktL_law_5 : List UInt8 := dkwL_law_5 ++ dktL_law_6
def dkwL_law_4 : List UInt8 := [96, 46, 182, 0, 13, 44, 42, 29, 4, 96, 46, 42, 29, 5, 96, 46, 42, 29, 6, 96, 46, 42, 29, 7]
abbrev dktL_law_4 : List UInt8 := dkwL_law_4 ++ dktL_law_5
def dkwL_law_3 : List UInt8 := [43, 42, 29, 4, 96, 46, 42, 29, 5, 96, 46, 42, 29, 6, 96, 46, 42, 29, 7, 96, 46, 42, 29, 8]
abbrev dktL_law_3 : List UInt8 := dkwL_law_3 ++ dktL_law_4
def dkwL_law_2 : List UInt8 := [170, 0, 0, 0, 0, 3, 3, 0, 0, 0, 0, 0, 0, 0, 19, 0, 0, 0, 95, 0, 0, 0, 158, 0, 0, 0, 181, 0, 0, 0, 204, 0, 0, 0, 227, 0, 0, 1, 14, 0, 0, 1, 57, 0, 0, 1, 80, 0, 0, 1, 113, 0, 0, 1, 146, 0, 0, 1, 189, 0, 0, 1, 212, 0, 0, 1, 245, 0, 0, 2, 22, 0, 0, 2, 45, 0, 0, 2, 98, 0, 0, 2, 131, 0, 0, 2, 164, 0, 0, 2, 197, 0, 0, 2, 236]
abbrev dktL_law_2 : List UInt8 := dkwL_law_2 ++ dktL_law_3
def dkwL_law_1 : List UInt8 := [163, 3, 18, 42, 29, 46, 16, 31, 126]
abbrev dktL_law_1 : List UInt8 := dkwL_law_1 ++ dktL_law_2
def dkwL_law_0 : List UInt8 := [187, 0, 7, 89, 183, 0, 9, 76, 187, 0, 10, 89, 183, 0, 12, 77, 3, 62, 29, 42, 190, 16, 6, 100]
abbrev dktL_law_0 : List UInt8 := dkwL_law_0 ++ dktL_law_1
theorem dksL_law_0 : cL_law.data.toList.drop 0 = dktL_law_0 := by decide +kernel
theorem dksL_law_1 : cL_law.data.toList.drop 24 = dktL_law_1 := dk_seg dksL_law_0 24 rfl rfl
theorem dksL_law_2 : cL_law.data.toList.drop 33 = dktL_law_2 := dk_seg dksL_law_1 9 rfl rfl
theorem dksL_law_3 : cL_law.data.toList.drop 128 = dktL_law_3 := dk_seg dksL_law_2 95 rfl rfl
theorem dksL_law_4 : cL_law.data.toList.drop 152 = dktL_law_4 := dk_seg dksL_law_3 24 rfl rfl
theorem dksL_law_5 : cL_law.data.toList.drop 176 = dktL_law_5 := dk_seg dksL_law_4 24 rfl rfl
theorem dksL_law_6 : cL_law.data.toList.drop 200 = dktL_law_6 := dk_seg dksL_law_5 24 rfl rfl
theorem dksL_law_7 : cL_law.data.toList.drop 224 = dktL_law_7 := dk_seg dksL_law_6 24 rfl rfl
theorem dksL_law_8 : cL_law.data.toList.drop 248 = dktL_law_8 := dk_seg dksL_law_7 24 rfl rfl
theorem dksL_law_9 : cL_law.data.toList.drop 272 = dktL_law_9 := dk_seg dksL_law_8 24 rfl rfl
theorem dksL_law_10 : cL_law.data.toList.drop 295 = dktL_law_10 := dk_seg dksL_law_9 23 rfl rfl
theorem dksL_law_11 : cL_law.data.toList.drop 319 = dktL_law_11 := dk_seg dksL_law_10 24 rfl rfl
theorem dksL_law_12 : cL_law.data.toList.drop 341 = dktL_law_12 := dk_seg dksL_law_11 22 rfl rfl
theorem dksL_law_13 : cL_law.data.toList.drop 364 = dktL_law_13 := dk_seg dksL_law_12 23 rfl rfl
theorem dksL_law_14 : cL_law.data.toList.drop 388 = dktL_law_14 := dk_seg dksL_law_13 24 rfl rfl
theorem dksL_law_15 : cL_law.data.toList.drop 412 = dktL_law_15 := dk_seg dksL_law_14 24 rfl rfl
theorem dksL_law_16 : cL_law.data.toList.drop 436 = dktL_law_16 := dk_seg dksL_law_15 24 rfl rfl
theorem dksL_law_17 : cL_law.data.toList.drop 460 = dktL_law_17 := dk_seg dksL_law_16 24 rfl rfl
theorem dksL_law_18 : cL_law.data.toList.drop 484 = dktL_law_18 := dk_seg dksL_law_17 24 rfl rfl
theorem dksL_law_19 : cL_law.data.toList.drop 508 = dktL_law_19 := dk_seg dksL_law_18 24 rfl rfl
theorem dksL_law_20 : cL_law.data.toList.drop 532 = dktL_law_20 := dk_seg dksL_law_19 24 rfl rfl
theorem dksL_law_21 : cL_law.data.toList.drop 556 = dktL_law_21 := dk_seg dksL_law_20 24 rfl rfl
theorem dksL_law_22 : cL_law.data.toList.drop 580 = dktL_law_22 := dk_seg dksL_law_21 24 rfl rfl
theorem dksL_law_23 : cL_law.data.toList.drop 604 = dktL_law_23 := dk_seg dksL_law_22 24 rfl rfl
theorem dksL_law_24 : cL_law.data.toList.drop 628 = dktL_law_24 := dk_seg dksL_law_23 24 rfl rfl
theorem dksL_law_25 : cL_law.data.toList.drop 652 = dktL_law_25 := dk_seg dksL_law_24 24 rfl rfl
theorem dksL_law_26 : cL_law.data.toList.drop 676 = dktL_law_26 := dk_seg dksL_law_25 24 rfl rfl
theorem dksL_law_27 : cL_law.data.toList.drop 700 = dktL_law_27 := dk_seg dksL_law_26 24 rfl rfl
theorem dksL_law_28 : cL_law.data.toList.drop 724 = dktL_law_28 := dk_seg dksL_law_27 24 rfl rfl
theorem dksL_law_29 : cL_law.data.toList.drop 748 = dktL_law_29 := dk_seg dksL_law_28 24 rfl rfl
theorem dksL_law_30 : cL_law.data.toList.drop 772 = dktL_law_30 := dk_seg dksL_law_29 24 rfl rfl
theorem dksL_law_31 : cL_law.data.toList.drop 796 = dktL_law_31 := dk_seg dksL_law_30 24 rfl rfl
theorem dL_law_0 : decode cL_law 0 = .ok (.new 7, 3) := dk_187 0 7 (dk_at dksL_law_0 0 rfl rfl)
theorem dL_law_3 : decode cL_law 3 = .ok (.dup, 1) := dk_89 (dk_at dksL_law_0 3 rfl rfl)
theorem dL_law_4 : decode cL_law 4 = .ok (.invokespecial 9, 3) := dk_183 0 9 (dk_at dksL_law_0 4 rfl rfl)
theorem dL_law_7 : decode cL_law 7 = .ok (.astore_n 1, 1) := dk_76 (dk_at dksL_law_0 7 rfl rfl)
theorem dL_law_8 : decode cL_law 8 = .ok (.new 10, 3) := dk_187 0 10 (dk_at dksL_law_0 8 rfl rfl)
theorem dL_law_11 : decode cL_law 11 = .ok (.dup, 1) := dk_89 (dk_at dksL_law_0 11 rfl rfl)
theorem dL_law_12 : decode cL_law 12 = .ok (.invokespecial 12, 3) := dk_183 0 12 (dk_at dksL_law_0 12 rfl rfl)
theorem dL_law_15 : decode cL_law 15 = .ok (.astore_n 2, 1) := dk_77 (dk_at dksL_law_0 15 rfl rfl)
theorem dL_law_16 : decode cL_law 16 = .ok (.iconst 0, 1) := dk_3 (dk_at dksL_law_0 16 rfl rfl)
theorem dL_law_17 : decode cL_law 17 = .ok (.istore_n 3, 1) := dk_62 (dk_at dksL_law_0 17 rfl rfl)
theorem dL_law_18 : decode cL_law 18 = .ok (.iload_n 3, 1) := dk_29 (dk_at dksL_law_0 18 rfl rfl)
theorem dL_law_19 : decode cL_law 19 = .ok (.aload_n 0, 1) := dk_42 (dk_at dksL_law_0 19 rfl rfl)
theorem dL_law_20 : decode cL_law 20 = .ok (.arraylength, 1) := dk_190 (dk_at dksL_law_0 20 rfl rfl)
theorem dL_law_21 : decode cL_law 21 = .ok (.bipush 6, 2) := dk_16 6 (dk_at dksL_law_0 21 rfl rfl)
theorem dL_law_23 : decode cL_law 23 = .ok (.isub, 1) := dk_100 (dk_at dksL_law_0 23 rfl rfl)
theorem dL_law_24 : decode cL_law 24 = .ok (.if_icmp .gt 786, 3) := dk_163 3 18 (dk_at dksL_law_1 0 rfl rfl)
theorem dL_law_27 : decode cL_law 27 = .ok (.aload_n 0, 1) := dk_42 (dk_at dksL_law_1 3 rfl rfl)
theorem dL_law_28 : decode cL_law 28 = .ok (.iload_n 3, 1) := dk_29 (dk_at dksL_law_1 4 rfl rfl)
theorem dL_law_29 : decode cL_law 29 = .ok (.iaload, 1) := dk_46 (dk_at dksL_law_1 5 rfl rfl)
theorem dL_law_30 : decode cL_law 30 = .ok (.bipush 31, 2) := dk_16 31 (dk_at dksL_law_1 6 rfl rfl)
theorem dL_law_32 : decode cL_law 32 = .ok (.iand, 1) := dk_126 (dk_at dksL_law_1 8 rfl rfl)
theorem dL_law_33 : decode cL_law 33 = .ok (.tableswitch 771 0 19 #[95, 158, 181, 204, 227, 270, 313, 336, 369, 402, 445, 468, 501, 534, 557, 610, 643, 676, 709, 748], 95) := by decide +kernel
theorem dL_law_128 : decode cL_law 128 = .ok (.aload_n 1, 1) := dk_43 (dk_at dksL_law_3 0 rfl rfl)
theorem dL_law_129 : decode cL_law 129 = .ok (.aload_n 0, 1) := dk_42 (dk_at dksL_law_3 1 rfl rfl)
theorem dL_law_130 : decode cL_law 130 = .ok (.iload_n 3, 1) := dk_29 (dk_at dksL_law_3 2 rfl rfl)
theorem dL_law_131 : decode cL_law 131 = .ok (.iconst 1, 1) := dk_4 (dk_at dksL_law_3 3 rfl rfl)
theorem dL_law_132 : decode cL_law 132 = .ok (.iadd, 1) := dk_96 (dk_at dksL_law_3 4 rfl rfl)
theorem dL_law_133 : decode cL_law 133 = .ok (.iaload, 1) := dk_46 (dk_at dksL_law_3 5 rfl rfl)
theorem dL_law_134 : decode cL_law 134 = .ok (.aload_n 0, 1) := dk_42 (dk_at dksL_law_3 6 rfl rfl)
theorem dL_law_135 : decode cL_law 135 = .ok (.iload_n 3, 1) := dk_29 (dk_at dksL_law_3 7 rfl rfl)
theorem dL_law_136 : decode cL_law 136 = .ok (.iconst 2, 1) := dk_5 (dk_at dksL_law_3 8 rfl rfl)
theorem dL_law_137 : decode cL_law 137 = .ok (.iadd, 1) := dk_96 (dk_at dksL_law_3 9 rfl rfl)
theorem dL_law_138 : decode cL_law 138 = .ok (.iaload, 1) := dk_46 (dk_at dksL_law_3 10 rfl rfl)
theorem dL_law_139 : decode cL_law 139 = .ok (.aload_n 0, 1) := dk_42 (dk_at dksL_law_3 11 rfl rfl)
theorem dL_law_140 : decode cL_law 140 = .ok (.iload_n 3, 1) := dk_29 (dk_at dksL_law_3 12 rfl rfl)
theorem dL_law_141 : decode cL_law 141 = .ok (.iconst 3, 1) := dk_6 (dk_at dksL_law_3 13 rfl rfl)
theorem dL_law_142 : decode cL_law 142 = .ok (.iadd, 1) := dk_96 (dk_at dksL_law_3 14 rfl rfl)
theorem dL_law_143 : decode cL_law 143 = .ok (.iaload, 1) := dk_46 (dk_at dksL_law_3 15 rfl rfl)
theorem dL_law_144 : decode cL_law 144 = .ok (.aload_n 0, 1) := dk_42 (dk_at dksL_law_3 16 rfl rfl)
theorem dL_law_145 : decode cL_law 145 = .ok (.iload_n 3, 1) := dk_29 (dk_at dksL_law_3 17 rfl rfl)
theorem dL_law_146 : decode cL_law 146 = .ok (.iconst 4, 1) := dk_7 (dk_at dksL_law_3 18 rfl rfl)
theorem dL_law_147 : decode cL_law 147 = .ok (.iadd, 1) := dk_96 (dk_at dksL_law_3 19 rfl rfl)
theorem dL_law_148 : decode cL_law 148 = .ok (.iaload, 1) := dk_46 (dk_at dksL_law_3 20 rfl rfl)
theorem dL_law_149 : decode cL_law 149 = .ok (.aload_n 0, 1) := dk_42 (dk_at dksL_law_3 21 rfl rfl)
theorem dL_law_150 : decode cL_law 150 = .ok (.iload_n 3, 1) := dk_29 (dk_at dksL_law_3 22 rfl rfl)
theorem dL_law_151 : decode cL_law 151 = .ok (.iconst 5, 1) := dk_8 (dk_at dksL_law_3 23 rfl rfl)
theorem dL_law_152 : decode cL_law 152 = .ok (.iadd, 1) := dk_96 (dk_at dksL_law_4 0 rfl rfl)
theorem dL_law_153 : decode cL_law 153 = .ok (.iaload, 1) := dk_46 (dk_at dksL_law_4 1 rfl rfl)
theorem dL_law_154 : decode cL_law 154 = .ok (.invokevirtual 13, 3) := dk_182 0 13 (dk_at dksL_law_4 2 rfl rfl)
theorem dL_law_157 : decode cL_law 157 = .ok (.aload_n 2, 1) := dk_44 (dk_at dksL_law_4 5 rfl rfl)
theorem dL_law_158 : decode cL_law 158 = .ok (.aload_n 0, 1) := dk_42 (dk_at dksL_law_4 6 rfl rfl)
theorem dL_law_159 : decode cL_law 159 = .ok (.iload_n 3, 1) := dk_29 (dk_at dksL_law_4 7 rfl rfl)
theorem dL_law_160 : decode cL_law 160 = .ok (.iconst 1, 1) := dk_4 (dk_at dksL_law_4 8 rfl rfl)
theorem dL_law_161 : decode cL_law 161 = .ok (.iadd, 1) := dk_96 (dk_at dksL_law_4 9 rfl rfl)
theorem dL_law_162 : decode cL_law 162 = .ok (.iaload, 1) := dk_46 (dk_at dksL_law_4 10 rfl rfl)
theorem dL_law_163 : decode cL_law 163 = .ok (.aload_n 0, 1) := dk_42 (dk_at dksL_law_4 11 rfl rfl)
theorem dL_law_164 : decode cL_law 164 = .ok (.iload_n 3, 1) := dk_29 (dk_at dksL_law_4 12 rfl rfl)
theorem dL_law_165 : decode cL_law 165 = .ok (.iconst 2, 1) := dk_5 (dk_at dksL_law_4 13 rfl rfl)
theorem dL_law_166 : decode cL_law 166 = .ok (.iadd, 1) := dk_96 (dk_at dksL_law_4 14 rfl rfl)
theorem dL_law_167 : decode cL_law 167 = .ok (.iaload, 1) := dk_46 (dk_at dksL_law_4 15 rfl rfl)
theorem dL_law_168 : decode cL_law 168 = .ok (.aload_n 0, 1) := dk_42 (dk_at dksL_law_4 16 rfl rfl)
theorem dL_law_169 : decode cL_law 169 = .ok (.iload_n 3, 1) := dk_29 (dk_at dksL_law_4 17 rfl rfl)
theorem dL_law_170 : decode cL_law 170 = .ok (.iconst 3, 1) := dk_6 (dk_at dksL_law_4 18 rfl rfl)
theorem dL_law_171 : decode cL_law 171 = .ok (.iadd, 1) := dk_96 (dk_at dksL_law_4 19 rfl rfl)
theorem dL_law_172 : decode cL_law 172 = .ok (.iaload, 1) := dk_46 (dk_at dksL_law_4 20 rfl rfl)
theorem dL_law_173 : decode cL_law 173 = .ok (.aload_n 0, 1) := dk_42 (dk_at dksL_law_4 21 rfl rfl)
theorem dL_law_174 : decode cL_law 174 = .ok (.iload_n 3, 1) := dk_29 (dk_at dksL_law_4 22 rfl rfl)
theorem dL_law_175 : decode cL_law 175 = .ok (.iconst 4, 1) := dk_7 (dk_at dksL_law_4 23 rfl rfl)
theorem dL_law_176 : decode cL_law 176 = .ok (.iadd, 1) := dk_96 (dk_at dksL_law_5 0 rfl rfl)
theorem dL_law_177 : decode cL_law 177 = .ok (.iaload, 1) := dk_46 (dk_at dksL_law_5 1 rfl rfl)
theorem dL_law_178 : decode cL_law 178 = .ok (.aload_n 0, 1) := dk_42 (dk_at dksL_law_5 2 rfl rfl)
theorem dL_law_179 : decode cL_law 179 = .ok (.iload_n 3, 1) := dk_29 (dk_at dksL_law_5 3 rfl rfl)
theorem dL_law_180 : decode cL_law 180 = .ok (.iconst 5, 1) := dk_8 (dk_at dksL_law_5 4 rfl rfl)
theorem dL_law_181 : decode cL_law 181 = .ok (.iadd, 1) := dk_96 (dk_at dksL_law_5 5 rfl rfl)
theorem dL_law_182 : decode cL_law 182 = .ok (.iaload, 1) := dk_46 (dk_at dksL_law_5 6 rfl rfl)
theorem dL_law_183 : decode cL_law 183 = .ok (.invokevirtual 17, 3) := dk_182 0 17 (dk_at dksL_law_5 7 rfl rfl)
theorem dL_law_186 : decode cL_law 186 = .ok (.if_icmp .eq 618, 3) := dk_159 2 106 (dk_at dksL_law_5 10 rfl rfl)
theorem dL_law_189 : decode cL_law 189 = .ok (.iconst 0, 1) := dk_3 (dk_at dksL_law_5 13 rfl rfl)
theorem dL_law_190 : decode cL_law 190 = .ok (.ireturn, 1) := dk_172 (dk_at dksL_law_5 14 rfl rfl)
theorem dL_law_191 : decode cL_law 191 = .ok (.aload_n 1, 1) := dk_43 (dk_at dksL_law_5 15 rfl rfl)
theorem dL_law_192 : decode cL_law 192 = .ok (.aload_n 0, 1) := dk_42 (dk_at dksL_law_5 16 rfl rfl)
theorem dL_law_193 : decode cL_law 193 = .ok (.iload_n 3, 1) := dk_29 (dk_at dksL_law_5 17 rfl rfl)
theorem dL_law_194 : decode cL_law 194 = .ok (.iconst 1, 1) := dk_4 (dk_at dksL_law_5 18 rfl rfl)
theorem dL_law_195 : decode cL_law 195 = .ok (.iadd, 1) := dk_96 (dk_at dksL_law_5 19 rfl rfl)
theorem dL_law_196 : decode cL_law 196 = .ok (.iaload, 1) := dk_46 (dk_at dksL_law_5 20 rfl rfl)
theorem dL_law_197 : decode cL_law 197 = .ok (.invokevirtual 18, 3) := dk_182 0 18 (dk_at dksL_law_5 21 rfl rfl)
theorem dL_law_200 : decode cL_law 200 = .ok (.aload_n 2, 1) := dk_44 (dk_at dksL_law_6 0 rfl rfl)
theorem dL_law_201 : decode cL_law 201 = .ok (.aload_n 0, 1) := dk_42 (dk_at dksL_law_6 1 rfl rfl)
theorem dL_law_202 : decode cL_law 202 = .ok (.iload_n 3, 1) := dk_29 (dk_at dksL_law_6 2 rfl rfl)
theorem dL_law_203 : decode cL_law 203 = .ok (.iconst 1, 1) := dk_4 (dk_at dksL_law_6 3 rfl rfl)
theorem dL_law_204 : decode cL_law 204 = .ok (.iadd, 1) := dk_96 (dk_at dksL_law_6 4 rfl rfl)
theorem dL_law_205 : decode cL_law 205 = .ok (.iaload, 1) := dk_46 (dk_at dksL_law_6 5 rfl rfl)
theorem dL_law_206 : decode cL_law 206 = .ok (.invokevirtual 22, 3) := dk_182 0 22 (dk_at dksL_law_6 6 rfl rfl)
theorem dL_law_209 : decode cL_law 209 = .ok (.if_icmp .eq 595, 3) := dk_159 2 83 (dk_at dksL_law_6 9 rfl rfl)
theorem dL_law_212 : decode cL_law 212 = .ok (.iconst 0, 1) := dk_3 (dk_at dksL_law_6 12 rfl rfl)
theorem dL_law_213 : decode cL_law 213 = .ok (.ireturn, 1) := dk_172 (dk_at dksL_law_6 13 rfl rfl)
theorem dL_law_214 : decode cL_law 214 = .ok (.aload_n 1, 1) := dk_43 (dk_at dksL_law_6 14 rfl rfl)
theorem dL_law_215 : decode cL_law 215 = .ok (.aload_n 0, 1) := dk_42 (dk_at dksL_law_6 15 rfl rfl)
theorem dL_law_216 : decode cL_law 216 = .ok (.iload_n 3, 1) := dk_29 (dk_at dksL_law_6 16 rfl rfl)
theorem dL_law_217 : decode cL_law 217 = .ok (.iconst 1, 1) := dk_4 (dk_at dksL_law_6 17 rfl rfl)
theorem dL_law_218 : decode cL_law 218 = .ok (.iadd, 1) := dk_96 (dk_at dksL_law_6 18 rfl rfl)
theorem dL_law_219 : decode cL_law 219 = .ok (.iaload, 1) := dk_46 (dk_at dksL_law_6 19 rfl rfl)
theorem dL_law_220 : decode cL_law 220 = .ok (.invokevirtual 23, 3) := dk_182 0 23 (dk_at dksL_law_6 20 rfl rfl)
theorem dL_law_223 : decode cL_law 223 = .ok (.aload_n 2, 1) := dk_44 (dk_at dksL_law_6 23 rfl rfl)
theorem dL_law_224 : decode cL_law 224 = .ok (.aload_n 0, 1) := dk_42 (dk_at dksL_law_7 0 rfl rfl)
theorem dL_law_225 : decode cL_law 225 = .ok (.iload_n 3, 1) := dk_29 (dk_at dksL_law_7 1 rfl rfl)
theorem dL_law_226 : decode cL_law 226 = .ok (.iconst 1, 1) := dk_4 (dk_at dksL_law_7 2 rfl rfl)
theorem dL_law_227 : decode cL_law 227 = .ok (.iadd, 1) := dk_96 (dk_at dksL_law_7 3 rfl rfl)
theorem dL_law_228 : decode cL_law 228 = .ok (.iaload, 1) := dk_46 (dk_at dksL_law_7 4 rfl rfl)
theorem dL_law_229 : decode cL_law 229 = .ok (.invokevirtual 27, 3) := dk_182 0 27 (dk_at dksL_law_7 5 rfl rfl)
theorem dL_law_232 : decode cL_law 232 = .ok (.if_icmp .eq 572, 3) := dk_159 2 60 (dk_at dksL_law_7 8 rfl rfl)
theorem dL_law_235 : decode cL_law 235 = .ok (.iconst 0, 1) := dk_3 (dk_at dksL_law_7 11 rfl rfl)
theorem dL_law_236 : decode cL_law 236 = .ok (.ireturn, 1) := dk_172 (dk_at dksL_law_7 12 rfl rfl)
theorem dL_law_237 : decode cL_law 237 = .ok (.aload_n 1, 1) := dk_43 (dk_at dksL_law_7 13 rfl rfl)
theorem dL_law_238 : decode cL_law 238 = .ok (.aload_n 0, 1) := dk_42 (dk_at dksL_law_7 14 rfl rfl)
theorem dL_law_239 : decode cL_law 239 = .ok (.iload_n 3, 1) := dk_29 (dk_at dksL_law_7 15 rfl rfl)
theorem dL_law_240 : decode cL_law 240 = .ok (.iconst 1, 1) := dk_4 (dk_at dksL_law_7 16 rfl rfl)
theorem dL_law_241 : decode cL_law 241 = .ok (.iadd, 1) := dk_96 (dk_at dksL_law_7 17 rfl rfl)
theorem dL_law_242 : decode cL_law 242 = .ok (.iaload, 1) := dk_46 (dk_at dksL_law_7 18 rfl rfl)
theorem dL_law_243 : decode cL_law 243 = .ok (.invokevirtual 28, 3) := dk_182 0 28 (dk_at dksL_law_7 19 rfl rfl)
theorem dL_law_246 : decode cL_law 246 = .ok (.aload_n 2, 1) := dk_44 (dk_at dksL_law_7 22 rfl rfl)
theorem dL_law_247 : decode cL_law 247 = .ok (.aload_n 0, 1) := dk_42 (dk_at dksL_law_7 23 rfl rfl)
theorem dL_law_248 : decode cL_law 248 = .ok (.iload_n 3, 1) := dk_29 (dk_at dksL_law_8 0 rfl rfl)
theorem dL_law_249 : decode cL_law 249 = .ok (.iconst 1, 1) := dk_4 (dk_at dksL_law_8 1 rfl rfl)
theorem dL_law_250 : decode cL_law 250 = .ok (.iadd, 1) := dk_96 (dk_at dksL_law_8 2 rfl rfl)
theorem dL_law_251 : decode cL_law 251 = .ok (.iaload, 1) := dk_46 (dk_at dksL_law_8 3 rfl rfl)
theorem dL_law_252 : decode cL_law 252 = .ok (.invokevirtual 31, 3) := dk_182 0 31 (dk_at dksL_law_8 4 rfl rfl)
theorem dL_law_255 : decode cL_law 255 = .ok (.if_icmp .eq 549, 3) := dk_159 2 37 (dk_at dksL_law_8 7 rfl rfl)
theorem dL_law_258 : decode cL_law 258 = .ok (.iconst 0, 1) := dk_3 (dk_at dksL_law_8 10 rfl rfl)
theorem dL_law_259 : decode cL_law 259 = .ok (.ireturn, 1) := dk_172 (dk_at dksL_law_8 11 rfl rfl)
theorem dL_law_260 : decode cL_law 260 = .ok (.aload_n 1, 1) := dk_43 (dk_at dksL_law_8 12 rfl rfl)
theorem dL_law_261 : decode cL_law 261 = .ok (.aload_n 0, 1) := dk_42 (dk_at dksL_law_8 13 rfl rfl)
theorem dL_law_262 : decode cL_law 262 = .ok (.iload_n 3, 1) := dk_29 (dk_at dksL_law_8 14 rfl rfl)
theorem dL_law_263 : decode cL_law 263 = .ok (.iconst 1, 1) := dk_4 (dk_at dksL_law_8 15 rfl rfl)
theorem dL_law_264 : decode cL_law 264 = .ok (.iadd, 1) := dk_96 (dk_at dksL_law_8 16 rfl rfl)
theorem dL_law_265 : decode cL_law 265 = .ok (.iaload, 1) := dk_46 (dk_at dksL_law_8 17 rfl rfl)
theorem dL_law_266 : decode cL_law 266 = .ok (.aload_n 0, 1) := dk_42 (dk_at dksL_law_8 18 rfl rfl)
theorem dL_law_267 : decode cL_law 267 = .ok (.iload_n 3, 1) := dk_29 (dk_at dksL_law_8 19 rfl rfl)
theorem dL_law_268 : decode cL_law 268 = .ok (.iconst 2, 1) := dk_5 (dk_at dksL_law_8 20 rfl rfl)
theorem dL_law_269 : decode cL_law 269 = .ok (.iadd, 1) := dk_96 (dk_at dksL_law_8 21 rfl rfl)
theorem dL_law_270 : decode cL_law 270 = .ok (.iaload, 1) := dk_46 (dk_at dksL_law_8 22 rfl rfl)
theorem dL_law_271 : decode cL_law 271 = .ok (.aload_n 0, 1) := dk_42 (dk_at dksL_law_8 23 rfl rfl)
theorem dL_law_272 : decode cL_law 272 = .ok (.iload_n 3, 1) := dk_29 (dk_at dksL_law_9 0 rfl rfl)
theorem dL_law_273 : decode cL_law 273 = .ok (.iconst 3, 1) := dk_6 (dk_at dksL_law_9 1 rfl rfl)
theorem dL_law_274 : decode cL_law 274 = .ok (.iadd, 1) := dk_96 (dk_at dksL_law_9 2 rfl rfl)
theorem dL_law_275 : decode cL_law 275 = .ok (.iaload, 1) := dk_46 (dk_at dksL_law_9 3 rfl rfl)
theorem dL_law_276 : decode cL_law 276 = .ok (.invokevirtual 32, 3) := dk_182 0 32 (dk_at dksL_law_9 4 rfl rfl)
theorem dL_law_279 : decode cL_law 279 = .ok (.aload_n 2, 1) := dk_44 (dk_at dksL_law_9 7 rfl rfl)
theorem dL_law_280 : decode cL_law 280 = .ok (.aload_n 0, 1) := dk_42 (dk_at dksL_law_9 8 rfl rfl)
theorem dL_law_281 : decode cL_law 281 = .ok (.iload_n 3, 1) := dk_29 (dk_at dksL_law_9 9 rfl rfl)
theorem dL_law_282 : decode cL_law 282 = .ok (.iconst 1, 1) := dk_4 (dk_at dksL_law_9 10 rfl rfl)
theorem dL_law_283 : decode cL_law 283 = .ok (.iadd, 1) := dk_96 (dk_at dksL_law_9 11 rfl rfl)
theorem dL_law_284 : decode cL_law 284 = .ok (.iaload, 1) := dk_46 (dk_at dksL_law_9 12 rfl rfl)
theorem dL_law_285 : decode cL_law 285 = .ok (.aload_n 0, 1) := dk_42 (dk_at dksL_law_9 13 rfl rfl)
theorem dL_law_286 : decode cL_law 286 = .ok (.iload_n 3, 1) := dk_29 (dk_at dksL_law_9 14 rfl rfl)
theorem dL_law_287 : decode cL_law 287 = .ok (.iconst 2, 1) := dk_5 (dk_at dksL_law_9 15 rfl rfl)
theorem dL_law_288 : decode cL_law 288 = .ok (.iadd, 1) := dk_96 (dk_at dksL_law_9 16 rfl rfl)
theorem dL_law_289 : decode cL_law 289 = .ok (.iaload, 1) := dk_46 (dk_at dksL_law_9 17 rfl rfl)
theorem dL_law_290 : decode cL_law 290 = .ok (.aload_n 0, 1) := dk_42 (dk_at dksL_law_9 18 rfl rfl)
theorem dL_law_291 : decode cL_law 291 = .ok (.iload_n 3, 1) := dk_29 (dk_at dksL_law_9 19 rfl rfl)
theorem dL_law_292 : decode cL_law 292 = .ok (.iconst 3, 1) := dk_6 (dk_at dksL_law_9 20 rfl rfl)
theorem dL_law_293 : decode cL_law 293 = .ok (.iadd, 1) := dk_96 (dk_at dksL_law_9 21 rfl rfl)
theorem dL_law_294 : decode cL_law 294 = .ok (.iaload, 1) := dk_46 (dk_at dksL_law_9 22 rfl rfl)
theorem dL_law_295 : decode cL_law 295 = .ok (.invokevirtual 36, 3) := dk_182 0 36 (dk_at dksL_law_10 0 rfl rfl)
theorem dL_law_298 : decode cL_law 298 = .ok (.if_icmp .eq 506, 3) := dk_159 1 250 (dk_at dksL_law_10 3 rfl rfl)
theorem dL_law_301 : decode cL_law 301 = .ok (.iconst 0, 1) := dk_3 (dk_at dksL_law_10 6 rfl rfl)
theorem dL_law_302 : decode cL_law 302 = .ok (.ireturn, 1) := dk_172 (dk_at dksL_law_10 7 rfl rfl)
theorem dL_law_303 : decode cL_law 303 = .ok (.aload_n 1, 1) := dk_43 (dk_at dksL_law_10 8 rfl rfl)
theorem dL_law_304 : decode cL_law 304 = .ok (.aload_n 0, 1) := dk_42 (dk_at dksL_law_10 9 rfl rfl)
theorem dL_law_305 : decode cL_law 305 = .ok (.iload_n 3, 1) := dk_29 (dk_at dksL_law_10 10 rfl rfl)
theorem dL_law_306 : decode cL_law 306 = .ok (.iconst 1, 1) := dk_4 (dk_at dksL_law_10 11 rfl rfl)
theorem dL_law_307 : decode cL_law 307 = .ok (.iadd, 1) := dk_96 (dk_at dksL_law_10 12 rfl rfl)
theorem dL_law_308 : decode cL_law 308 = .ok (.iaload, 1) := dk_46 (dk_at dksL_law_10 13 rfl rfl)
theorem dL_law_309 : decode cL_law 309 = .ok (.aload_n 0, 1) := dk_42 (dk_at dksL_law_10 14 rfl rfl)
theorem dL_law_310 : decode cL_law 310 = .ok (.iload_n 3, 1) := dk_29 (dk_at dksL_law_10 15 rfl rfl)
theorem dL_law_311 : decode cL_law 311 = .ok (.iconst 2, 1) := dk_5 (dk_at dksL_law_10 16 rfl rfl)
theorem dL_law_312 : decode cL_law 312 = .ok (.iadd, 1) := dk_96 (dk_at dksL_law_10 17 rfl rfl)
theorem dL_law_313 : decode cL_law 313 = .ok (.iaload, 1) := dk_46 (dk_at dksL_law_10 18 rfl rfl)
theorem dL_law_314 : decode cL_law 314 = .ok (.aload_n 0, 1) := dk_42 (dk_at dksL_law_10 19 rfl rfl)
theorem dL_law_315 : decode cL_law 315 = .ok (.iload_n 3, 1) := dk_29 (dk_at dksL_law_10 20 rfl rfl)
theorem dL_law_316 : decode cL_law 316 = .ok (.iconst 3, 1) := dk_6 (dk_at dksL_law_10 21 rfl rfl)
theorem dL_law_317 : decode cL_law 317 = .ok (.iadd, 1) := dk_96 (dk_at dksL_law_10 22 rfl rfl)
theorem dL_law_318 : decode cL_law 318 = .ok (.iaload, 1) := dk_46 (dk_at dksL_law_10 23 rfl rfl)
theorem dL_law_319 : decode cL_law 319 = .ok (.invokevirtual 37, 3) := dk_182 0 37 (dk_at dksL_law_11 0 rfl rfl)
theorem dL_law_322 : decode cL_law 322 = .ok (.aload_n 2, 1) := dk_44 (dk_at dksL_law_11 3 rfl rfl)
theorem dL_law_323 : decode cL_law 323 = .ok (.aload_n 0, 1) := dk_42 (dk_at dksL_law_11 4 rfl rfl)
theorem dL_law_324 : decode cL_law 324 = .ok (.iload_n 3, 1) := dk_29 (dk_at dksL_law_11 5 rfl rfl)
theorem dL_law_325 : decode cL_law 325 = .ok (.iconst 1, 1) := dk_4 (dk_at dksL_law_11 6 rfl rfl)
theorem dL_law_326 : decode cL_law 326 = .ok (.iadd, 1) := dk_96 (dk_at dksL_law_11 7 rfl rfl)
theorem dL_law_327 : decode cL_law 327 = .ok (.iaload, 1) := dk_46 (dk_at dksL_law_11 8 rfl rfl)
theorem dL_law_328 : decode cL_law 328 = .ok (.aload_n 0, 1) := dk_42 (dk_at dksL_law_11 9 rfl rfl)
theorem dL_law_329 : decode cL_law 329 = .ok (.iload_n 3, 1) := dk_29 (dk_at dksL_law_11 10 rfl rfl)
theorem dL_law_330 : decode cL_law 330 = .ok (.iconst 2, 1) := dk_5 (dk_at dksL_law_11 11 rfl rfl)
theorem dL_law_331 : decode cL_law 331 = .ok (.iadd, 1) := dk_96 (dk_at dksL_law_11 12 rfl rfl)
theorem dL_law_332 : decode cL_law 332 = .ok (.iaload, 1) := dk_46 (dk_at dksL_law_11 13 rfl rfl)
theorem dL_law_333 : decode cL_law 333 = .ok (.aload_n 0, 1) := dk_42 (dk_at dksL_law_11 14 rfl rfl)
theorem dL_law_334 : decode cL_law 334 = .ok (.iload_n 3, 1) := dk_29 (dk_at dksL_law_11 15 rfl rfl)
theorem dL_law_335 : decode cL_law 335 = .ok (.iconst 3, 1) := dk_6 (dk_at dksL_law_11 16 rfl rfl)
theorem dL_law_336 : decode cL_law 336 = .ok (.iadd, 1) := dk_96 (dk_at dksL_law_11 17 rfl rfl)
theorem dL_law_337 : decode cL_law 337 = .ok (.iaload, 1) := dk_46 (dk_at dksL_law_11 18 rfl rfl)
theorem dL_law_338 : decode cL_law 338 = .ok (.invokevirtual 41, 3) := dk_182 0 41 (dk_at dksL_law_11 19 rfl rfl)
theorem dL_law_341 : decode cL_law 341 = .ok (.if_icmp .eq 463, 3) := dk_159 1 207 (dk_at dksL_law_12 0 rfl rfl)
theorem dL_law_344 : decode cL_law 344 = .ok (.iconst 0, 1) := dk_3 (dk_at dksL_law_12 3 rfl rfl)
theorem dL_law_345 : decode cL_law 345 = .ok (.ireturn, 1) := dk_172 (dk_at dksL_law_12 4 rfl rfl)
theorem dL_law_346 : decode cL_law 346 = .ok (.aload_n 1, 1) := dk_43 (dk_at dksL_law_12 5 rfl rfl)
theorem dL_law_347 : decode cL_law 347 = .ok (.aload_n 0, 1) := dk_42 (dk_at dksL_law_12 6 rfl rfl)
theorem dL_law_348 : decode cL_law 348 = .ok (.iload_n 3, 1) := dk_29 (dk_at dksL_law_12 7 rfl rfl)
theorem dL_law_349 : decode cL_law 349 = .ok (.iconst 1, 1) := dk_4 (dk_at dksL_law_12 8 rfl rfl)
theorem dL_law_350 : decode cL_law 350 = .ok (.iadd, 1) := dk_96 (dk_at dksL_law_12 9 rfl rfl)
theorem dL_law_351 : decode cL_law 351 = .ok (.iaload, 1) := dk_46 (dk_at dksL_law_12 10 rfl rfl)
theorem dL_law_352 : decode cL_law 352 = .ok (.invokevirtual 42, 3) := dk_182 0 42 (dk_at dksL_law_12 11 rfl rfl)
theorem dL_law_355 : decode cL_law 355 = .ok (.aload_n 2, 1) := dk_44 (dk_at dksL_law_12 14 rfl rfl)
theorem dL_law_356 : decode cL_law 356 = .ok (.aload_n 0, 1) := dk_42 (dk_at dksL_law_12 15 rfl rfl)
theorem dL_law_357 : decode cL_law 357 = .ok (.iload_n 3, 1) := dk_29 (dk_at dksL_law_12 16 rfl rfl)
theorem dL_law_358 : decode cL_law 358 = .ok (.iconst 1, 1) := dk_4 (dk_at dksL_law_12 17 rfl rfl)
theorem dL_law_359 : decode cL_law 359 = .ok (.iadd, 1) := dk_96 (dk_at dksL_law_12 18 rfl rfl)
theorem dL_law_360 : decode cL_law 360 = .ok (.iaload, 1) := dk_46 (dk_at dksL_law_12 19 rfl rfl)
theorem dL_law_361 : decode cL_law 361 = .ok (.invokevirtual 45, 3) := dk_182 0 45 (dk_at dksL_law_12 20 rfl rfl)
theorem dL_law_364 : decode cL_law 364 = .ok (.if_icmp .eq 440, 3) := dk_159 1 184 (dk_at dksL_law_13 0 rfl rfl)
theorem dL_law_367 : decode cL_law 367 = .ok (.iconst 0, 1) := dk_3 (dk_at dksL_law_13 3 rfl rfl)
theorem dL_law_368 : decode cL_law 368 = .ok (.ireturn, 1) := dk_172 (dk_at dksL_law_13 4 rfl rfl)
theorem dL_law_369 : decode cL_law 369 = .ok (.aload_n 1, 1) := dk_43 (dk_at dksL_law_13 5 rfl rfl)
theorem dL_law_370 : decode cL_law 370 = .ok (.aload_n 0, 1) := dk_42 (dk_at dksL_law_13 6 rfl rfl)
theorem dL_law_371 : decode cL_law 371 = .ok (.iload_n 3, 1) := dk_29 (dk_at dksL_law_13 7 rfl rfl)
theorem dL_law_372 : decode cL_law 372 = .ok (.iconst 1, 1) := dk_4 (dk_at dksL_law_13 8 rfl rfl)
theorem dL_law_373 : decode cL_law 373 = .ok (.iadd, 1) := dk_96 (dk_at dksL_law_13 9 rfl rfl)
theorem dL_law_374 : decode cL_law 374 = .ok (.iaload, 1) := dk_46 (dk_at dksL_law_13 10 rfl rfl)
theorem dL_law_375 : decode cL_law 375 = .ok (.aload_n 0, 1) := dk_42 (dk_at dksL_law_13 11 rfl rfl)
theorem dL_law_376 : decode cL_law 376 = .ok (.iload_n 3, 1) := dk_29 (dk_at dksL_law_13 12 rfl rfl)
theorem dL_law_377 : decode cL_law 377 = .ok (.iconst 2, 1) := dk_5 (dk_at dksL_law_13 13 rfl rfl)
theorem dL_law_378 : decode cL_law 378 = .ok (.iadd, 1) := dk_96 (dk_at dksL_law_13 14 rfl rfl)
theorem dL_law_379 : decode cL_law 379 = .ok (.iaload, 1) := dk_46 (dk_at dksL_law_13 15 rfl rfl)
theorem dL_law_380 : decode cL_law 380 = .ok (.invokevirtual 46, 3) := dk_182 0 46 (dk_at dksL_law_13 16 rfl rfl)
theorem dL_law_383 : decode cL_law 383 = .ok (.aload_n 2, 1) := dk_44 (dk_at dksL_law_13 19 rfl rfl)
theorem dL_law_384 : decode cL_law 384 = .ok (.aload_n 0, 1) := dk_42 (dk_at dksL_law_13 20 rfl rfl)
theorem dL_law_385 : decode cL_law 385 = .ok (.iload_n 3, 1) := dk_29 (dk_at dksL_law_13 21 rfl rfl)
theorem dL_law_386 : decode cL_law 386 = .ok (.iconst 1, 1) := dk_4 (dk_at dksL_law_13 22 rfl rfl)
theorem dL_law_387 : decode cL_law 387 = .ok (.iadd, 1) := dk_96 (dk_at dksL_law_13 23 rfl rfl)
theorem dL_law_388 : decode cL_law 388 = .ok (.iaload, 1) := dk_46 (dk_at dksL_law_14 0 rfl rfl)
theorem dL_law_389 : decode cL_law 389 = .ok (.aload_n 0, 1) := dk_42 (dk_at dksL_law_14 1 rfl rfl)
theorem dL_law_390 : decode cL_law 390 = .ok (.iload_n 3, 1) := dk_29 (dk_at dksL_law_14 2 rfl rfl)
theorem dL_law_391 : decode cL_law 391 = .ok (.iconst 2, 1) := dk_5 (dk_at dksL_law_14 3 rfl rfl)
theorem dL_law_392 : decode cL_law 392 = .ok (.iadd, 1) := dk_96 (dk_at dksL_law_14 4 rfl rfl)
theorem dL_law_393 : decode cL_law 393 = .ok (.iaload, 1) := dk_46 (dk_at dksL_law_14 5 rfl rfl)
theorem dL_law_394 : decode cL_law 394 = .ok (.invokevirtual 50, 3) := dk_182 0 50 (dk_at dksL_law_14 6 rfl rfl)
theorem dL_law_397 : decode cL_law 397 = .ok (.if_icmp .eq 407, 3) := dk_159 1 151 (dk_at dksL_law_14 9 rfl rfl)
theorem dL_law_400 : decode cL_law 400 = .ok (.iconst 0, 1) := dk_3 (dk_at dksL_law_14 12 rfl rfl)
theorem dL_law_401 : decode cL_law 401 = .ok (.ireturn, 1) := dk_172 (dk_at dksL_law_14 13 rfl rfl)
theorem dL_law_402 : decode cL_law 402 = .ok (.aload_n 1, 1) := dk_43 (dk_at dksL_law_14 14 rfl rfl)
theorem dL_law_403 : decode cL_law 403 = .ok (.aload_n 0, 1) := dk_42 (dk_at dksL_law_14 15 rfl rfl)
theorem dL_law_404 : decode cL_law 404 = .ok (.iload_n 3, 1) := dk_29 (dk_at dksL_law_14 16 rfl rfl)
theorem dL_law_405 : decode cL_law 405 = .ok (.iconst 1, 1) := dk_4 (dk_at dksL_law_14 17 rfl rfl)
theorem dL_law_406 : decode cL_law 406 = .ok (.iadd, 1) := dk_96 (dk_at dksL_law_14 18 rfl rfl)
theorem dL_law_407 : decode cL_law 407 = .ok (.iaload, 1) := dk_46 (dk_at dksL_law_14 19 rfl rfl)
theorem dL_law_408 : decode cL_law 408 = .ok (.aload_n 0, 1) := dk_42 (dk_at dksL_law_14 20 rfl rfl)
theorem dL_law_409 : decode cL_law 409 = .ok (.iload_n 3, 1) := dk_29 (dk_at dksL_law_14 21 rfl rfl)
theorem dL_law_410 : decode cL_law 410 = .ok (.iconst 2, 1) := dk_5 (dk_at dksL_law_14 22 rfl rfl)
theorem dL_law_411 : decode cL_law 411 = .ok (.iadd, 1) := dk_96 (dk_at dksL_law_14 23 rfl rfl)
theorem dL_law_412 : decode cL_law 412 = .ok (.iaload, 1) := dk_46 (dk_at dksL_law_15 0 rfl rfl)
theorem dL_law_413 : decode cL_law 413 = .ok (.invokevirtual 51, 3) := dk_182 0 51 (dk_at dksL_law_15 1 rfl rfl)
theorem dL_law_416 : decode cL_law 416 = .ok (.aload_n 2, 1) := dk_44 (dk_at dksL_law_15 4 rfl rfl)
theorem dL_law_417 : decode cL_law 417 = .ok (.aload_n 0, 1) := dk_42 (dk_at dksL_law_15 5 rfl rfl)
theorem dL_law_418 : decode cL_law 418 = .ok (.iload_n 3, 1) := dk_29 (dk_at dksL_law_15 6 rfl rfl)
theorem dL_law_419 : decode cL_law 419 = .ok (.iconst 1, 1) := dk_4 (dk_at dksL_law_15 7 rfl rfl)
theorem dL_law_420 : decode cL_law 420 = .ok (.iadd, 1) := dk_96 (dk_at dksL_law_15 8 rfl rfl)
theorem dL_law_421 : decode cL_law 421 = .ok (.iaload, 1) := dk_46 (dk_at dksL_law_15 9 rfl rfl)
theorem dL_law_422 : decode cL_law 422 = .ok (.aload_n 0, 1) := dk_42 (dk_at dksL_law_15 10 rfl rfl)
theorem dL_law_423 : decode cL_law 423 = .ok (.iload_n 3, 1) := dk_29 (dk_at dksL_law_15 11 rfl rfl)
theorem dL_law_424 : decode cL_law 424 = .ok (.iconst 2, 1) := dk_5 (dk_at dksL_law_15 12 rfl rfl)
theorem dL_law_425 : decode cL_law 425 = .ok (.iadd, 1) := dk_96 (dk_at dksL_law_15 13 rfl rfl)
theorem dL_law_426 : decode cL_law 426 = .ok (.iaload, 1) := dk_46 (dk_at dksL_law_15 14 rfl rfl)
theorem dL_law_427 : decode cL_law 427 = .ok (.invokevirtual 54, 3) := dk_182 0 54 (dk_at dksL_law_15 15 rfl rfl)
theorem dL_law_430 : decode cL_law 430 = .ok (.if_icmp .eq 374, 3) := dk_159 1 118 (dk_at dksL_law_15 18 rfl rfl)
theorem dL_law_433 : decode cL_law 433 = .ok (.iconst 0, 1) := dk_3 (dk_at dksL_law_15 21 rfl rfl)
theorem dL_law_434 : decode cL_law 434 = .ok (.ireturn, 1) := dk_172 (dk_at dksL_law_15 22 rfl rfl)
theorem dL_law_435 : decode cL_law 435 = .ok (.aload_n 1, 1) := dk_43 (dk_at dksL_law_15 23 rfl rfl)
theorem dL_law_436 : decode cL_law 436 = .ok (.aload_n 0, 1) := dk_42 (dk_at dksL_law_16 0 rfl rfl)
theorem dL_law_437 : decode cL_law 437 = .ok (.iload_n 3, 1) := dk_29 (dk_at dksL_law_16 1 rfl rfl)
theorem dL_law_438 : decode cL_law 438 = .ok (.iconst 1, 1) := dk_4 (dk_at dksL_law_16 2 rfl rfl)
theorem dL_law_439 : decode cL_law 439 = .ok (.iadd, 1) := dk_96 (dk_at dksL_law_16 3 rfl rfl)
theorem dL_law_440 : decode cL_law 440 = .ok (.iaload, 1) := dk_46 (dk_at dksL_law_16 4 rfl rfl)
theorem dL_law_441 : decode cL_law 441 = .ok (.aload_n 0, 1) := dk_42 (dk_at dksL_law_16 5 rfl rfl)
theorem dL_law_442 : decode cL_law 442 = .ok (.iload_n 3, 1) := dk_29 (dk_at dksL_law_16 6 rfl rfl)
theorem dL_law_443 : decode cL_law 443 = .ok (.iconst 2, 1) := dk_5 (dk_at dksL_law_16 7 rfl rfl)
theorem dL_law_444 : decode cL_law 444 = .ok (.iadd, 1) := dk_96 (dk_at dksL_law_16 8 rfl rfl)
theorem dL_law_445 : decode cL_law 445 = .ok (.iaload, 1) := dk_46 (dk_at dksL_law_16 9 rfl rfl)
theorem dL_law_446 : decode cL_law 446 = .ok (.aload_n 0, 1) := dk_42 (dk_at dksL_law_16 10 rfl rfl)
theorem dL_law_447 : decode cL_law 447 = .ok (.iload_n 3, 1) := dk_29 (dk_at dksL_law_16 11 rfl rfl)
theorem dL_law_448 : decode cL_law 448 = .ok (.iconst 3, 1) := dk_6 (dk_at dksL_law_16 12 rfl rfl)
theorem dL_law_449 : decode cL_law 449 = .ok (.iadd, 1) := dk_96 (dk_at dksL_law_16 13 rfl rfl)
theorem dL_law_450 : decode cL_law 450 = .ok (.iaload, 1) := dk_46 (dk_at dksL_law_16 14 rfl rfl)
theorem dL_law_451 : decode cL_law 451 = .ok (.invokevirtual 55, 3) := dk_182 0 55 (dk_at dksL_law_16 15 rfl rfl)
theorem dL_law_454 : decode cL_law 454 = .ok (.aload_n 2, 1) := dk_44 (dk_at dksL_law_16 18 rfl rfl)
theorem dL_law_455 : decode cL_law 455 = .ok (.aload_n 0, 1) := dk_42 (dk_at dksL_law_16 19 rfl rfl)
theorem dL_law_456 : decode cL_law 456 = .ok (.iload_n 3, 1) := dk_29 (dk_at dksL_law_16 20 rfl rfl)
theorem dL_law_457 : decode cL_law 457 = .ok (.iconst 1, 1) := dk_4 (dk_at dksL_law_16 21 rfl rfl)
theorem dL_law_458 : decode cL_law 458 = .ok (.iadd, 1) := dk_96 (dk_at dksL_law_16 22 rfl rfl)
theorem dL_law_459 : decode cL_law 459 = .ok (.iaload, 1) := dk_46 (dk_at dksL_law_16 23 rfl rfl)
theorem dL_law_460 : decode cL_law 460 = .ok (.aload_n 0, 1) := dk_42 (dk_at dksL_law_17 0 rfl rfl)
theorem dL_law_461 : decode cL_law 461 = .ok (.iload_n 3, 1) := dk_29 (dk_at dksL_law_17 1 rfl rfl)
theorem dL_law_462 : decode cL_law 462 = .ok (.iconst 2, 1) := dk_5 (dk_at dksL_law_17 2 rfl rfl)
theorem dL_law_463 : decode cL_law 463 = .ok (.iadd, 1) := dk_96 (dk_at dksL_law_17 3 rfl rfl)
theorem dL_law_464 : decode cL_law 464 = .ok (.iaload, 1) := dk_46 (dk_at dksL_law_17 4 rfl rfl)
theorem dL_law_465 : decode cL_law 465 = .ok (.aload_n 0, 1) := dk_42 (dk_at dksL_law_17 5 rfl rfl)
theorem dL_law_466 : decode cL_law 466 = .ok (.iload_n 3, 1) := dk_29 (dk_at dksL_law_17 6 rfl rfl)
theorem dL_law_467 : decode cL_law 467 = .ok (.iconst 3, 1) := dk_6 (dk_at dksL_law_17 7 rfl rfl)
theorem dL_law_468 : decode cL_law 468 = .ok (.iadd, 1) := dk_96 (dk_at dksL_law_17 8 rfl rfl)
theorem dL_law_469 : decode cL_law 469 = .ok (.iaload, 1) := dk_46 (dk_at dksL_law_17 9 rfl rfl)
theorem dL_law_470 : decode cL_law 470 = .ok (.invokevirtual 58, 3) := dk_182 0 58 (dk_at dksL_law_17 10 rfl rfl)
theorem dL_law_473 : decode cL_law 473 = .ok (.if_icmp .eq 331, 3) := dk_159 1 75 (dk_at dksL_law_17 13 rfl rfl)
theorem dL_law_476 : decode cL_law 476 = .ok (.iconst 0, 1) := dk_3 (dk_at dksL_law_17 16 rfl rfl)
theorem dL_law_477 : decode cL_law 477 = .ok (.ireturn, 1) := dk_172 (dk_at dksL_law_17 17 rfl rfl)
theorem dL_law_478 : decode cL_law 478 = .ok (.aload_n 1, 1) := dk_43 (dk_at dksL_law_17 18 rfl rfl)
theorem dL_law_479 : decode cL_law 479 = .ok (.aload_n 0, 1) := dk_42 (dk_at dksL_law_17 19 rfl rfl)
theorem dL_law_480 : decode cL_law 480 = .ok (.iload_n 3, 1) := dk_29 (dk_at dksL_law_17 20 rfl rfl)
theorem dL_law_481 : decode cL_law 481 = .ok (.iconst 1, 1) := dk_4 (dk_at dksL_law_17 21 rfl rfl)
theorem dL_law_482 : decode cL_law 482 = .ok (.iadd, 1) := dk_96 (dk_at dksL_law_17 22 rfl rfl)
theorem dL_law_483 : decode cL_law 483 = .ok (.iaload, 1) := dk_46 (dk_at dksL_law_17 23 rfl rfl)
theorem dL_law_484 : decode cL_law 484 = .ok (.invokevirtual 59, 3) := dk_182 0 59 (dk_at dksL_law_18 0 rfl rfl)
theorem dL_law_487 : decode cL_law 487 = .ok (.aload_n 2, 1) := dk_44 (dk_at dksL_law_18 3 rfl rfl)
theorem dL_law_488 : decode cL_law 488 = .ok (.aload_n 0, 1) := dk_42 (dk_at dksL_law_18 4 rfl rfl)
theorem dL_law_489 : decode cL_law 489 = .ok (.iload_n 3, 1) := dk_29 (dk_at dksL_law_18 5 rfl rfl)
theorem dL_law_490 : decode cL_law 490 = .ok (.iconst 1, 1) := dk_4 (dk_at dksL_law_18 6 rfl rfl)
theorem dL_law_491 : decode cL_law 491 = .ok (.iadd, 1) := dk_96 (dk_at dksL_law_18 7 rfl rfl)
theorem dL_law_492 : decode cL_law 492 = .ok (.iaload, 1) := dk_46 (dk_at dksL_law_18 8 rfl rfl)
theorem dL_law_493 : decode cL_law 493 = .ok (.invokevirtual 62, 3) := dk_182 0 62 (dk_at dksL_law_18 9 rfl rfl)
theorem dL_law_496 : decode cL_law 496 = .ok (.if_icmp .eq 308, 3) := dk_159 1 52 (dk_at dksL_law_18 12 rfl rfl)
theorem dL_law_499 : decode cL_law 499 = .ok (.iconst 0, 1) := dk_3 (dk_at dksL_law_18 15 rfl rfl)
theorem dL_law_500 : decode cL_law 500 = .ok (.ireturn, 1) := dk_172 (dk_at dksL_law_18 16 rfl rfl)
theorem dL_law_501 : decode cL_law 501 = .ok (.aload_n 1, 1) := dk_43 (dk_at dksL_law_18 17 rfl rfl)
theorem dL_law_502 : decode cL_law 502 = .ok (.aload_n 0, 1) := dk_42 (dk_at dksL_law_18 18 rfl rfl)
theorem dL_law_503 : decode cL_law 503 = .ok (.iload_n 3, 1) := dk_29 (dk_at dksL_law_18 19 rfl rfl)
theorem dL_law_504 : decode cL_law 504 = .ok (.iconst 1, 1) := dk_4 (dk_at dksL_law_18 20 rfl rfl)
theorem dL_law_505 : decode cL_law 505 = .ok (.iadd, 1) := dk_96 (dk_at dksL_law_18 21 rfl rfl)
theorem dL_law_506 : decode cL_law 506 = .ok (.iaload, 1) := dk_46 (dk_at dksL_law_18 22 rfl rfl)
theorem dL_law_507 : decode cL_law 507 = .ok (.aload_n 0, 1) := dk_42 (dk_at dksL_law_18 23 rfl rfl)
theorem dL_law_508 : decode cL_law 508 = .ok (.iload_n 3, 1) := dk_29 (dk_at dksL_law_19 0 rfl rfl)
theorem dL_law_509 : decode cL_law 509 = .ok (.iconst 2, 1) := dk_5 (dk_at dksL_law_19 1 rfl rfl)
theorem dL_law_510 : decode cL_law 510 = .ok (.iadd, 1) := dk_96 (dk_at dksL_law_19 2 rfl rfl)
theorem dL_law_511 : decode cL_law 511 = .ok (.iaload, 1) := dk_46 (dk_at dksL_law_19 3 rfl rfl)
theorem dL_law_512 : decode cL_law 512 = .ok (.invokevirtual 63, 3) := dk_182 0 63 (dk_at dksL_law_19 4 rfl rfl)
theorem dL_law_515 : decode cL_law 515 = .ok (.aload_n 2, 1) := dk_44 (dk_at dksL_law_19 7 rfl rfl)
theorem dL_law_516 : decode cL_law 516 = .ok (.aload_n 0, 1) := dk_42 (dk_at dksL_law_19 8 rfl rfl)
theorem dL_law_517 : decode cL_law 517 = .ok (.iload_n 3, 1) := dk_29 (dk_at dksL_law_19 9 rfl rfl)
theorem dL_law_518 : decode cL_law 518 = .ok (.iconst 1, 1) := dk_4 (dk_at dksL_law_19 10 rfl rfl)
theorem dL_law_519 : decode cL_law 519 = .ok (.iadd, 1) := dk_96 (dk_at dksL_law_19 11 rfl rfl)
theorem dL_law_520 : decode cL_law 520 = .ok (.iaload, 1) := dk_46 (dk_at dksL_law_19 12 rfl rfl)
theorem dL_law_521 : decode cL_law 521 = .ok (.aload_n 0, 1) := dk_42 (dk_at dksL_law_19 13 rfl rfl)
theorem dL_law_522 : decode cL_law 522 = .ok (.iload_n 3, 1) := dk_29 (dk_at dksL_law_19 14 rfl rfl)
theorem dL_law_523 : decode cL_law 523 = .ok (.iconst 2, 1) := dk_5 (dk_at dksL_law_19 15 rfl rfl)
theorem dL_law_524 : decode cL_law 524 = .ok (.iadd, 1) := dk_96 (dk_at dksL_law_19 16 rfl rfl)
theorem dL_law_525 : decode cL_law 525 = .ok (.iaload, 1) := dk_46 (dk_at dksL_law_19 17 rfl rfl)
theorem dL_law_526 : decode cL_law 526 = .ok (.invokevirtual 66, 3) := dk_182 0 66 (dk_at dksL_law_19 18 rfl rfl)
theorem dL_law_529 : decode cL_law 529 = .ok (.if_icmp .eq 275, 3) := dk_159 1 19 (dk_at dksL_law_19 21 rfl rfl)
theorem dL_law_532 : decode cL_law 532 = .ok (.iconst 0, 1) := dk_3 (dk_at dksL_law_20 0 rfl rfl)
theorem dL_law_533 : decode cL_law 533 = .ok (.ireturn, 1) := dk_172 (dk_at dksL_law_20 1 rfl rfl)
theorem dL_law_534 : decode cL_law 534 = .ok (.aload_n 1, 1) := dk_43 (dk_at dksL_law_20 2 rfl rfl)
theorem dL_law_535 : decode cL_law 535 = .ok (.aload_n 0, 1) := dk_42 (dk_at dksL_law_20 3 rfl rfl)
theorem dL_law_536 : decode cL_law 536 = .ok (.iload_n 3, 1) := dk_29 (dk_at dksL_law_20 4 rfl rfl)
theorem dL_law_537 : decode cL_law 537 = .ok (.iconst 1, 1) := dk_4 (dk_at dksL_law_20 5 rfl rfl)
theorem dL_law_538 : decode cL_law 538 = .ok (.iadd, 1) := dk_96 (dk_at dksL_law_20 6 rfl rfl)
theorem dL_law_539 : decode cL_law 539 = .ok (.iaload, 1) := dk_46 (dk_at dksL_law_20 7 rfl rfl)
theorem dL_law_540 : decode cL_law 540 = .ok (.aload_n 0, 1) := dk_42 (dk_at dksL_law_20 8 rfl rfl)
theorem dL_law_541 : decode cL_law 541 = .ok (.iload_n 3, 1) := dk_29 (dk_at dksL_law_20 9 rfl rfl)
theorem dL_law_542 : decode cL_law 542 = .ok (.iconst 2, 1) := dk_5 (dk_at dksL_law_20 10 rfl rfl)
theorem dL_law_543 : decode cL_law 543 = .ok (.iadd, 1) := dk_96 (dk_at dksL_law_20 11 rfl rfl)
theorem dL_law_544 : decode cL_law 544 = .ok (.iaload, 1) := dk_46 (dk_at dksL_law_20 12 rfl rfl)
theorem dL_law_545 : decode cL_law 545 = .ok (.invokevirtual 67, 3) := dk_182 0 67 (dk_at dksL_law_20 13 rfl rfl)
theorem dL_law_548 : decode cL_law 548 = .ok (.aload_n 2, 1) := dk_44 (dk_at dksL_law_20 16 rfl rfl)
theorem dL_law_549 : decode cL_law 549 = .ok (.aload_n 0, 1) := dk_42 (dk_at dksL_law_20 17 rfl rfl)
theorem dL_law_550 : decode cL_law 550 = .ok (.iload_n 3, 1) := dk_29 (dk_at dksL_law_20 18 rfl rfl)
theorem dL_law_551 : decode cL_law 551 = .ok (.iconst 1, 1) := dk_4 (dk_at dksL_law_20 19 rfl rfl)
theorem dL_law_552 : decode cL_law 552 = .ok (.iadd, 1) := dk_96 (dk_at dksL_law_20 20 rfl rfl)
theorem dL_law_553 : decode cL_law 553 = .ok (.iaload, 1) := dk_46 (dk_at dksL_law_20 21 rfl rfl)
theorem dL_law_554 : decode cL_law 554 = .ok (.aload_n 0, 1) := dk_42 (dk_at dksL_law_20 22 rfl rfl)
theorem dL_law_555 : decode cL_law 555 = .ok (.iload_n 3, 1) := dk_29 (dk_at dksL_law_20 23 rfl rfl)
theorem dL_law_556 : decode cL_law 556 = .ok (.iconst 2, 1) := dk_5 (dk_at dksL_law_21 0 rfl rfl)
theorem dL_law_557 : decode cL_law 557 = .ok (.iadd, 1) := dk_96 (dk_at dksL_law_21 1 rfl rfl)
theorem dL_law_558 : decode cL_law 558 = .ok (.iaload, 1) := dk_46 (dk_at dksL_law_21 2 rfl rfl)
theorem dL_law_559 : decode cL_law 559 = .ok (.invokevirtual 70, 3) := dk_182 0 70 (dk_at dksL_law_21 3 rfl rfl)
theorem dL_law_562 : decode cL_law 562 = .ok (.if_icmp .eq 242, 3) := dk_159 0 242 (dk_at dksL_law_21 6 rfl rfl)
theorem dL_law_565 : decode cL_law 565 = .ok (.iconst 0, 1) := dk_3 (dk_at dksL_law_21 9 rfl rfl)
theorem dL_law_566 : decode cL_law 566 = .ok (.ireturn, 1) := dk_172 (dk_at dksL_law_21 10 rfl rfl)
theorem dL_law_567 : decode cL_law 567 = .ok (.aload_n 1, 1) := dk_43 (dk_at dksL_law_21 11 rfl rfl)
theorem dL_law_568 : decode cL_law 568 = .ok (.aload_n 0, 1) := dk_42 (dk_at dksL_law_21 12 rfl rfl)
theorem dL_law_569 : decode cL_law 569 = .ok (.iload_n 3, 1) := dk_29 (dk_at dksL_law_21 13 rfl rfl)
theorem dL_law_570 : decode cL_law 570 = .ok (.iconst 1, 1) := dk_4 (dk_at dksL_law_21 14 rfl rfl)
theorem dL_law_571 : decode cL_law 571 = .ok (.iadd, 1) := dk_96 (dk_at dksL_law_21 15 rfl rfl)
theorem dL_law_572 : decode cL_law 572 = .ok (.iaload, 1) := dk_46 (dk_at dksL_law_21 16 rfl rfl)
theorem dL_law_573 : decode cL_law 573 = .ok (.invokevirtual 71, 3) := dk_182 0 71 (dk_at dksL_law_21 17 rfl rfl)
theorem dL_law_576 : decode cL_law 576 = .ok (.aload_n 2, 1) := dk_44 (dk_at dksL_law_21 20 rfl rfl)
theorem dL_law_577 : decode cL_law 577 = .ok (.aload_n 0, 1) := dk_42 (dk_at dksL_law_21 21 rfl rfl)
theorem dL_law_578 : decode cL_law 578 = .ok (.iload_n 3, 1) := dk_29 (dk_at dksL_law_21 22 rfl rfl)
theorem dL_law_579 : decode cL_law 579 = .ok (.iconst 1, 1) := dk_4 (dk_at dksL_law_21 23 rfl rfl)
theorem dL_law_580 : decode cL_law 580 = .ok (.iadd, 1) := dk_96 (dk_at dksL_law_22 0 rfl rfl)
theorem dL_law_581 : decode cL_law 581 = .ok (.iaload, 1) := dk_46 (dk_at dksL_law_22 1 rfl rfl)
theorem dL_law_582 : decode cL_law 582 = .ok (.invokevirtual 74, 3) := dk_182 0 74 (dk_at dksL_law_22 2 rfl rfl)
theorem dL_law_585 : decode cL_law 585 = .ok (.if_icmp .eq 219, 3) := dk_159 0 219 (dk_at dksL_law_22 5 rfl rfl)
theorem dL_law_588 : decode cL_law 588 = .ok (.iconst 0, 1) := dk_3 (dk_at dksL_law_22 8 rfl rfl)
theorem dL_law_589 : decode cL_law 589 = .ok (.ireturn, 1) := dk_172 (dk_at dksL_law_22 9 rfl rfl)
theorem dL_law_590 : decode cL_law 590 = .ok (.aload_n 1, 1) := dk_43 (dk_at dksL_law_22 10 rfl rfl)
theorem dL_law_591 : decode cL_law 591 = .ok (.aload_n 0, 1) := dk_42 (dk_at dksL_law_22 11 rfl rfl)
theorem dL_law_592 : decode cL_law 592 = .ok (.iload_n 3, 1) := dk_29 (dk_at dksL_law_22 12 rfl rfl)
theorem dL_law_593 : decode cL_law 593 = .ok (.iconst 1, 1) := dk_4 (dk_at dksL_law_22 13 rfl rfl)
theorem dL_law_594 : decode cL_law 594 = .ok (.iadd, 1) := dk_96 (dk_at dksL_law_22 14 rfl rfl)
theorem dL_law_595 : decode cL_law 595 = .ok (.iaload, 1) := dk_46 (dk_at dksL_law_22 15 rfl rfl)
theorem dL_law_596 : decode cL_law 596 = .ok (.aload_n 0, 1) := dk_42 (dk_at dksL_law_22 16 rfl rfl)
theorem dL_law_597 : decode cL_law 597 = .ok (.iload_n 3, 1) := dk_29 (dk_at dksL_law_22 17 rfl rfl)
theorem dL_law_598 : decode cL_law 598 = .ok (.iconst 2, 1) := dk_5 (dk_at dksL_law_22 18 rfl rfl)
theorem dL_law_599 : decode cL_law 599 = .ok (.iadd, 1) := dk_96 (dk_at dksL_law_22 19 rfl rfl)
theorem dL_law_600 : decode cL_law 600 = .ok (.iaload, 1) := dk_46 (dk_at dksL_law_22 20 rfl rfl)
theorem dL_law_601 : decode cL_law 601 = .ok (.aload_n 0, 1) := dk_42 (dk_at dksL_law_22 21 rfl rfl)
theorem dL_law_602 : decode cL_law 602 = .ok (.iload_n 3, 1) := dk_29 (dk_at dksL_law_22 22 rfl rfl)
theorem dL_law_603 : decode cL_law 603 = .ok (.iconst 3, 1) := dk_6 (dk_at dksL_law_22 23 rfl rfl)
theorem dL_law_604 : decode cL_law 604 = .ok (.iadd, 1) := dk_96 (dk_at dksL_law_23 0 rfl rfl)
theorem dL_law_605 : decode cL_law 605 = .ok (.iaload, 1) := dk_46 (dk_at dksL_law_23 1 rfl rfl)
theorem dL_law_606 : decode cL_law 606 = .ok (.aload_n 0, 1) := dk_42 (dk_at dksL_law_23 2 rfl rfl)
theorem dL_law_607 : decode cL_law 607 = .ok (.iload_n 3, 1) := dk_29 (dk_at dksL_law_23 3 rfl rfl)
theorem dL_law_608 : decode cL_law 608 = .ok (.iconst 4, 1) := dk_7 (dk_at dksL_law_23 4 rfl rfl)
theorem dL_law_609 : decode cL_law 609 = .ok (.iadd, 1) := dk_96 (dk_at dksL_law_23 5 rfl rfl)
theorem dL_law_610 : decode cL_law 610 = .ok (.iaload, 1) := dk_46 (dk_at dksL_law_23 6 rfl rfl)
theorem dL_law_611 : decode cL_law 611 = .ok (.invokevirtual 75, 3) := dk_182 0 75 (dk_at dksL_law_23 7 rfl rfl)
theorem dL_law_614 : decode cL_law 614 = .ok (.aload_n 2, 1) := dk_44 (dk_at dksL_law_23 10 rfl rfl)
theorem dL_law_615 : decode cL_law 615 = .ok (.aload_n 0, 1) := dk_42 (dk_at dksL_law_23 11 rfl rfl)
theorem dL_law_616 : decode cL_law 616 = .ok (.iload_n 3, 1) := dk_29 (dk_at dksL_law_23 12 rfl rfl)
theorem dL_law_617 : decode cL_law 617 = .ok (.iconst 1, 1) := dk_4 (dk_at dksL_law_23 13 rfl rfl)
theorem dL_law_618 : decode cL_law 618 = .ok (.iadd, 1) := dk_96 (dk_at dksL_law_23 14 rfl rfl)
theorem dL_law_619 : decode cL_law 619 = .ok (.iaload, 1) := dk_46 (dk_at dksL_law_23 15 rfl rfl)
theorem dL_law_620 : decode cL_law 620 = .ok (.aload_n 0, 1) := dk_42 (dk_at dksL_law_23 16 rfl rfl)
theorem dL_law_621 : decode cL_law 621 = .ok (.iload_n 3, 1) := dk_29 (dk_at dksL_law_23 17 rfl rfl)
theorem dL_law_622 : decode cL_law 622 = .ok (.iconst 2, 1) := dk_5 (dk_at dksL_law_23 18 rfl rfl)
theorem dL_law_623 : decode cL_law 623 = .ok (.iadd, 1) := dk_96 (dk_at dksL_law_23 19 rfl rfl)
theorem dL_law_624 : decode cL_law 624 = .ok (.iaload, 1) := dk_46 (dk_at dksL_law_23 20 rfl rfl)
theorem dL_law_625 : decode cL_law 625 = .ok (.aload_n 0, 1) := dk_42 (dk_at dksL_law_23 21 rfl rfl)
theorem dL_law_626 : decode cL_law 626 = .ok (.iload_n 3, 1) := dk_29 (dk_at dksL_law_23 22 rfl rfl)
theorem dL_law_627 : decode cL_law 627 = .ok (.iconst 3, 1) := dk_6 (dk_at dksL_law_23 23 rfl rfl)
theorem dL_law_628 : decode cL_law 628 = .ok (.iadd, 1) := dk_96 (dk_at dksL_law_24 0 rfl rfl)
theorem dL_law_629 : decode cL_law 629 = .ok (.iaload, 1) := dk_46 (dk_at dksL_law_24 1 rfl rfl)
theorem dL_law_630 : decode cL_law 630 = .ok (.aload_n 0, 1) := dk_42 (dk_at dksL_law_24 2 rfl rfl)
theorem dL_law_631 : decode cL_law 631 = .ok (.iload_n 3, 1) := dk_29 (dk_at dksL_law_24 3 rfl rfl)
theorem dL_law_632 : decode cL_law 632 = .ok (.iconst 4, 1) := dk_7 (dk_at dksL_law_24 4 rfl rfl)
theorem dL_law_633 : decode cL_law 633 = .ok (.iadd, 1) := dk_96 (dk_at dksL_law_24 5 rfl rfl)
theorem dL_law_634 : decode cL_law 634 = .ok (.iaload, 1) := dk_46 (dk_at dksL_law_24 6 rfl rfl)
theorem dL_law_635 : decode cL_law 635 = .ok (.invokevirtual 79, 3) := dk_182 0 79 (dk_at dksL_law_24 7 rfl rfl)
theorem dL_law_638 : decode cL_law 638 = .ok (.if_icmp .eq 166, 3) := dk_159 0 166 (dk_at dksL_law_24 10 rfl rfl)
theorem dL_law_641 : decode cL_law 641 = .ok (.iconst 0, 1) := dk_3 (dk_at dksL_law_24 13 rfl rfl)
theorem dL_law_642 : decode cL_law 642 = .ok (.ireturn, 1) := dk_172 (dk_at dksL_law_24 14 rfl rfl)
theorem dL_law_643 : decode cL_law 643 = .ok (.aload_n 1, 1) := dk_43 (dk_at dksL_law_24 15 rfl rfl)
theorem dL_law_644 : decode cL_law 644 = .ok (.aload_n 0, 1) := dk_42 (dk_at dksL_law_24 16 rfl rfl)
theorem dL_law_645 : decode cL_law 645 = .ok (.iload_n 3, 1) := dk_29 (dk_at dksL_law_24 17 rfl rfl)
theorem dL_law_646 : decode cL_law 646 = .ok (.iconst 1, 1) := dk_4 (dk_at dksL_law_24 18 rfl rfl)
theorem dL_law_647 : decode cL_law 647 = .ok (.iadd, 1) := dk_96 (dk_at dksL_law_24 19 rfl rfl)
theorem dL_law_648 : decode cL_law 648 = .ok (.iaload, 1) := dk_46 (dk_at dksL_law_24 20 rfl rfl)
theorem dL_law_649 : decode cL_law 649 = .ok (.aload_n 0, 1) := dk_42 (dk_at dksL_law_24 21 rfl rfl)
theorem dL_law_650 : decode cL_law 650 = .ok (.iload_n 3, 1) := dk_29 (dk_at dksL_law_24 22 rfl rfl)
theorem dL_law_651 : decode cL_law 651 = .ok (.iconst 2, 1) := dk_5 (dk_at dksL_law_24 23 rfl rfl)
theorem dL_law_652 : decode cL_law 652 = .ok (.iadd, 1) := dk_96 (dk_at dksL_law_25 0 rfl rfl)
theorem dL_law_653 : decode cL_law 653 = .ok (.iaload, 1) := dk_46 (dk_at dksL_law_25 1 rfl rfl)
theorem dL_law_654 : decode cL_law 654 = .ok (.invokevirtual 80, 3) := dk_182 0 80 (dk_at dksL_law_25 2 rfl rfl)
theorem dL_law_657 : decode cL_law 657 = .ok (.aload_n 2, 1) := dk_44 (dk_at dksL_law_25 5 rfl rfl)
theorem dL_law_658 : decode cL_law 658 = .ok (.aload_n 0, 1) := dk_42 (dk_at dksL_law_25 6 rfl rfl)
theorem dL_law_659 : decode cL_law 659 = .ok (.iload_n 3, 1) := dk_29 (dk_at dksL_law_25 7 rfl rfl)
theorem dL_law_660 : decode cL_law 660 = .ok (.iconst 1, 1) := dk_4 (dk_at dksL_law_25 8 rfl rfl)
theorem dL_law_661 : decode cL_law 661 = .ok (.iadd, 1) := dk_96 (dk_at dksL_law_25 9 rfl rfl)
theorem dL_law_662 : decode cL_law 662 = .ok (.iaload, 1) := dk_46 (dk_at dksL_law_25 10 rfl rfl)
theorem dL_law_663 : decode cL_law 663 = .ok (.aload_n 0, 1) := dk_42 (dk_at dksL_law_25 11 rfl rfl)
theorem dL_law_664 : decode cL_law 664 = .ok (.iload_n 3, 1) := dk_29 (dk_at dksL_law_25 12 rfl rfl)
theorem dL_law_665 : decode cL_law 665 = .ok (.iconst 2, 1) := dk_5 (dk_at dksL_law_25 13 rfl rfl)
theorem dL_law_666 : decode cL_law 666 = .ok (.iadd, 1) := dk_96 (dk_at dksL_law_25 14 rfl rfl)
theorem dL_law_667 : decode cL_law 667 = .ok (.iaload, 1) := dk_46 (dk_at dksL_law_25 15 rfl rfl)
theorem dL_law_668 : decode cL_law 668 = .ok (.invokevirtual 83, 3) := dk_182 0 83 (dk_at dksL_law_25 16 rfl rfl)
theorem dL_law_671 : decode cL_law 671 = .ok (.if_icmp .eq 133, 3) := dk_159 0 133 (dk_at dksL_law_25 19 rfl rfl)
theorem dL_law_674 : decode cL_law 674 = .ok (.iconst 0, 1) := dk_3 (dk_at dksL_law_25 22 rfl rfl)
theorem dL_law_675 : decode cL_law 675 = .ok (.ireturn, 1) := dk_172 (dk_at dksL_law_25 23 rfl rfl)
theorem dL_law_676 : decode cL_law 676 = .ok (.aload_n 1, 1) := dk_43 (dk_at dksL_law_26 0 rfl rfl)
theorem dL_law_677 : decode cL_law 677 = .ok (.aload_n 0, 1) := dk_42 (dk_at dksL_law_26 1 rfl rfl)
theorem dL_law_678 : decode cL_law 678 = .ok (.iload_n 3, 1) := dk_29 (dk_at dksL_law_26 2 rfl rfl)
theorem dL_law_679 : decode cL_law 679 = .ok (.iconst 1, 1) := dk_4 (dk_at dksL_law_26 3 rfl rfl)
theorem dL_law_680 : decode cL_law 680 = .ok (.iadd, 1) := dk_96 (dk_at dksL_law_26 4 rfl rfl)
theorem dL_law_681 : decode cL_law 681 = .ok (.iaload, 1) := dk_46 (dk_at dksL_law_26 5 rfl rfl)
theorem dL_law_682 : decode cL_law 682 = .ok (.aload_n 0, 1) := dk_42 (dk_at dksL_law_26 6 rfl rfl)
theorem dL_law_683 : decode cL_law 683 = .ok (.iload_n 3, 1) := dk_29 (dk_at dksL_law_26 7 rfl rfl)
theorem dL_law_684 : decode cL_law 684 = .ok (.iconst 2, 1) := dk_5 (dk_at dksL_law_26 8 rfl rfl)
theorem dL_law_685 : decode cL_law 685 = .ok (.iadd, 1) := dk_96 (dk_at dksL_law_26 9 rfl rfl)
theorem dL_law_686 : decode cL_law 686 = .ok (.iaload, 1) := dk_46 (dk_at dksL_law_26 10 rfl rfl)
theorem dL_law_687 : decode cL_law 687 = .ok (.invokevirtual 84, 3) := dk_182 0 84 (dk_at dksL_law_26 11 rfl rfl)
theorem dL_law_690 : decode cL_law 690 = .ok (.aload_n 2, 1) := dk_44 (dk_at dksL_law_26 14 rfl rfl)
theorem dL_law_691 : decode cL_law 691 = .ok (.aload_n 0, 1) := dk_42 (dk_at dksL_law_26 15 rfl rfl)
theorem dL_law_692 : decode cL_law 692 = .ok (.iload_n 3, 1) := dk_29 (dk_at dksL_law_26 16 rfl rfl)
theorem dL_law_693 : decode cL_law 693 = .ok (.iconst 1, 1) := dk_4 (dk_at dksL_law_26 17 rfl rfl)
theorem dL_law_694 : decode cL_law 694 = .ok (.iadd, 1) := dk_96 (dk_at dksL_law_26 18 rfl rfl)
theorem dL_law_695 : decode cL_law 695 = .ok (.iaload, 1) := dk_46 (dk_at dksL_law_26 19 rfl rfl)
theorem dL_law_696 : decode cL_law 696 = .ok (.aload_n 0, 1) := dk_42 (dk_at dksL_law_26 20 rfl rfl)
theorem dL_law_697 : decode cL_law 697 = .ok (.iload_n 3, 1) := dk_29 (dk_at dksL_law_26 21 rfl rfl)
theorem dL_law_698 : decode cL_law 698 = .ok (.iconst 2, 1) := dk_5 (dk_at dksL_law_26 22 rfl rfl)
theorem dL_law_699 : decode cL_law 699 = .ok (.iadd, 1) := dk_96 (dk_at dksL_law_26 23 rfl rfl)
theorem dL_law_700 : decode cL_law 700 = .ok (.iaload, 1) := dk_46 (dk_at dksL_law_27 0 rfl rfl)
theorem dL_law_701 : decode cL_law 701 = .ok (.invokevirtual 87, 3) := dk_182 0 87 (dk_at dksL_law_27 1 rfl rfl)
theorem dL_law_704 : decode cL_law 704 = .ok (.if_icmp .eq 100, 3) := dk_159 0 100 (dk_at dksL_law_27 4 rfl rfl)
theorem dL_law_707 : decode cL_law 707 = .ok (.iconst 0, 1) := dk_3 (dk_at dksL_law_27 7 rfl rfl)
theorem dL_law_708 : decode cL_law 708 = .ok (.ireturn, 1) := dk_172 (dk_at dksL_law_27 8 rfl rfl)
theorem dL_law_709 : decode cL_law 709 = .ok (.aload_n 1, 1) := dk_43 (dk_at dksL_law_27 9 rfl rfl)
theorem dL_law_710 : decode cL_law 710 = .ok (.aload_n 0, 1) := dk_42 (dk_at dksL_law_27 10 rfl rfl)
theorem dL_law_711 : decode cL_law 711 = .ok (.iload_n 3, 1) := dk_29 (dk_at dksL_law_27 11 rfl rfl)
theorem dL_law_712 : decode cL_law 712 = .ok (.iconst 1, 1) := dk_4 (dk_at dksL_law_27 12 rfl rfl)
theorem dL_law_713 : decode cL_law 713 = .ok (.iadd, 1) := dk_96 (dk_at dksL_law_27 13 rfl rfl)
theorem dL_law_714 : decode cL_law 714 = .ok (.iaload, 1) := dk_46 (dk_at dksL_law_27 14 rfl rfl)
theorem dL_law_715 : decode cL_law 715 = .ok (.aload_n 0, 1) := dk_42 (dk_at dksL_law_27 15 rfl rfl)
theorem dL_law_716 : decode cL_law 716 = .ok (.iload_n 3, 1) := dk_29 (dk_at dksL_law_27 16 rfl rfl)
theorem dL_law_717 : decode cL_law 717 = .ok (.iconst 2, 1) := dk_5 (dk_at dksL_law_27 17 rfl rfl)
theorem dL_law_718 : decode cL_law 718 = .ok (.iadd, 1) := dk_96 (dk_at dksL_law_27 18 rfl rfl)
theorem dL_law_719 : decode cL_law 719 = .ok (.iaload, 1) := dk_46 (dk_at dksL_law_27 19 rfl rfl)
theorem dL_law_720 : decode cL_law 720 = .ok (.invokevirtual 88, 3) := dk_182 0 88 (dk_at dksL_law_27 20 rfl rfl)
theorem dL_law_723 : decode cL_law 723 = .ok (.aload_n 2, 1) := dk_44 (dk_at dksL_law_27 23 rfl rfl)
theorem dL_law_724 : decode cL_law 724 = .ok (.aload_n 0, 1) := dk_42 (dk_at dksL_law_28 0 rfl rfl)
theorem dL_law_725 : decode cL_law 725 = .ok (.iload_n 3, 1) := dk_29 (dk_at dksL_law_28 1 rfl rfl)
theorem dL_law_726 : decode cL_law 726 = .ok (.iconst 1, 1) := dk_4 (dk_at dksL_law_28 2 rfl rfl)
theorem dL_law_727 : decode cL_law 727 = .ok (.iadd, 1) := dk_96 (dk_at dksL_law_28 3 rfl rfl)
theorem dL_law_728 : decode cL_law 728 = .ok (.iaload, 1) := dk_46 (dk_at dksL_law_28 4 rfl rfl)
theorem dL_law_729 : decode cL_law 729 = .ok (.aload_n 0, 1) := dk_42 (dk_at dksL_law_28 5 rfl rfl)
theorem dL_law_730 : decode cL_law 730 = .ok (.iload_n 3, 1) := dk_29 (dk_at dksL_law_28 6 rfl rfl)
theorem dL_law_731 : decode cL_law 731 = .ok (.iconst 2, 1) := dk_5 (dk_at dksL_law_28 7 rfl rfl)
theorem dL_law_732 : decode cL_law 732 = .ok (.iadd, 1) := dk_96 (dk_at dksL_law_28 8 rfl rfl)
theorem dL_law_733 : decode cL_law 733 = .ok (.iaload, 1) := dk_46 (dk_at dksL_law_28 9 rfl rfl)
theorem dL_law_734 : decode cL_law 734 = .ok (.invokevirtual 91, 3) := dk_182 0 91 (dk_at dksL_law_28 10 rfl rfl)
theorem dL_law_737 : decode cL_law 737 = .ok (.if_icmp .eq 67, 3) := dk_159 0 67 (dk_at dksL_law_28 13 rfl rfl)
theorem dL_law_740 : decode cL_law 740 = .ok (.iconst 0, 1) := dk_3 (dk_at dksL_law_28 16 rfl rfl)
theorem dL_law_741 : decode cL_law 741 = .ok (.ireturn, 1) := dk_172 (dk_at dksL_law_28 17 rfl rfl)
theorem dL_law_742 : decode cL_law 742 = .ok (.aload_n 1, 1) := dk_43 (dk_at dksL_law_28 18 rfl rfl)
theorem dL_law_743 : decode cL_law 743 = .ok (.aload_n 0, 1) := dk_42 (dk_at dksL_law_28 19 rfl rfl)
theorem dL_law_744 : decode cL_law 744 = .ok (.iload_n 3, 1) := dk_29 (dk_at dksL_law_28 20 rfl rfl)
theorem dL_law_745 : decode cL_law 745 = .ok (.iconst 1, 1) := dk_4 (dk_at dksL_law_28 21 rfl rfl)
theorem dL_law_746 : decode cL_law 746 = .ok (.iadd, 1) := dk_96 (dk_at dksL_law_28 22 rfl rfl)
theorem dL_law_747 : decode cL_law 747 = .ok (.iaload, 1) := dk_46 (dk_at dksL_law_28 23 rfl rfl)
theorem dL_law_748 : decode cL_law 748 = .ok (.ifCond .eq 7, 3) := dk_153 0 7 (dk_at dksL_law_29 0 rfl rfl)
theorem dL_law_751 : decode cL_law 751 = .ok (.iconst 1, 1) := dk_4 (dk_at dksL_law_29 3 rfl rfl)
theorem dL_law_752 : decode cL_law 752 = .ok (.goto 4, 3) := dk_167 0 4 (dk_at dksL_law_29 4 rfl rfl)
theorem dL_law_755 : decode cL_law 755 = .ok (.iconst 0, 1) := dk_3 (dk_at dksL_law_29 7 rfl rfl)
theorem dL_law_756 : decode cL_law 756 = .ok (.invokevirtual 92, 3) := dk_182 0 92 (dk_at dksL_law_29 8 rfl rfl)
theorem dL_law_759 : decode cL_law 759 = .ok (.aload_n 2, 1) := dk_44 (dk_at dksL_law_29 11 rfl rfl)
theorem dL_law_760 : decode cL_law 760 = .ok (.aload_n 0, 1) := dk_42 (dk_at dksL_law_29 12 rfl rfl)
theorem dL_law_761 : decode cL_law 761 = .ok (.iload_n 3, 1) := dk_29 (dk_at dksL_law_29 13 rfl rfl)
theorem dL_law_762 : decode cL_law 762 = .ok (.iconst 1, 1) := dk_4 (dk_at dksL_law_29 14 rfl rfl)
theorem dL_law_763 : decode cL_law 763 = .ok (.iadd, 1) := dk_96 (dk_at dksL_law_29 15 rfl rfl)
theorem dL_law_764 : decode cL_law 764 = .ok (.iaload, 1) := dk_46 (dk_at dksL_law_29 16 rfl rfl)
theorem dL_law_765 : decode cL_law 765 = .ok (.ifCond .eq 7, 3) := dk_153 0 7 (dk_at dksL_law_29 17 rfl rfl)
theorem dL_law_768 : decode cL_law 768 = .ok (.iconst 1, 1) := dk_4 (dk_at dksL_law_29 20 rfl rfl)
theorem dL_law_769 : decode cL_law 769 = .ok (.goto 4, 3) := dk_167 0 4 (dk_at dksL_law_29 21 rfl rfl)
theorem dL_law_772 : decode cL_law 772 = .ok (.iconst 0, 1) := dk_3 (dk_at dksL_law_30 0 rfl rfl)
theorem dL_law_773 : decode cL_law 773 = .ok (.invokevirtual 96, 3) := dk_182 0 96 (dk_at dksL_law_30 1 rfl rfl)
theorem dL_law_776 : decode cL_law 776 = .ok (.if_icmp .eq 28, 3) := dk_159 0 28 (dk_at dksL_law_30 4 rfl rfl)
theorem dL_law_779 : decode cL_law 779 = .ok (.iconst 0, 1) := dk_3 (dk_at dksL_law_30 7 rfl rfl)
theorem dL_law_780 : decode cL_law 780 = .ok (.ireturn, 1) := dk_172 (dk_at dksL_law_30 8 rfl rfl)
theorem dL_law_781 : decode cL_law 781 = .ok (.aload_n 1, 1) := dk_43 (dk_at dksL_law_30 9 rfl rfl)
theorem dL_law_782 : decode cL_law 782 = .ok (.aload_n 0, 1) := dk_42 (dk_at dksL_law_30 10 rfl rfl)
theorem dL_law_783 : decode cL_law 783 = .ok (.iload_n 3, 1) := dk_29 (dk_at dksL_law_30 11 rfl rfl)
theorem dL_law_784 : decode cL_law 784 = .ok (.iconst 1, 1) := dk_4 (dk_at dksL_law_30 12 rfl rfl)
theorem dL_law_785 : decode cL_law 785 = .ok (.iadd, 1) := dk_96 (dk_at dksL_law_30 13 rfl rfl)
theorem dL_law_786 : decode cL_law 786 = .ok (.iaload, 1) := dk_46 (dk_at dksL_law_30 14 rfl rfl)
theorem dL_law_787 : decode cL_law 787 = .ok (.invokevirtual 97, 3) := dk_182 0 97 (dk_at dksL_law_30 15 rfl rfl)
theorem dL_law_790 : decode cL_law 790 = .ok (.aload_n 2, 1) := dk_44 (dk_at dksL_law_30 18 rfl rfl)
theorem dL_law_791 : decode cL_law 791 = .ok (.aload_n 0, 1) := dk_42 (dk_at dksL_law_30 19 rfl rfl)
theorem dL_law_792 : decode cL_law 792 = .ok (.iload_n 3, 1) := dk_29 (dk_at dksL_law_30 20 rfl rfl)
theorem dL_law_793 : decode cL_law 793 = .ok (.iconst 1, 1) := dk_4 (dk_at dksL_law_30 21 rfl rfl)
theorem dL_law_794 : decode cL_law 794 = .ok (.iadd, 1) := dk_96 (dk_at dksL_law_30 22 rfl rfl)
theorem dL_law_795 : decode cL_law 795 = .ok (.iaload, 1) := dk_46 (dk_at dksL_law_30 23 rfl rfl)
theorem dL_law_796 : decode cL_law 796 = .ok (.invokevirtual 100, 3) := dk_182 0 100 (dk_at dksL_law_31 0 rfl rfl)
theorem dL_law_799 : decode cL_law 799 = .ok (.if_icmp .eq 5, 3) := dk_159 0 5 (dk_at dksL_law_31 3 rfl rfl)
theorem dL_law_802 : decode cL_law 802 = .ok (.iconst 0, 1) := dk_3 (dk_at dksL_law_31 6 rfl rfl)
theorem dL_law_803 : decode cL_law 803 = .ok (.ireturn, 1) := dk_172 (dk_at dksL_law_31 7 rfl rfl)
theorem dL_law_804 : decode cL_law 804 = .ok (.iinc 3 6, 3) := dk_132 3 6 (dk_at dksL_law_31 8 rfl rfl)
theorem dL_law_807 : decode cL_law 807 = .ok (.goto (-789), 3) := dk_167 252 235 (dk_at dksL_law_31 11 rfl rfl)
theorem dL_law_810 : decode cL_law 810 = .ok (.iconst 1, 1) := dk_4 (dk_at dksL_law_31 14 rfl rfl)
theorem dL_law_811 : decode cL_law 811 = .ok (.ireturn, 1) := dk_172 (dk_at dksL_law_31 15 rfl rfl)
